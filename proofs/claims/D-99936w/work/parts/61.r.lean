set_option maxRecDepth 100000
section
theorem cn_1 (c : Nat) : (c = c + 1) = False := eq_false (by omega)
theorem cm_1 (c : Nat) : (c + 1 = c) = False := eq_false (by omega)
theorem cn_2 (c : Nat) : (c = c + 2) = False := eq_false (by omega)
theorem cm_2 (c : Nat) : (c + 2 = c) = False := eq_false (by omega)
theorem cn_3 (c : Nat) : (c = c + 3) = False := eq_false (by omega)
theorem cm_3 (c : Nat) : (c + 3 = c) = False := eq_false (by omega)
theorem cn_4 (c : Nat) : (c = c + 4) = False := eq_false (by omega)
theorem cm_4 (c : Nat) : (c + 4 = c) = False := eq_false (by omega)
theorem cn_5 (c : Nat) : (c = c + 5) = False := eq_false (by omega)
theorem cm_5 (c : Nat) : (c + 5 = c) = False := eq_false (by omega)
theorem cn_6 (c : Nat) : (c = c + 6) = False := eq_false (by omega)
theorem cm_6 (c : Nat) : (c + 6 = c) = False := eq_false (by omega)
theorem mI_sI (M : Mem) (a k : Nat) (v : Int32) (x y : Nat) : mI (sI M a k v) x y = if x = a ∧ y = k then v else mI M x y := rfl
theorem mL_sI (M : Mem) (a k : Nat) (v : Int32) : mL (sI M a k v) = mL M := rfl
theorem mR_sI (M : Mem) (a k : Nat) (v : Int32) : mR (sI M a k v) = mR M := rfl
theorem mT_sI (M : Mem) (a k : Nat) (v : Int32) : mT (sI M a k v) = mT M := rfl
theorem mLn_sI (M : Mem) (a k : Nat) (v : Int32) : mLn (sI M a k v) = mLn M := rfl
theorem mN_sI (M : Mem) (a k : Nat) (v : Int32) : mN (sI M a k v) = mN M := rfl
theorem mL_sL (M : Mem) (a k : Nat) (v : Int64) (x y : Nat) : mL (sL M a k v) x y = if x = a ∧ y = k then v else mL M x y := rfl
theorem mI_sL (M : Mem) (a k : Nat) (v : Int64) : mI (sL M a k v) = mI M := rfl
theorem mR_sL (M : Mem) (a k : Nat) (v : Int64) : mR (sL M a k v) = mR M := rfl
theorem mT_sL (M : Mem) (a k : Nat) (v : Int64) : mT (sL M a k v) = mT M := rfl
theorem mLn_sL (M : Mem) (a k : Nat) (v : Int64) : mLn (sL M a k v) = mLn M := rfl
theorem mN_sL (M : Mem) (a k : Nat) (v : Int64) : mN (sL M a k v) = mN M := rfl
theorem mR_sR (M : Mem) (a k : Nat) (v : Option Nat) (x y : Nat) : mR (sR M a k v) x y = if x = a ∧ y = k then v else mR M x y := rfl
theorem mI_sR (M : Mem) (a k : Nat) (v : Option Nat) : mI (sR M a k v) = mI M := rfl
theorem mL_sR (M : Mem) (a k : Nat) (v : Option Nat) : mL (sR M a k v) = mL M := rfl
theorem mT_sR (M : Mem) (a k : Nat) (v : Option Nat) : mT (sR M a k v) = mT M := rfl
theorem mLn_sR (M : Mem) (a k : Nat) (v : Option Nat) : mLn (sR M a k v) = mLn M := rfl
theorem mN_sR (M : Mem) (a k : Nat) (v : Option Nat) : mN (sR M a k v) = mN M := rfl
theorem tI_tsI (S : TS) (j k : Nat) (v : Int32) (x y : Nat) : tI (tsI S j k v) x y = if x = j ∧ y = k then v else tI S x y := rfl
theorem tL_tsI (S : TS) (j k : Nat) (v : Int32) : tL (tsI S j k v) = tL S := rfl
theorem tI_tsL (S : TS) (j k : Nat) (v : Int64) : tI (tsL S j k v) = tI S := rfl
theorem tL_tsL (S : TS) (j k : Nat) (v : Int64) (x y : Nat) : tL (tsL S j k v) x y = if x = j ∧ y = k then v else tL S x y := rfl
/-! addresses -/
def elA (M : Mem) (l : Nat) : Nat := (mR M l 1).getD 0
def itA (M : Mem) (l k : Nat) : Nat := (mR M (elA M l) k).getD 0
def tlA (M : Mem) (g : Nat) : Nat := (mR M g 0).getD 0
def hlA (M : Mem) (g : Nat) : Nat := (mR M g 1).getD 0
def plA (M : Mem) (g : Nat) : Nat := (mR M g 2).getD 0
def wlA (M : Mem) (g : Nat) : Nat := (mR M g 3).getD 0
def trA (M : Mem) (g t : Nat) : Nat := itA M (tlA M g) t
def hsA (M : Mem) (g h : Nat) : Nat := itA M (hlA M g) h
def lpA (M : Mem) (g k : Nat) : Nat := itA M (plA M g) k
def In (x : Int32) (lo hi : Int) : Prop := lo ≤ x.toInt ∧ x.toInt ≤ hi
def LsS (M : Mem) (l n kk cap : Nat) : Prop := (mT M l = 3) ∧ (mI M l 2 = Int32.ofNat n) ∧ (mR M l 1 = some (elA M l)) ∧ (mT M (elA M l) = 104) ∧ (mLn M (elA M l) = cap) ∧ (n ≤ cap) ∧ (∀ k, k < n → mR M (elA M l) k = some (itA M l k)) ∧ (∀ k, k < n → mT M (itA M l k) = kk)
theorem LsS.k {M : Mem} {l n kk cap : Nat} (h : LsS M l n kk cap) : mT M l = 3 := h.1
theorem LsS.n {M : Mem} {l n kk cap : Nat} (h : LsS M l n kk cap) : mI M l 2 = Int32.ofNat n := h.2.1
theorem LsS.r {M : Mem} {l n kk cap : Nat} (h : LsS M l n kk cap) : mR M l 1 = some (elA M l) := h.2.2.1
theorem LsS.e {M : Mem} {l n kk cap : Nat} (h : LsS M l n kk cap) : mT M (elA M l) = 104 := h.2.2.2.1
theorem LsS.ln {M : Mem} {l n kk cap : Nat} (h : LsS M l n kk cap) : mLn M (elA M l) = cap := h.2.2.2.2.1
theorem LsS.le {M : Mem} {l n kk cap : Nat} (h : LsS M l n kk cap) : n ≤ cap := h.2.2.2.2.2.1
theorem LsS.it {M : Mem} {l n kk cap : Nat} (h : LsS M l n kk cap) : ∀ k, k < n → mR M (elA M l) k = some (itA M l k) := h.2.2.2.2.2.2.1
theorem LsS.ik {M : Mem} {l n kk cap : Nat} (h : LsS M l n kk cap) : ∀ k, k < n → mT M (itA M l k) = kk := h.2.2.2.2.2.2.2
/-- a tree of a law, its knots in the twin from lo to hi -/
def Tr (M : Mem) (S : TS) (q : Nat) : Nat → Nat → Nat → Nat → Prop
  | 0, _, _, _ => False
  | d + 1, p, lo, hi => hi ≤ 64 ∧
    ((mT M p = 10 ∧ hi = lo + 1 ∧ tI S 20 (q + lo) = 0 ∧ tI S 21 (q + lo) = mI M p 0) ∨
     (mT M p = 11 ∧ hi = lo + 1 ∧ tI S 20 (q + lo) = 1 ∧ tI S 21 (q + lo) = mI M p 0 ∧ ∃ w, w < 7 ∧ mI M p 0 = Int32.ofNat w) ∨
     (mT M p = 12 ∧ ∃ a m, mR M p 0 = some a ∧ hi = m + 1 ∧ lo < m ∧ Tr M S q d a lo m ∧ tI S 20 (q + m) = 2 ∧ tI S 21 (q + m) = Int32.ofNat (m - 1)) ∨
     (mT M p = 13 ∧ ∃ a b m n w, mR M p 0 = some a ∧ mR M p 2 = some b ∧ hi = n + 1 ∧ lo < m ∧ m < n ∧ Tr M S q d a lo m ∧ Tr M S q d b m n ∧
       tI S 20 (q + n) = w ∧ tI S 21 (q + n) = Int32.ofNat (m - 1) ∧ tI S 22 (q + n) = Int32.ofNat (n - 1) ∧ 
       ((mI M p 1 = 43 ∧ w = 11) ∨ (mI M p 1 = 45 ∧ w = 12) ∨ (mI M p 1 = 42 ∧ w = 13) ∨ (mI M p 1 = 47 ∧ w = 14) ∨ (mI M p 1 = 60 ∧ w = 5) ∨ (mI M p 1 = 62 ∧ w = 10) ∨ (mI M p 1 = 61 ∧ w = 7) ∨ (mI M p 1 = 256 ∧ w = 6) ∨ (mI M p 1 = 257 ∧ w = 9) ∨ (mI M p 1 = 258 ∧ w = 8) ∨ (mI M p 1 = 11 ∧ w = 3) ∨ (mI M p 1 = 10 ∧ w = 4))))
/-- a road and the twin's rows (u = 0: kept, u = 1: read) -/
def RdR (M : Mem) (g : Nat) (S : TS) (u nT nH nL : Nat) : Prop := (mT M g = 2) ∧ (nT ≤ 6) ∧ (nH ≤ 6) ∧ (nL ≤ 12) ∧ (mR M g 0 = some (tlA M g)) ∧ (mR M g 1 = some (hlA M g)) ∧ (mR M g 2 = some (plA M g)) ∧ (mR M g 3 = some (wlA M g)) ∧ (LsS M (tlA M g) nT 7 6) ∧ (LsS M (hlA M g) nH 8 6) ∧ (LsS M (plA M g) nL 9 12) ∧ (mT M (wlA M g) = 105) ∧ (mLn M (wlA M g) = 3) ∧ (tI S 0 (12 + 5 * u) = Int32.ofNat nT) ∧ (tI S 0 (13 + 5 * u) = Int32.ofNat nH) ∧ (tI S 0 (14 + 5 * u) = Int32.ofNat nL) ∧ (mI M g 4 = tI S 0 (15 + 5 * u)) ∧ (mI M g 5 = tI S 4 (2 * u)) ∧ (mI M g 6 = tI S 4 (2 * u + 1)) ∧ (In (mI M g 4) 2 60) ∧ (In (mI M g 5) 0 100) ∧ (In (mI M g 6) 0 99999) ∧ (∀ t, t < nT → mI M (trA M g t) 0 = tI S 6 (6 * u + t)) ∧ (∀ t, t < nT → mI M (trA M g t) 1 = tI S 5 (6 * u + t)) ∧ (∀ t, t < nT → mI M (trA M g t) 2 = tI S 7 (6 * u + t)) ∧ (∀ t, t < nT → mI M (trA M g t) 3 = tI S 8 (6 * u + t)) ∧ (∀ t, t < nT → In (tI S 6 (6 * u + t)) 0 60) ∧ (∀ t, t < nT → In (tI S 7 (6 * u + t)) 0 99) ∧ (∀ t, t < nT → In (tI S 8 (6 * u + t)) 0 9) ∧ (∀ h, h < nH → mI M (hsA M g h) 0 = tI S 11 (6 * u + h)) ∧ (∀ h, h < nH → mI M (hsA M g h) 1 = tI S 9 (6 * u + h)) ∧ (∀ h, h < nH → mI M (hsA M g h) 2 = tI S 10 (6 * u + h)) ∧ (∀ h, h < nH → mI M (hsA M g h) 3 = tI S 12 (6 * u + h)) ∧ (∀ h, h < nH → mI M (hsA M g h) 4 = tI S 13 (6 * u + h)) ∧ (∀ h, h < nH → In (tI S 11 (6 * u + h)) 0 60) ∧ (∀ h, h < nH → In (tI S 10 (6 * u + h)) 0 3) ∧ (∀ h, h < nH → In (tI S 12 (6 * u + h)) 0 99) ∧ (∀ h, h < nH → In (tI S 13 (6 * u + h)) 1 9) ∧ (∀ k, k < nL → mI M (lpA M g k) 0 = tI S 14 (12 * u + k)) ∧ (∀ k, k < nL → mI M (lpA M g k) 1 = tI S 15 (12 * u + k)) ∧ (∀ k, k < nL → mI M (lpA M g k) 2 = tI S 16 (12 * u + k)) ∧ (∀ k, k < nL → ∃ h, h < nH ∧ tI S 14 (12 * u + k) = Int32.ofNat h) ∧ (∀ k, k < nL → ∃ t, t < nT ∧ tI S 15 (12 * u + k) = Int32.ofNat t) ∧ (∀ k, k < 3 → (mR M (wlA M g) k = none ∧ tI S 17 (3 * u + k) = 0) ∨ (∃ p lo hi, mR M (wlA M g) k = some p ∧ tI S 17 (3 * u + k) = 1 ∧ tI S 18 (3 * u + k) = Int32.ofNat lo ∧ tI S 19 (3 * u + k) = Int32.ofNat hi ∧ lo < hi ∧ Tr M S (64 * u) 66 p lo hi))
theorem RdR.k {M : Mem} {g : Nat} {S : TS} {u nT nH nL : Nat} (h : RdR M g S u nT nH nL) : mT M g = 2 := h.1
theorem RdR.nt {M : Mem} {g : Nat} {S : TS} {u nT nH nL : Nat} (h : RdR M g S u nT nH nL) : nT ≤ 6 := h.2.1
theorem RdR.nh {M : Mem} {g : Nat} {S : TS} {u nT nH nL : Nat} (h : RdR M g S u nT nH nL) : nH ≤ 6 := h.2.2.1
theorem RdR.nl {M : Mem} {g : Nat} {S : TS} {u nT nH nL : Nat} (h : RdR M g S u nT nH nL) : nL ≤ 12 := h.2.2.2.1
theorem RdR.r0 {M : Mem} {g : Nat} {S : TS} {u nT nH nL : Nat} (h : RdR M g S u nT nH nL) : mR M g 0 = some (tlA M g) := h.2.2.2.2.1
theorem RdR.r1 {M : Mem} {g : Nat} {S : TS} {u nT nH nL : Nat} (h : RdR M g S u nT nH nL) : mR M g 1 = some (hlA M g) := h.2.2.2.2.2.1
theorem RdR.r2 {M : Mem} {g : Nat} {S : TS} {u nT nH nL : Nat} (h : RdR M g S u nT nH nL) : mR M g 2 = some (plA M g) := h.2.2.2.2.2.2.1
theorem RdR.r3 {M : Mem} {g : Nat} {S : TS} {u nT nH nL : Nat} (h : RdR M g S u nT nH nL) : mR M g 3 = some (wlA M g) := h.2.2.2.2.2.2.2.1
theorem RdR.tl {M : Mem} {g : Nat} {S : TS} {u nT nH nL : Nat} (h : RdR M g S u nT nH nL) : LsS M (tlA M g) nT 7 6 := h.2.2.2.2.2.2.2.2.1
theorem RdR.hl {M : Mem} {g : Nat} {S : TS} {u nT nH nL : Nat} (h : RdR M g S u nT nH nL) : LsS M (hlA M g) nH 8 6 := h.2.2.2.2.2.2.2.2.2.1
theorem RdR.pl {M : Mem} {g : Nat} {S : TS} {u nT nH nL : Nat} (h : RdR M g S u nT nH nL) : LsS M (plA M g) nL 9 12 := h.2.2.2.2.2.2.2.2.2.2.1
theorem RdR.wk {M : Mem} {g : Nat} {S : TS} {u nT nH nL : Nat} (h : RdR M g S u nT nH nL) : mT M (wlA M g) = 105 := h.2.2.2.2.2.2.2.2.2.2.2.1
theorem RdR.wn {M : Mem} {g : Nat} {S : TS} {u nT nH nL : Nat} (h : RdR M g S u nT nH nL) : mLn M (wlA M g) = 3 := h.2.2.2.2.2.2.2.2.2.2.2.2.1
theorem RdR.cT {M : Mem} {g : Nat} {S : TS} {u nT nH nL : Nat} (h : RdR M g S u nT nH nL) : tI S 0 (12 + 5 * u) = Int32.ofNat nT := h.2.2.2.2.2.2.2.2.2.2.2.2.2.1
theorem RdR.cH {M : Mem} {g : Nat} {S : TS} {u nT nH nL : Nat} (h : RdR M g S u nT nH nL) : tI S 0 (13 + 5 * u) = Int32.ofNat nH := h.2.2.2.2.2.2.2.2.2.2.2.2.2.2.1
theorem RdR.cL {M : Mem} {g : Nat} {S : TS} {u nT nH nL : Nat} (h : RdR M g S u nT nH nL) : tI S 0 (14 + 5 * u) = Int32.ofNat nL := h.2.2.2.2.2.2.2.2.2.2.2.2.2.2.2.1
theorem RdR.len {M : Mem} {g : Nat} {S : TS} {u nT nH nL : Nat} (h : RdR M g S u nT nH nL) : mI M g 4 = tI S 0 (15 + 5 * u) := h.2.2.2.2.2.2.2.2.2.2.2.2.2.2.2.2.1
theorem RdR.rain {M : Mem} {g : Nat} {S : TS} {u nT nH nL : Nat} (h : RdR M g S u nT nH nL) : mI M g 5 = tI S 4 (2 * u) := h.2.2.2.2.2.2.2.2.2.2.2.2.2.2.2.2.2.1
theorem RdR.seed {M : Mem} {g : Nat} {S : TS} {u nT nH nL : Nat} (h : RdR M g S u nT nH nL) : mI M g 6 = tI S 4 (2 * u + 1) := h.2.2.2.2.2.2.2.2.2.2.2.2.2.2.2.2.2.2.1
theorem RdR.lenB {M : Mem} {g : Nat} {S : TS} {u nT nH nL : Nat} (h : RdR M g S u nT nH nL) : In (mI M g 4) 2 60 := h.2.2.2.2.2.2.2.2.2.2.2.2.2.2.2.2.2.2.2.1
theorem RdR.rainB {M : Mem} {g : Nat} {S : TS} {u nT nH nL : Nat} (h : RdR M g S u nT nH nL) : In (mI M g 5) 0 100 := h.2.2.2.2.2.2.2.2.2.2.2.2.2.2.2.2.2.2.2.2.1
theorem RdR.seedB {M : Mem} {g : Nat} {S : TS} {u nT nH nL : Nat} (h : RdR M g S u nT nH nL) : In (mI M g 6) 0 99999 := h.2.2.2.2.2.2.2.2.2.2.2.2.2.2.2.2.2.2.2.2.2.1
theorem RdR.tP {M : Mem} {g : Nat} {S : TS} {u nT nH nL : Nat} (h : RdR M g S u nT nH nL) : ∀ t, t < nT → mI M (trA M g t) 0 = tI S 6 (6 * u + t) := h.2.2.2.2.2.2.2.2.2.2.2.2.2.2.2.2.2.2.2.2.2.2.1
theorem RdR.tN {M : Mem} {g : Nat} {S : TS} {u nT nH nL : Nat} (h : RdR M g S u nT nH nL) : ∀ t, t < nT → mI M (trA M g t) 1 = tI S 5 (6 * u + t) := h.2.2.2.2.2.2.2.2.2.2.2.2.2.2.2.2.2.2.2.2.2.2.2.1
theorem RdR.tW {M : Mem} {g : Nat} {S : TS} {u nT nH nL : Nat} (h : RdR M g S u nT nH nL) : ∀ t, t < nT → mI M (trA M g t) 2 = tI S 7 (6 * u + t) := h.2.2.2.2.2.2.2.2.2.2.2.2.2.2.2.2.2.2.2.2.2.2.2.2.1
theorem RdR.tF {M : Mem} {g : Nat} {S : TS} {u nT nH nL : Nat} (h : RdR M g S u nT nH nL) : ∀ t, t < nT → mI M (trA M g t) 3 = tI S 8 (6 * u + t) := h.2.2.2.2.2.2.2.2.2.2.2.2.2.2.2.2.2.2.2.2.2.2.2.2.2.1
theorem RdR.tPB {M : Mem} {g : Nat} {S : TS} {u nT nH nL : Nat} (h : RdR M g S u nT nH nL) : ∀ t, t < nT → In (tI S 6 (6 * u + t)) 0 60 := h.2.2.2.2.2.2.2.2.2.2.2.2.2.2.2.2.2.2.2.2.2.2.2.2.2.2.1
theorem RdR.tWB {M : Mem} {g : Nat} {S : TS} {u nT nH nL : Nat} (h : RdR M g S u nT nH nL) : ∀ t, t < nT → In (tI S 7 (6 * u + t)) 0 99 := h.2.2.2.2.2.2.2.2.2.2.2.2.2.2.2.2.2.2.2.2.2.2.2.2.2.2.2.1
theorem RdR.tFB {M : Mem} {g : Nat} {S : TS} {u nT nH nL : Nat} (h : RdR M g S u nT nH nL) : ∀ t, t < nT → In (tI S 8 (6 * u + t)) 0 9 := h.2.2.2.2.2.2.2.2.2.2.2.2.2.2.2.2.2.2.2.2.2.2.2.2.2.2.2.2.1
theorem RdR.hP {M : Mem} {g : Nat} {S : TS} {u nT nH nL : Nat} (h : RdR M g S u nT nH nL) : ∀ h, h < nH → mI M (hsA M g h) 0 = tI S 11 (6 * u + h) := h.2.2.2.2.2.2.2.2.2.2.2.2.2.2.2.2.2.2.2.2.2.2.2.2.2.2.2.2.2.1
theorem RdR.hN {M : Mem} {g : Nat} {S : TS} {u nT nH nL : Nat} (h : RdR M g S u nT nH nL) : ∀ h, h < nH → mI M (hsA M g h) 1 = tI S 9 (6 * u + h) := h.2.2.2.2.2.2.2.2.2.2.2.2.2.2.2.2.2.2.2.2.2.2.2.2.2.2.2.2.2.2.1
theorem RdR.hS {M : Mem} {g : Nat} {S : TS} {u nT nH nL : Nat} (h : RdR M g S u nT nH nL) : ∀ h, h < nH → mI M (hsA M g h) 2 = tI S 10 (6 * u + h) := h.2.2.2.2.2.2.2.2.2.2.2.2.2.2.2.2.2.2.2.2.2.2.2.2.2.2.2.2.2.2.2.1
theorem RdR.hT {M : Mem} {g : Nat} {S : TS} {u nT nH nL : Nat} (h : RdR M g S u nT nH nL) : ∀ h, h < nH → mI M (hsA M g h) 3 = tI S 12 (6 * u + h) := h.2.2.2.2.2.2.2.2.2.2.2.2.2.2.2.2.2.2.2.2.2.2.2.2.2.2.2.2.2.2.2.2.1
theorem RdR.hC {M : Mem} {g : Nat} {S : TS} {u nT nH nL : Nat} (h : RdR M g S u nT nH nL) : ∀ h, h < nH → mI M (hsA M g h) 4 = tI S 13 (6 * u + h) := h.2.2.2.2.2.2.2.2.2.2.2.2.2.2.2.2.2.2.2.2.2.2.2.2.2.2.2.2.2.2.2.2.2.1
theorem RdR.hPB {M : Mem} {g : Nat} {S : TS} {u nT nH nL : Nat} (h : RdR M g S u nT nH nL) : ∀ h, h < nH → In (tI S 11 (6 * u + h)) 0 60 := h.2.2.2.2.2.2.2.2.2.2.2.2.2.2.2.2.2.2.2.2.2.2.2.2.2.2.2.2.2.2.2.2.2.2.1
theorem RdR.hSB {M : Mem} {g : Nat} {S : TS} {u nT nH nL : Nat} (h : RdR M g S u nT nH nL) : ∀ h, h < nH → In (tI S 10 (6 * u + h)) 0 3 := h.2.2.2.2.2.2.2.2.2.2.2.2.2.2.2.2.2.2.2.2.2.2.2.2.2.2.2.2.2.2.2.2.2.2.2.1
theorem RdR.hTB {M : Mem} {g : Nat} {S : TS} {u nT nH nL : Nat} (h : RdR M g S u nT nH nL) : ∀ h, h < nH → In (tI S 12 (6 * u + h)) 0 99 := h.2.2.2.2.2.2.2.2.2.2.2.2.2.2.2.2.2.2.2.2.2.2.2.2.2.2.2.2.2.2.2.2.2.2.2.2.1
theorem RdR.hCB {M : Mem} {g : Nat} {S : TS} {u nT nH nL : Nat} (h : RdR M g S u nT nH nL) : ∀ h, h < nH → In (tI S 13 (6 * u + h)) 1 9 := h.2.2.2.2.2.2.2.2.2.2.2.2.2.2.2.2.2.2.2.2.2.2.2.2.2.2.2.2.2.2.2.2.2.2.2.2.2.1
theorem RdR.lH {M : Mem} {g : Nat} {S : TS} {u nT nH nL : Nat} (h : RdR M g S u nT nH nL) : ∀ k, k < nL → mI M (lpA M g k) 0 = tI S 14 (12 * u + k) := h.2.2.2.2.2.2.2.2.2.2.2.2.2.2.2.2.2.2.2.2.2.2.2.2.2.2.2.2.2.2.2.2.2.2.2.2.2.2.1
theorem RdR.lT {M : Mem} {g : Nat} {S : TS} {u nT nH nL : Nat} (h : RdR M g S u nT nH nL) : ∀ k, k < nL → mI M (lpA M g k) 1 = tI S 15 (12 * u + k) := h.2.2.2.2.2.2.2.2.2.2.2.2.2.2.2.2.2.2.2.2.2.2.2.2.2.2.2.2.2.2.2.2.2.2.2.2.2.2.2.1
theorem RdR.lO {M : Mem} {g : Nat} {S : TS} {u nT nH nL : Nat} (h : RdR M g S u nT nH nL) : ∀ k, k < nL → mI M (lpA M g k) 2 = tI S 16 (12 * u + k) := h.2.2.2.2.2.2.2.2.2.2.2.2.2.2.2.2.2.2.2.2.2.2.2.2.2.2.2.2.2.2.2.2.2.2.2.2.2.2.2.2.1
theorem RdR.lHB {M : Mem} {g : Nat} {S : TS} {u nT nH nL : Nat} (h : RdR M g S u nT nH nL) : ∀ k, k < nL → ∃ h, h < nH ∧ tI S 14 (12 * u + k) = Int32.ofNat h := h.2.2.2.2.2.2.2.2.2.2.2.2.2.2.2.2.2.2.2.2.2.2.2.2.2.2.2.2.2.2.2.2.2.2.2.2.2.2.2.2.2.1
theorem RdR.lTB {M : Mem} {g : Nat} {S : TS} {u nT nH nL : Nat} (h : RdR M g S u nT nH nL) : ∀ k, k < nL → ∃ t, t < nT ∧ tI S 15 (12 * u + k) = Int32.ofNat t := h.2.2.2.2.2.2.2.2.2.2.2.2.2.2.2.2.2.2.2.2.2.2.2.2.2.2.2.2.2.2.2.2.2.2.2.2.2.2.2.2.2.2.1
theorem RdR.law {M : Mem} {g : Nat} {S : TS} {u nT nH nL : Nat} (h : RdR M g S u nT nH nL) : ∀ k, k < 3 → (mR M (wlA M g) k = none ∧ tI S 17 (3 * u + k) = 0) ∨ (∃ p lo hi, mR M (wlA M g) k = some p ∧ tI S 17 (3 * u + k) = 1 ∧ tI S 18 (3 * u + k) = Int32.ofNat lo ∧ tI S 19 (3 * u + k) = Int32.ofNat hi ∧ lo < hi ∧ Tr M S (64 * u) 66 p lo hi) := h.2.2.2.2.2.2.2.2.2.2.2.2.2.2.2.2.2.2.2.2.2.2.2.2.2.2.2.2.2.2.2.2.2.2.2.2.2.2.2.2.2.2.2
/-- a state's shape -/
def StS (M : Mem) (c : Nat) : Prop := (mT M c = 5) ∧ (mR M c 0 = some (c + 1)) ∧ (mR M c 1 = some (c + 2)) ∧ (mR M c 2 = some (c + 3)) ∧ (mR M c 3 = some (c + 4)) ∧ (mR M c 4 = some (c + 5)) ∧ (mR M c 5 = some (c + 6)) ∧ (mR M c 17 = some 0) ∧ (mT M (c + 1) = 100) ∧ (mT M (c + 2) = 100) ∧ (mT M (c + 3) = 100) ∧ (mT M (c + 4) = 100) ∧ (mT M (c + 5) = 100) ∧ (mT M (c + 6) = 100) ∧ (mLn M (c + 1) = 6) ∧ (mLn M (c + 2) = 6) ∧ (mLn M (c + 3) = 6) ∧ (mLn M (c + 4) = 6) ∧ (mLn M (c + 5) = 6) ∧ (mLn M (c + 6) = 6)
theorem StS.k {M : Mem} {c : Nat} (h : StS M c) : mT M c = 5 := h.1
theorem StS.r0 {M : Mem} {c : Nat} (h : StS M c) : mR M c 0 = some (c + 1) := h.2.1
theorem StS.r1 {M : Mem} {c : Nat} (h : StS M c) : mR M c 1 = some (c + 2) := h.2.2.1
theorem StS.r2 {M : Mem} {c : Nat} (h : StS M c) : mR M c 2 = some (c + 3) := h.2.2.2.1
theorem StS.r3 {M : Mem} {c : Nat} (h : StS M c) : mR M c 3 = some (c + 4) := h.2.2.2.2.1
theorem StS.r4 {M : Mem} {c : Nat} (h : StS M c) : mR M c 4 = some (c + 5) := h.2.2.2.2.2.1
theorem StS.r5 {M : Mem} {c : Nat} (h : StS M c) : mR M c 5 = some (c + 6) := h.2.2.2.2.2.2.1
theorem StS.rt {M : Mem} {c : Nat} (h : StS M c) : mR M c 17 = some 0 := h.2.2.2.2.2.2.2.1
theorem StS.k1 {M : Mem} {c : Nat} (h : StS M c) : mT M (c + 1) = 100 := h.2.2.2.2.2.2.2.2.1
theorem StS.k2 {M : Mem} {c : Nat} (h : StS M c) : mT M (c + 2) = 100 := h.2.2.2.2.2.2.2.2.2.1
theorem StS.k3 {M : Mem} {c : Nat} (h : StS M c) : mT M (c + 3) = 100 := h.2.2.2.2.2.2.2.2.2.2.1
theorem StS.k4 {M : Mem} {c : Nat} (h : StS M c) : mT M (c + 4) = 100 := h.2.2.2.2.2.2.2.2.2.2.2.1
theorem StS.k5 {M : Mem} {c : Nat} (h : StS M c) : mT M (c + 5) = 100 := h.2.2.2.2.2.2.2.2.2.2.2.2.1
theorem StS.k6 {M : Mem} {c : Nat} (h : StS M c) : mT M (c + 6) = 100 := h.2.2.2.2.2.2.2.2.2.2.2.2.2.1
theorem StS.n1 {M : Mem} {c : Nat} (h : StS M c) : mLn M (c + 1) = 6 := h.2.2.2.2.2.2.2.2.2.2.2.2.2.2.1
theorem StS.n2 {M : Mem} {c : Nat} (h : StS M c) : mLn M (c + 2) = 6 := h.2.2.2.2.2.2.2.2.2.2.2.2.2.2.2.1
theorem StS.n3 {M : Mem} {c : Nat} (h : StS M c) : mLn M (c + 3) = 6 := h.2.2.2.2.2.2.2.2.2.2.2.2.2.2.2.2.1
theorem StS.n4 {M : Mem} {c : Nat} (h : StS M c) : mLn M (c + 4) = 6 := h.2.2.2.2.2.2.2.2.2.2.2.2.2.2.2.2.2.1
theorem StS.n5 {M : Mem} {c : Nat} (h : StS M c) : mLn M (c + 5) = 6 := h.2.2.2.2.2.2.2.2.2.2.2.2.2.2.2.2.2.2.1
theorem StS.n6 {M : Mem} {c : Nat} (h : StS M c) : mLn M (c + 6) = 6 := h.2.2.2.2.2.2.2.2.2.2.2.2.2.2.2.2.2.2.2
/-- the frame of what is told here -/
def TtS (M : Mem) (g : Nat) : Prop := (mT M 0 = 0) ∧ (mR M 0 0 = some 1) ∧ (mR M 0 5 = some 2) ∧ (mR M 0 6 = some g) ∧ (mR M 0 7 = some 11) ∧ (mR M 0 8 = some 12) ∧ (mR M 0 9 = some 13) ∧ (mR M 0 10 = some 20) ∧ (mR M 0 11 = some 27) ∧ (mR M 0 12 = some 34) ∧ (mR M 0 14 = some 35) ∧ (mR M 0 15 = some 36) ∧ (mR M 0 16 = some 37) ∧ (mR M 0 17 = some 39) ∧ (mT M 1 = 101) ∧ (mLn M 1 = 700) ∧ (mT M 2 = 1) ∧ (mR M 2 8 = some 0) ∧ (mT M 11 = 103) ∧ (mLn M 11 = 7) ∧ (mT M 12 = 4) ∧ (mR M 12 0 = some 0) ∧ (mR M 12 1 = some 0) ∧ (StS M 13) ∧ (StS M 20) ∧ (StS M 27) ∧ (mT M 34 = 106) ∧ (mLn M 34 = 20) ∧ (mT M 35 = 100) ∧ (mLn M 35 = 6) ∧ (mT M 36 = 100) ∧ (mLn M 36 = 6) ∧ (mT M 39 = 102) ∧ (mLn M 39 = 24) ∧ (∀ a, mN M ≤ a → mT M a = 99) ∧ (87 ≤ mN M)
theorem TtS.k {M : Mem} {g : Nat} (h : TtS M g) : mT M 0 = 0 := h.1
theorem TtS.r0 {M : Mem} {g : Nat} (h : TtS M g) : mR M 0 0 = some 1 := h.2.1
theorem TtS.r5 {M : Mem} {g : Nat} (h : TtS M g) : mR M 0 5 = some 2 := h.2.2.1
theorem TtS.r6 {M : Mem} {g : Nat} (h : TtS M g) : mR M 0 6 = some g := h.2.2.2.1
theorem TtS.r7 {M : Mem} {g : Nat} (h : TtS M g) : mR M 0 7 = some 11 := h.2.2.2.2.1
theorem TtS.r8 {M : Mem} {g : Nat} (h : TtS M g) : mR M 0 8 = some 12 := h.2.2.2.2.2.1
theorem TtS.r9 {M : Mem} {g : Nat} (h : TtS M g) : mR M 0 9 = some 13 := h.2.2.2.2.2.2.1
theorem TtS.r10 {M : Mem} {g : Nat} (h : TtS M g) : mR M 0 10 = some 20 := h.2.2.2.2.2.2.2.1
theorem TtS.r11 {M : Mem} {g : Nat} (h : TtS M g) : mR M 0 11 = some 27 := h.2.2.2.2.2.2.2.2.1
theorem TtS.r12 {M : Mem} {g : Nat} (h : TtS M g) : mR M 0 12 = some 34 := h.2.2.2.2.2.2.2.2.2.1
theorem TtS.r14 {M : Mem} {g : Nat} (h : TtS M g) : mR M 0 14 = some 35 := h.2.2.2.2.2.2.2.2.2.2.1
theorem TtS.r15 {M : Mem} {g : Nat} (h : TtS M g) : mR M 0 15 = some 36 := h.2.2.2.2.2.2.2.2.2.2.2.1
theorem TtS.r16 {M : Mem} {g : Nat} (h : TtS M g) : mR M 0 16 = some 37 := h.2.2.2.2.2.2.2.2.2.2.2.2.1
theorem TtS.r17 {M : Mem} {g : Nat} (h : TtS M g) : mR M 0 17 = some 39 := h.2.2.2.2.2.2.2.2.2.2.2.2.2.1
theorem TtS.k1 {M : Mem} {g : Nat} (h : TtS M g) : mT M 1 = 101 := h.2.2.2.2.2.2.2.2.2.2.2.2.2.2.1
theorem TtS.n1 {M : Mem} {g : Nat} (h : TtS M g) : mLn M 1 = 700 := h.2.2.2.2.2.2.2.2.2.2.2.2.2.2.2.1
theorem TtS.k2 {M : Mem} {g : Nat} (h : TtS M g) : mT M 2 = 1 := h.2.2.2.2.2.2.2.2.2.2.2.2.2.2.2.2.1
theorem TtS.q2 {M : Mem} {g : Nat} (h : TtS M g) : mR M 2 8 = some 0 := h.2.2.2.2.2.2.2.2.2.2.2.2.2.2.2.2.2.1
theorem TtS.k11 {M : Mem} {g : Nat} (h : TtS M g) : mT M 11 = 103 := h.2.2.2.2.2.2.2.2.2.2.2.2.2.2.2.2.2.2.1
theorem TtS.n11 {M : Mem} {g : Nat} (h : TtS M g) : mLn M 11 = 7 := h.2.2.2.2.2.2.2.2.2.2.2.2.2.2.2.2.2.2.2.1
theorem TtS.k12 {M : Mem} {g : Nat} (h : TtS M g) : mT M 12 = 4 := h.2.2.2.2.2.2.2.2.2.2.2.2.2.2.2.2.2.2.2.2.1
theorem TtS.q12 {M : Mem} {g : Nat} (h : TtS M g) : mR M 12 0 = some 0 := h.2.2.2.2.2.2.2.2.2.2.2.2.2.2.2.2.2.2.2.2.2.1
theorem TtS.q121 {M : Mem} {g : Nat} (h : TtS M g) : mR M 12 1 = some 0 := h.2.2.2.2.2.2.2.2.2.2.2.2.2.2.2.2.2.2.2.2.2.2.1
theorem TtS.s13 {M : Mem} {g : Nat} (h : TtS M g) : StS M 13 := h.2.2.2.2.2.2.2.2.2.2.2.2.2.2.2.2.2.2.2.2.2.2.2.1
theorem TtS.s20 {M : Mem} {g : Nat} (h : TtS M g) : StS M 20 := h.2.2.2.2.2.2.2.2.2.2.2.2.2.2.2.2.2.2.2.2.2.2.2.2.1
theorem TtS.s27 {M : Mem} {g : Nat} (h : TtS M g) : StS M 27 := h.2.2.2.2.2.2.2.2.2.2.2.2.2.2.2.2.2.2.2.2.2.2.2.2.2.1
theorem TtS.k34 {M : Mem} {g : Nat} (h : TtS M g) : mT M 34 = 106 := h.2.2.2.2.2.2.2.2.2.2.2.2.2.2.2.2.2.2.2.2.2.2.2.2.2.2.1
theorem TtS.n34 {M : Mem} {g : Nat} (h : TtS M g) : mLn M 34 = 20 := h.2.2.2.2.2.2.2.2.2.2.2.2.2.2.2.2.2.2.2.2.2.2.2.2.2.2.2.1
theorem TtS.k35 {M : Mem} {g : Nat} (h : TtS M g) : mT M 35 = 100 := h.2.2.2.2.2.2.2.2.2.2.2.2.2.2.2.2.2.2.2.2.2.2.2.2.2.2.2.2.1
theorem TtS.n35 {M : Mem} {g : Nat} (h : TtS M g) : mLn M 35 = 6 := h.2.2.2.2.2.2.2.2.2.2.2.2.2.2.2.2.2.2.2.2.2.2.2.2.2.2.2.2.2.1
theorem TtS.k36 {M : Mem} {g : Nat} (h : TtS M g) : mT M 36 = 100 := h.2.2.2.2.2.2.2.2.2.2.2.2.2.2.2.2.2.2.2.2.2.2.2.2.2.2.2.2.2.2.1
theorem TtS.n36 {M : Mem} {g : Nat} (h : TtS M g) : mLn M 36 = 6 := h.2.2.2.2.2.2.2.2.2.2.2.2.2.2.2.2.2.2.2.2.2.2.2.2.2.2.2.2.2.2.2.1
theorem TtS.k39 {M : Mem} {g : Nat} (h : TtS M g) : mT M 39 = 102 := h.2.2.2.2.2.2.2.2.2.2.2.2.2.2.2.2.2.2.2.2.2.2.2.2.2.2.2.2.2.2.2.2.1
theorem TtS.n39 {M : Mem} {g : Nat} (h : TtS M g) : mLn M 39 = 24 := h.2.2.2.2.2.2.2.2.2.2.2.2.2.2.2.2.2.2.2.2.2.2.2.2.2.2.2.2.2.2.2.2.2.1
theorem TtS.nx {M : Mem} {g : Nat} (h : TtS M g) : ∀ a, mN M ≤ a → mT M a = 99 := h.2.2.2.2.2.2.2.2.2.2.2.2.2.2.2.2.2.2.2.2.2.2.2.2.2.2.2.2.2.2.2.2.2.2.1
theorem TtS.big {M : Mem} {g : Nat} (h : TtS M g) : 87 ≤ mN M := h.2.2.2.2.2.2.2.2.2.2.2.2.2.2.2.2.2.2.2.2.2.2.2.2.2.2.2.2.2.2.2.2.2.2.2
def FrM (c : Nat) (M M' : Mem) : Prop := (mN M' = mN M) ∧ (mT M' = mT M) ∧ (mLn M' = mLn M) ∧ (mR M' = mR M) ∧ (∀ a k, (a < c ∨ c + 7 ≤ a) → mI M' a k = mI M a k) ∧ (∀ a k, a ≠ 11 → mL M' a k = mL M a k)
theorem FrM.n {c : Nat} {M M' : Mem} (h : FrM c M M') : mN M' = mN M := h.1
theorem FrM.t {c : Nat} {M M' : Mem} (h : FrM c M M') : mT M' = mT M := h.2.1
theorem FrM.ln {c : Nat} {M M' : Mem} (h : FrM c M M') : mLn M' = mLn M := h.2.2.1
theorem FrM.r {c : Nat} {M M' : Mem} (h : FrM c M M') : mR M' = mR M := h.2.2.2.1
theorem FrM.i {c : Nat} {M M' : Mem} (h : FrM c M M') : ∀ a k, (a < c ∨ c + 7 ≤ a) → mI M' a k = mI M a k := h.2.2.2.2.1
theorem FrM.l {c : Nat} {M M' : Mem} (h : FrM c M M') : ∀ a k, a ≠ 11 → mL M' a k = mL M a k := h.2.2.2.2.2
def FrT (b : Nat) (S S' : TS) : Prop := (∀ j k, ¬ (27 ≤ j ∧ j ≤ 33 ∧ 6 * b ≤ k ∧ k < 6 * b + 6) → ¬ (34 ≤ j ∧ j ≤ 39 ∧ k = b) → ¬ (j = 0 ∧ (k = 53 ∨ k = 68)) → tI S' j k = tI S j k) ∧ (∀ j k, j ≠ 25 → j ≠ 26 → ¬ (j = 0 ∧ k = 67) → tL S' j k = tL S j k)
theorem FrT.i {b : Nat} {S S' : TS} (h : FrT b S S') : ∀ j k, ¬ (27 ≤ j ∧ j ≤ 33 ∧ 6 * b ≤ k ∧ k < 6 * b + 6) → ¬ (34 ≤ j ∧ j ≤ 39 ∧ k = b) → ¬ (j = 0 ∧ (k = 53 ∨ k = 68)) → tI S' j k = tI S j k := h.1
theorem FrT.l {b : Nat} {S S' : TS} (h : FrT b S S') : ∀ j k, j ≠ 25 → j ≠ 26 → ¬ (j = 0 ∧ k = 67) → tL S' j k = tL S j k := h.2
end
