set_option maxRecDepth 100000
section
def onV (M : Mem) (c k : Nat) : Int32 := if ((mI M c 7) >>> (Int32.ofNat k &&& 31)) &&& 1 = 1 then (if mI M c 12 = 2 then (if mI M c 13 = Int32.ofNat k then 0 else 1) else 1) else 0
/-- a state and a half of the twin's rows -/
def SiR (M : Mem) (S : TS) (c b nT nH : Nat) (z : Int32) (A : Nat → Prop) (x : Nat) : Prop := (∀ k, k < nH → mI M (c + 1) k = tI S 27 (6 * b + k)) ∧ (∀ k, k < nH → mI M (c + 2) k = tI S 28 (6 * b + k)) ∧ (∀ k, k < nH → mI M (c + 3) k = tI S 29 (6 * b + k)) ∧ (∀ k, k < nH → k ≠ x → mI M (c + 4) k = tI S 30 (6 * b + k)) ∧ (∀ k, k < nH → mI M (c + 5) k = tI S 32 (6 * b + k)) ∧ (∀ k, k < nT → mI M (c + 6) k = tI S 33 (6 * b + k)) ∧ (∀ k, k < nH → In (tI S 27 (6 * b + k)) 0 60) ∧ (∀ k, k < nH → tI S 29 (6 * b + k) = -1 ∨ ∃ t, t < nT ∧ tI S 29 (6 * b + k) = Int32.ofNat t) ∧ (∀ k, k < nH → In (tI S 28 (6 * b + k)) 0 198) ∧ (∀ k, k < nT → In (tI S 33 (6 * b + k)) 0 99) ∧ (∀ k, k < nH → A k → tI S 31 (6 * b + k) = 1 → (tI S 28 (6 * b + k)).toInt < 100) ∧ (∃ o, o < 2 ^ nH ∧ mI M c 7 = Int32.ofNat o) ∧ (∀ k, k < nH → onV M c k = tI S 31 (6 * b + k)) ∧ (mI M c 6 = tI S 37 b) ∧ (mI M c 8 = tI S 34 b) ∧ (mI M c 9 = tI S 35 b) ∧ (mI M c 10 = tI S 36 b) ∧ (mI M c 15 = tI S 38 b) ∧ (mI M c 16 = tI S 39 b) ∧ (tI S 0 72 = if mI M c 12 = 4 then 1 else 0) ∧ (tI S 0 70 = if mI M c 12 = 0 then 1 else 0) ∧ (tI S 0 71 = if mI M c 12 = 1 then 1 else 0) ∧ (tI S 0 69 = z) ∧ (z = 1 → (mI M c 11).toInt64 = tL S 0 67 ∧ 0 ≤ (mI M c 11).toInt) ∧ (z = 0 ∨ z = 1)
theorem SiR.p {M : Mem} {S : TS} {c b nT nH : Nat} {z : Int32} {A : Nat → Prop} {x : Nat} (h : SiR M S c b nT nH z A x) : ∀ k, k < nH → mI M (c + 1) k = tI S 27 (6 * b + k) := h.1
theorem SiR.th {M : Mem} {S : TS} {c b nT nH : Nat} {z : Int32} {A : Nat → Prop} {x : Nat} (h : SiR M S c b nT nH z A x) : ∀ k, k < nH → mI M (c + 2) k = tI S 28 (6 * b + k) := h.2.1
theorem SiR.go {M : Mem} {S : TS} {c b nT nH : Nat} {z : Int32} {A : Nat → Prop} {x : Nat} (h : SiR M S c b nT nH z A x) : ∀ k, k < nH → mI M (c + 3) k = tI S 29 (6 * b + k) := h.2.2.1
theorem SiR.hu {M : Mem} {S : TS} {c b nT nH : Nat} {z : Int32} {A : Nat → Prop} {x : Nat} (h : SiR M S c b nT nH z A x) : ∀ k, k < nH → k ≠ x → mI M (c + 4) k = tI S 30 (6 * b + k) := h.2.2.2.1
theorem SiR.dr {M : Mem} {S : TS} {c b nT nH : Nat} {z : Int32} {A : Nat → Prop} {x : Nat} (h : SiR M S c b nT nH z A x) : ∀ k, k < nH → mI M (c + 5) k = tI S 32 (6 * b + k) := h.2.2.2.2.1
theorem SiR.wa {M : Mem} {S : TS} {c b nT nH : Nat} {z : Int32} {A : Nat → Prop} {x : Nat} (h : SiR M S c b nT nH z A x) : ∀ k, k < nT → mI M (c + 6) k = tI S 33 (6 * b + k) := h.2.2.2.2.2.1
theorem SiR.pB {M : Mem} {S : TS} {c b nT nH : Nat} {z : Int32} {A : Nat → Prop} {x : Nat} (h : SiR M S c b nT nH z A x) : ∀ k, k < nH → In (tI S 27 (6 * b + k)) 0 60 := h.2.2.2.2.2.2.1
theorem SiR.gB {M : Mem} {S : TS} {c b nT nH : Nat} {z : Int32} {A : Nat → Prop} {x : Nat} (h : SiR M S c b nT nH z A x) : ∀ k, k < nH → tI S 29 (6 * b + k) = -1 ∨ ∃ t, t < nT ∧ tI S 29 (6 * b + k) = Int32.ofNat t := h.2.2.2.2.2.2.2.1
theorem SiR.tB {M : Mem} {S : TS} {c b nT nH : Nat} {z : Int32} {A : Nat → Prop} {x : Nat} (h : SiR M S c b nT nH z A x) : ∀ k, k < nH → In (tI S 28 (6 * b + k)) 0 198 := h.2.2.2.2.2.2.2.2.1
theorem SiR.wB {M : Mem} {S : TS} {c b nT nH : Nat} {z : Int32} {A : Nat → Prop} {x : Nat} (h : SiR M S c b nT nH z A x) : ∀ k, k < nT → In (tI S 33 (6 * b + k)) 0 99 := h.2.2.2.2.2.2.2.2.2.1
theorem SiR.tA {M : Mem} {S : TS} {c b nT nH : Nat} {z : Int32} {A : Nat → Prop} {x : Nat} (h : SiR M S c b nT nH z A x) : ∀ k, k < nH → A k → tI S 31 (6 * b + k) = 1 → (tI S 28 (6 * b + k)).toInt < 100 := h.2.2.2.2.2.2.2.2.2.2.1
theorem SiR.onb {M : Mem} {S : TS} {c b nT nH : Nat} {z : Int32} {A : Nat → Prop} {x : Nat} (h : SiR M S c b nT nH z A x) : ∃ o, o < 2 ^ nH ∧ mI M c 7 = Int32.ofNat o := h.2.2.2.2.2.2.2.2.2.2.2.1
theorem SiR.onv {M : Mem} {S : TS} {c b nT nH : Nat} {z : Int32} {A : Nat → Prop} {x : Nat} (h : SiR M S c b nT nH z A x) : ∀ k, k < nH → onV M c k = tI S 31 (6 * b + k) := h.2.2.2.2.2.2.2.2.2.2.2.2.1
theorem SiR.hour {M : Mem} {S : TS} {c b nT nH : Nat} {z : Int32} {A : Nat → Prop} {x : Nat} (h : SiR M S c b nT nH z A x) : mI M c 6 = tI S 37 b := h.2.2.2.2.2.2.2.2.2.2.2.2.2.1
theorem SiR.fi {M : Mem} {S : TS} {c b nT nH : Nat} {z : Int32} {A : Nat → Prop} {x : Nat} (h : SiR M S c b nT nH z A x) : mI M c 8 = tI S 34 b := h.2.2.2.2.2.2.2.2.2.2.2.2.2.2.1
theorem SiR.ta {M : Mem} {S : TS} {c b nT nH : Nat} {z : Int32} {A : Nat → Prop} {x : Nat} (h : SiR M S c b nT nH z A x) : mI M c 9 = tI S 35 b := h.2.2.2.2.2.2.2.2.2.2.2.2.2.2.2.1
theorem SiR.dk {M : Mem} {S : TS} {c b nT nH : Nat} {z : Int32} {A : Nat → Prop} {x : Nat} (h : SiR M S c b nT nH z A x) : mI M c 10 = tI S 36 b := h.2.2.2.2.2.2.2.2.2.2.2.2.2.2.2.2.1
theorem SiR.tk {M : Mem} {S : TS} {c b nT nH : Nat} {z : Int32} {A : Nat → Prop} {x : Nat} (h : SiR M S c b nT nH z A x) : mI M c 15 = tI S 38 b := h.2.2.2.2.2.2.2.2.2.2.2.2.2.2.2.2.2.1
theorem SiR.fo {M : Mem} {S : TS} {c b nT nH : Nat} {z : Int32} {A : Nat → Prop} {x : Nat} (h : SiR M S c b nT nH z A x) : mI M c 16 = tI S 39 b := h.2.2.2.2.2.2.2.2.2.2.2.2.2.2.2.2.2.2.1
theorem SiR.fast {M : Mem} {S : TS} {c b nT nH : Nat} {z : Int32} {A : Nat → Prop} {x : Nat} (h : SiR M S c b nT nH z A x) : tI S 0 72 = if mI M c 12 = 4 then 1 else 0 := h.2.2.2.2.2.2.2.2.2.2.2.2.2.2.2.2.2.2.2.1
theorem SiR.noR {M : Mem} {S : TS} {c b nT nH : Nat} {z : Int32} {A : Nat → Prop} {x : Nat} (h : SiR M S c b nT nH z A x) : tI S 0 70 = if mI M c 12 = 0 then 1 else 0 := h.2.2.2.2.2.2.2.2.2.2.2.2.2.2.2.2.2.2.2.2.1
theorem SiR.noD {M : Mem} {S : TS} {c b nT nH : Nat} {z : Int32} {A : Nat → Prop} {x : Nat} (h : SiR M S c b nT nH z A x) : tI S 0 71 = if mI M c 12 = 1 then 1 else 0 := h.2.2.2.2.2.2.2.2.2.2.2.2.2.2.2.2.2.2.2.2.2.1
theorem SiR.dw {M : Mem} {S : TS} {c b nT nH : Nat} {z : Int32} {A : Nat → Prop} {x : Nat} (h : SiR M S c b nT nH z A x) : tI S 0 69 = z := h.2.2.2.2.2.2.2.2.2.2.2.2.2.2.2.2.2.2.2.2.2.2.1
theorem SiR.num {M : Mem} {S : TS} {c b nT nH : Nat} {z : Int32} {A : Nat → Prop} {x : Nat} (h : SiR M S c b nT nH z A x) : z = 1 → (mI M c 11).toInt64 = tL S 0 67 ∧ 0 ≤ (mI M c 11).toInt := h.2.2.2.2.2.2.2.2.2.2.2.2.2.2.2.2.2.2.2.2.2.2.2.1
theorem SiR.z01 {M : Mem} {S : TS} {c b nT nH : Nat} {z : Int32} {A : Nat → Prop} {x : Nat} (h : SiR M S c b nT nH z A x) : z = 0 ∨ z = 1 := h.2.2.2.2.2.2.2.2.2.2.2.2.2.2.2.2.2.2.2.2.2.2.2.2
variable {M : Mem} {S : TS} {g u nT nH nL c b x : Nat} {z : Int32} {A : Nat → Prop}
theorem onV_ne {M : Mem} {a k c j : Nat} {v : Int32} (ha : a ≠ c) : onV (sI M a k v) c j = onV M c j := by
  unfold onV
  simp only [mI_sI, ha.symm, false_and, if_false]
theorem onV_f {M : Mem} {k c j : Nat} {v : Int32} (h1 : k ≠ 7) (h2 : k ≠ 12) (h3 : k ≠ 13) : onV (sI M c k v) c j = onV M c j := by
  unfold onV
  simp only [mI_sI, h1.symm, h2.symm, h3.symm, and_false, if_false]
theorem onV_sL {M : Mem} {a k c j : Nat} {v : Int64} : onV (sL M a k v) c j = onV M c j := rfl
theorem si_p (h : SiR M S c b nT nH z A x) {k : Nat} {v : Int32} (hk : k < nH) (hv : In v 0 60) : SiR (sI M (c + 1) k v) (tsI S 27 (6 * b + k) v) c b nT nH z A x := by
  have ho := h.onv
  refine ⟨?_, ?_, ?_, ?_, ?_, ?_, ?_, ?_, ?_, ?_, ?_, ?_, ?_, ?_, ?_, ?_, ?_, ?_, ?_, ?_, ?_, ?_, ?_, ?_, ?_⟩
  all_goals try simp only [onV_ne (show c + 1 ≠ c by omega)]
  all_goals try simp [mI_sI, tI_tsI, mL_sI, tL_tsI]
  all_goals first
    | exact h.p
    | exact h.th
    | exact h.go
    | exact h.hu
    | (intro j hj hx; split; · rfl
       · exact h.hu j hj hx)
    | exact h.dr
    | exact h.wa
    | exact h.pB
    | exact h.gB
    | exact h.tB
    | exact h.wB
    | exact h.tA
    | exact h.onb
    | exact h.onv
    | exact h.hour
    | exact h.fi
    | exact h.ta
    | exact h.dk
    | exact h.tk
    | exact h.fo
    | exact h.fast
    | exact h.noR
    | exact h.noD
    | exact h.dw
    | exact h.num
    | exact h.z01
    | (intro j hj; split; · first | rfl | assumption
       · first | exact h.p j hj | exact h.th j hj | exact h.go j hj | exact h.dr j hj | exact h.wa j hj | exact h.pB j hj | exact h.gB j hj | exact h.tB j hj | exact h.wB j hj)

theorem si_th (h : SiR M S c b nT nH z A x) {k : Nat} {v : Int32} (hk : k < nH) (hv : In v 0 198) (ha : A k → tI S 31 (6 * b + k) = 1 → v.toInt < 100) : SiR (sI M (c + 2) k v) (tsI S 28 (6 * b + k) v) c b nT nH z A x := by
  have ho := h.onv
  refine ⟨?_, ?_, ?_, ?_, ?_, ?_, ?_, ?_, ?_, ?_, ?_, ?_, ?_, ?_, ?_, ?_, ?_, ?_, ?_, ?_, ?_, ?_, ?_, ?_, ?_⟩
  all_goals try simp only [onV_ne (show c + 2 ≠ c by omega)]
  all_goals try simp [mI_sI, tI_tsI, mL_sI, tL_tsI]
  all_goals first
    | exact h.p
    | exact h.th
    | exact h.go
    | exact h.hu
    | (intro j hj hx; split; · rfl
       · exact h.hu j hj hx)
    | exact h.dr
    | exact h.wa
    | exact h.pB
    | exact h.gB
    | exact h.tB
    | exact h.wB
    | exact h.tA
    | exact h.onb
    | exact h.onv
    | exact h.hour
    | exact h.fi
    | exact h.ta
    | exact h.dk
    | exact h.tk
    | exact h.fo
    | exact h.fast
    | exact h.noR
    | exact h.noD
    | exact h.dw
    | exact h.num
    | exact h.z01
    | (intro j hj; split; · first | rfl | assumption
       · first | exact h.p j hj | exact h.th j hj | exact h.go j hj | exact h.dr j hj | exact h.wa j hj | exact h.pB j hj | exact h.gB j hj | exact h.tB j hj | exact h.wB j hj)
    | (intro j hj h1 h2; split; · rename_i e; subst e; exact ha h1 h2
       · exact h.tA j hj h1 h2)
theorem si_go (h : SiR M S c b nT nH z A x) {k : Nat} {v : Int32} (hk : k < nH) (hv : v = -1 ∨ ∃ t, t < nT ∧ v = Int32.ofNat t) : SiR (sI M (c + 3) k v) (tsI S 29 (6 * b + k) v) c b nT nH z A x := by
  have ho := h.onv
  refine ⟨?_, ?_, ?_, ?_, ?_, ?_, ?_, ?_, ?_, ?_, ?_, ?_, ?_, ?_, ?_, ?_, ?_, ?_, ?_, ?_, ?_, ?_, ?_, ?_, ?_⟩
  all_goals try simp only [onV_ne (show c + 3 ≠ c by omega)]
  all_goals try simp [mI_sI, tI_tsI, mL_sI, tL_tsI]
  all_goals first
    | exact h.p
    | exact h.th
    | exact h.go
    | exact h.hu
    | (intro j hj hx; split; · rfl
       · exact h.hu j hj hx)
    | exact h.dr
    | exact h.wa
    | exact h.pB
    | exact h.gB
    | exact h.tB
    | exact h.wB
    | exact h.tA
    | exact h.onb
    | exact h.onv
    | exact h.hour
    | exact h.fi
    | exact h.ta
    | exact h.dk
    | exact h.tk
    | exact h.fo
    | exact h.fast
    | exact h.noR
    | exact h.noD
    | exact h.dw
    | exact h.num
    | exact h.z01
    | (intro j hj; split; · first | rfl | assumption
       · first | exact h.p j hj | exact h.th j hj | exact h.go j hj | exact h.dr j hj | exact h.wa j hj | exact h.pB j hj | exact h.gB j hj | exact h.tB j hj | exact h.wB j hj)

theorem si_hu (h : SiR M S c b nT nH z A x) {k : Nat} {v : Int32} (hk : k < nH) : SiR (sI M (c + 4) k v) (tsI S 30 (6 * b + k) v) c b nT nH z A x := by
  have ho := h.onv
  refine ⟨?_, ?_, ?_, ?_, ?_, ?_, ?_, ?_, ?_, ?_, ?_, ?_, ?_, ?_, ?_, ?_, ?_, ?_, ?_, ?_, ?_, ?_, ?_, ?_, ?_⟩
  all_goals try simp only [onV_ne (show c + 4 ≠ c by omega)]
  all_goals try simp [mI_sI, tI_tsI, mL_sI, tL_tsI]
  all_goals first
    | exact h.p
    | exact h.th
    | exact h.go
    | exact h.hu
    | (intro j hj hx; split; · rfl
       · exact h.hu j hj hx)
    | exact h.dr
    | exact h.wa
    | exact h.pB
    | exact h.gB
    | exact h.tB
    | exact h.wB
    | exact h.tA
    | exact h.onb
    | exact h.onv
    | exact h.hour
    | exact h.fi
    | exact h.ta
    | exact h.dk
    | exact h.tk
    | exact h.fo
    | exact h.fast
    | exact h.noR
    | exact h.noD
    | exact h.dw
    | exact h.num
    | exact h.z01
    | (intro j hj; split; · first | rfl | assumption
       · first | exact h.p j hj | exact h.th j hj | exact h.go j hj | exact h.dr j hj | exact h.wa j hj | exact h.pB j hj | exact h.gB j hj | exact h.tB j hj | exact h.wB j hj)

theorem si_dr (h : SiR M S c b nT nH z A x) {k : Nat} {v : Int32} (hk : k < nH) : SiR (sI M (c + 5) k v) (tsI S 32 (6 * b + k) v) c b nT nH z A x := by
  have ho := h.onv
  refine ⟨?_, ?_, ?_, ?_, ?_, ?_, ?_, ?_, ?_, ?_, ?_, ?_, ?_, ?_, ?_, ?_, ?_, ?_, ?_, ?_, ?_, ?_, ?_, ?_, ?_⟩
  all_goals try simp only [onV_ne (show c + 5 ≠ c by omega)]
  all_goals try simp [mI_sI, tI_tsI, mL_sI, tL_tsI]
  all_goals first
    | exact h.p
    | exact h.th
    | exact h.go
    | exact h.hu
    | (intro j hj hx; split; · rfl
       · exact h.hu j hj hx)
    | exact h.dr
    | exact h.wa
    | exact h.pB
    | exact h.gB
    | exact h.tB
    | exact h.wB
    | exact h.tA
    | exact h.onb
    | exact h.onv
    | exact h.hour
    | exact h.fi
    | exact h.ta
    | exact h.dk
    | exact h.tk
    | exact h.fo
    | exact h.fast
    | exact h.noR
    | exact h.noD
    | exact h.dw
    | exact h.num
    | exact h.z01
    | (intro j hj; split; · first | rfl | assumption
       · first | exact h.p j hj | exact h.th j hj | exact h.go j hj | exact h.dr j hj | exact h.wa j hj | exact h.pB j hj | exact h.gB j hj | exact h.tB j hj | exact h.wB j hj)

theorem si_wa (h : SiR M S c b nT nH z A x) {k : Nat} {v : Int32} (hk : k < nT) (hv : In v 0 99) : SiR (sI M (c + 6) k v) (tsI S 33 (6 * b + k) v) c b nT nH z A x := by
  have ho := h.onv
  refine ⟨?_, ?_, ?_, ?_, ?_, ?_, ?_, ?_, ?_, ?_, ?_, ?_, ?_, ?_, ?_, ?_, ?_, ?_, ?_, ?_, ?_, ?_, ?_, ?_, ?_⟩
  all_goals try simp only [onV_ne (show c + 6 ≠ c by omega)]
  all_goals try simp [mI_sI, tI_tsI, mL_sI, tL_tsI]
  all_goals first
    | exact h.p
    | exact h.th
    | exact h.go
    | exact h.hu
    | (intro j hj hx; split; · rfl
       · exact h.hu j hj hx)
    | exact h.dr
    | exact h.wa
    | exact h.pB
    | exact h.gB
    | exact h.tB
    | exact h.wB
    | exact h.tA
    | exact h.onb
    | exact h.onv
    | exact h.hour
    | exact h.fi
    | exact h.ta
    | exact h.dk
    | exact h.tk
    | exact h.fo
    | exact h.fast
    | exact h.noR
    | exact h.noD
    | exact h.dw
    | exact h.num
    | exact h.z01
    | (intro j hj; split; · first | rfl | assumption
       · first | exact h.p j hj | exact h.th j hj | exact h.go j hj | exact h.dr j hj | exact h.wa j hj | exact h.pB j hj | exact h.gB j hj | exact h.tB j hj | exact h.wB j hj)

theorem si_hour (h : SiR M S c b nT nH z A x) {v : Int32}  : SiR (sI M (c) 6 v) (tsI S 37 (b) v) c b nT nH z A x := by
  have ho := h.onv
  refine ⟨?_, ?_, ?_, ?_, ?_, ?_, ?_, ?_, ?_, ?_, ?_, ?_, ?_, ?_, ?_, ?_, ?_, ?_, ?_, ?_, ?_, ?_, ?_, ?_, ?_⟩
  all_goals try simp only [onV_f (show 6 ≠ 7 by omega) (show 6 ≠ 12 by omega) (show 6 ≠ 13 by omega)]
  all_goals try simp [mI_sI, tI_tsI, mL_sI, tL_tsI]
  all_goals first
    | exact h.p
    | exact h.th
    | exact h.go
    | exact h.hu
    | (intro j hj hx; split; · rfl
       · exact h.hu j hj hx)
    | exact h.dr
    | exact h.wa
    | exact h.pB
    | exact h.gB
    | exact h.tB
    | exact h.wB
    | exact h.tA
    | exact h.onb
    | exact h.onv
    | exact h.hour
    | exact h.fi
    | exact h.ta
    | exact h.dk
    | exact h.tk
    | exact h.fo
    | exact h.fast
    | exact h.noR
    | exact h.noD
    | exact h.dw
    | exact h.num
    | exact h.z01
    | (intro j hj; split; · first | rfl | assumption
       · first | exact h.p j hj | exact h.th j hj | exact h.go j hj | exact h.dr j hj | exact h.wa j hj | exact h.pB j hj | exact h.gB j hj | exact h.tB j hj | exact h.wB j hj)

theorem si_fi (h : SiR M S c b nT nH z A x) {v : Int32}  : SiR (sI M (c) 8 v) (tsI S 34 (b) v) c b nT nH z A x := by
  have ho := h.onv
  refine ⟨?_, ?_, ?_, ?_, ?_, ?_, ?_, ?_, ?_, ?_, ?_, ?_, ?_, ?_, ?_, ?_, ?_, ?_, ?_, ?_, ?_, ?_, ?_, ?_, ?_⟩
  all_goals try simp only [onV_f (show 8 ≠ 7 by omega) (show 8 ≠ 12 by omega) (show 8 ≠ 13 by omega)]
  all_goals try simp [mI_sI, tI_tsI, mL_sI, tL_tsI]
  all_goals first
    | exact h.p
    | exact h.th
    | exact h.go
    | exact h.hu
    | (intro j hj hx; split; · rfl
       · exact h.hu j hj hx)
    | exact h.dr
    | exact h.wa
    | exact h.pB
    | exact h.gB
    | exact h.tB
    | exact h.wB
    | exact h.tA
    | exact h.onb
    | exact h.onv
    | exact h.hour
    | exact h.fi
    | exact h.ta
    | exact h.dk
    | exact h.tk
    | exact h.fo
    | exact h.fast
    | exact h.noR
    | exact h.noD
    | exact h.dw
    | exact h.num
    | exact h.z01
    | (intro j hj; split; · first | rfl | assumption
       · first | exact h.p j hj | exact h.th j hj | exact h.go j hj | exact h.dr j hj | exact h.wa j hj | exact h.pB j hj | exact h.gB j hj | exact h.tB j hj | exact h.wB j hj)

theorem si_ta (h : SiR M S c b nT nH z A x) {v : Int32}  : SiR (sI M (c) 9 v) (tsI S 35 (b) v) c b nT nH z A x := by
  have ho := h.onv
  refine ⟨?_, ?_, ?_, ?_, ?_, ?_, ?_, ?_, ?_, ?_, ?_, ?_, ?_, ?_, ?_, ?_, ?_, ?_, ?_, ?_, ?_, ?_, ?_, ?_, ?_⟩
  all_goals try simp only [onV_f (show 9 ≠ 7 by omega) (show 9 ≠ 12 by omega) (show 9 ≠ 13 by omega)]
  all_goals try simp [mI_sI, tI_tsI, mL_sI, tL_tsI]
  all_goals first
    | exact h.p
    | exact h.th
    | exact h.go
    | exact h.hu
    | (intro j hj hx; split; · rfl
       · exact h.hu j hj hx)
    | exact h.dr
    | exact h.wa
    | exact h.pB
    | exact h.gB
    | exact h.tB
    | exact h.wB
    | exact h.tA
    | exact h.onb
    | exact h.onv
    | exact h.hour
    | exact h.fi
    | exact h.ta
    | exact h.dk
    | exact h.tk
    | exact h.fo
    | exact h.fast
    | exact h.noR
    | exact h.noD
    | exact h.dw
    | exact h.num
    | exact h.z01
    | (intro j hj; split; · first | rfl | assumption
       · first | exact h.p j hj | exact h.th j hj | exact h.go j hj | exact h.dr j hj | exact h.wa j hj | exact h.pB j hj | exact h.gB j hj | exact h.tB j hj | exact h.wB j hj)

theorem si_dk (h : SiR M S c b nT nH z A x) {v : Int32}  : SiR (sI M (c) 10 v) (tsI S 36 (b) v) c b nT nH z A x := by
  have ho := h.onv
  refine ⟨?_, ?_, ?_, ?_, ?_, ?_, ?_, ?_, ?_, ?_, ?_, ?_, ?_, ?_, ?_, ?_, ?_, ?_, ?_, ?_, ?_, ?_, ?_, ?_, ?_⟩
  all_goals try simp only [onV_f (show 10 ≠ 7 by omega) (show 10 ≠ 12 by omega) (show 10 ≠ 13 by omega)]
  all_goals try simp [mI_sI, tI_tsI, mL_sI, tL_tsI]
  all_goals first
    | exact h.p
    | exact h.th
    | exact h.go
    | exact h.hu
    | (intro j hj hx; split; · rfl
       · exact h.hu j hj hx)
    | exact h.dr
    | exact h.wa
    | exact h.pB
    | exact h.gB
    | exact h.tB
    | exact h.wB
    | exact h.tA
    | exact h.onb
    | exact h.onv
    | exact h.hour
    | exact h.fi
    | exact h.ta
    | exact h.dk
    | exact h.tk
    | exact h.fo
    | exact h.fast
    | exact h.noR
    | exact h.noD
    | exact h.dw
    | exact h.num
    | exact h.z01
    | (intro j hj; split; · first | rfl | assumption
       · first | exact h.p j hj | exact h.th j hj | exact h.go j hj | exact h.dr j hj | exact h.wa j hj | exact h.pB j hj | exact h.gB j hj | exact h.tB j hj | exact h.wB j hj)

theorem si_tk (h : SiR M S c b nT nH z A x) {v : Int32}  : SiR (sI M (c) 15 v) (tsI S 38 (b) v) c b nT nH z A x := by
  have ho := h.onv
  refine ⟨?_, ?_, ?_, ?_, ?_, ?_, ?_, ?_, ?_, ?_, ?_, ?_, ?_, ?_, ?_, ?_, ?_, ?_, ?_, ?_, ?_, ?_, ?_, ?_, ?_⟩
  all_goals try simp only [onV_f (show 15 ≠ 7 by omega) (show 15 ≠ 12 by omega) (show 15 ≠ 13 by omega)]
  all_goals try simp [mI_sI, tI_tsI, mL_sI, tL_tsI]
  all_goals first
    | exact h.p
    | exact h.th
    | exact h.go
    | exact h.hu
    | (intro j hj hx; split; · rfl
       · exact h.hu j hj hx)
    | exact h.dr
    | exact h.wa
    | exact h.pB
    | exact h.gB
    | exact h.tB
    | exact h.wB
    | exact h.tA
    | exact h.onb
    | exact h.onv
    | exact h.hour
    | exact h.fi
    | exact h.ta
    | exact h.dk
    | exact h.tk
    | exact h.fo
    | exact h.fast
    | exact h.noR
    | exact h.noD
    | exact h.dw
    | exact h.num
    | exact h.z01
    | (intro j hj; split; · first | rfl | assumption
       · first | exact h.p j hj | exact h.th j hj | exact h.go j hj | exact h.dr j hj | exact h.wa j hj | exact h.pB j hj | exact h.gB j hj | exact h.tB j hj | exact h.wB j hj)

theorem si_fo (h : SiR M S c b nT nH z A x) {v : Int32}  : SiR (sI M (c) 16 v) (tsI S 39 (b) v) c b nT nH z A x := by
  have ho := h.onv
  refine ⟨?_, ?_, ?_, ?_, ?_, ?_, ?_, ?_, ?_, ?_, ?_, ?_, ?_, ?_, ?_, ?_, ?_, ?_, ?_, ?_, ?_, ?_, ?_, ?_, ?_⟩
  all_goals try simp only [onV_f (show 16 ≠ 7 by omega) (show 16 ≠ 12 by omega) (show 16 ≠ 13 by omega)]
  all_goals try simp [mI_sI, tI_tsI, mL_sI, tL_tsI]
  all_goals first
    | exact h.p
    | exact h.th
    | exact h.go
    | exact h.hu
    | (intro j hj hx; split; · rfl
       · exact h.hu j hj hx)
    | exact h.dr
    | exact h.wa
    | exact h.pB
    | exact h.gB
    | exact h.tB
    | exact h.wB
    | exact h.tA
    | exact h.onb
    | exact h.onv
    | exact h.hour
    | exact h.fi
    | exact h.ta
    | exact h.dk
    | exact h.tk
    | exact h.fo
    | exact h.fast
    | exact h.noR
    | exact h.noD
    | exact h.dw
    | exact h.num
    | exact h.z01
    | (intro j hj; split; · first | rfl | assumption
       · first | exact h.p j hj | exact h.th j hj | exact h.go j hj | exact h.dr j hj | exact h.wa j hj | exact h.pB j hj | exact h.gB j hj | exact h.tB j hj | exact h.wB j hj)

theorem si_fp (h : SiR M S c b nT nH z A x) {v : Int32}  : SiR (sI M (c) 14 v) (tsI S 0 (68) v) c b nT nH z A x := by
  have ho := h.onv
  refine ⟨?_, ?_, ?_, ?_, ?_, ?_, ?_, ?_, ?_, ?_, ?_, ?_, ?_, ?_, ?_, ?_, ?_, ?_, ?_, ?_, ?_, ?_, ?_, ?_, ?_⟩
  all_goals try simp only [onV_f (show 14 ≠ 7 by omega) (show 14 ≠ 12 by omega) (show 14 ≠ 13 by omega)]
  all_goals try simp [mI_sI, tI_tsI, mL_sI, tL_tsI]
  all_goals first
    | exact h.p
    | exact h.th
    | exact h.go
    | exact h.hu
    | (intro j hj hx; split; · rfl
       · exact h.hu j hj hx)
    | exact h.dr
    | exact h.wa
    | exact h.pB
    | exact h.gB
    | exact h.tB
    | exact h.wB
    | exact h.tA
    | exact h.onb
    | exact h.onv
    | exact h.hour
    | exact h.fi
    | exact h.ta
    | exact h.dk
    | exact h.tk
    | exact h.fo
    | exact h.fast
    | exact h.noR
    | exact h.noD
    | exact h.dw
    | exact h.num
    | exact h.z01
    | (intro j hj; split; · first | rfl | assumption
       · first | exact h.p j hj | exact h.th j hj | exact h.go j hj | exact h.dr j hj | exact h.wa j hj | exact h.pB j hj | exact h.gB j hj | exact h.tB j hj | exact h.wB j hj)

theorem si_sL (h : SiR M S c b nT nH z A x) {a k : Nat} {v : Int64} : SiR (sL M a k v) S c b nT nH z A x := h
theorem si_tsL (h : SiR M S c b nT nH z A x) {j k : Nat} {v : Int64} (hj : j ≠ 0) : SiR M (tsL S j k v) c b nT nH z A x := by
  refine ⟨h.p, h.th, h.go, h.hu, h.dr, h.wa, h.pB, h.gB, h.tB, h.wB, h.tA, h.onb, h.onv, h.hour, h.fi, h.ta, h.dk, h.tk, h.fo, h.fast, h.noR, h.noD, h.dw, ?_, h.z01⟩
  simp only [tL_tsL, hj.symm, false_and, if_false]
  exact h.num
theorem si_err (h : SiR M S c b nT nH z A x) {v : Int32} : SiR M (tsI S 0 53 v) c b nT nH z A x := by
  refine ⟨?_, ?_, ?_, ?_, ?_, ?_, ?_, ?_, ?_, ?_, ?_, ?_, ?_, ?_, ?_, ?_, ?_, ?_, ?_, ?_, ?_, ?_, ?_, ?_, ?_⟩
  all_goals try simp [tI_tsI, tL_tsI]
  all_goals first
    | exact h.p
    | exact h.th
    | exact h.go
    | exact h.hu
    | (intro j hj hx; split; · rfl
       · exact h.hu j hj hx)
    | exact h.dr
    | exact h.wa
    | exact h.pB
    | exact h.gB
    | exact h.tB
    | exact h.wB
    | exact h.tA
    | exact h.onb
    | exact h.onv
    | exact h.hour
    | exact h.fi
    | exact h.ta
    | exact h.dk
    | exact h.tk
    | exact h.fo
    | exact h.fast
    | exact h.noR
    | exact h.noD
    | exact h.dw
    | exact h.num
    | exact h.z01
def Sim (M0 : Mem) (S0 : TS) (g c b nT nH nL : Nat) (z : Int32) (A : Nat → Prop) (F : Prop) (x : Nat) (M : Mem) (S : TS) : Prop := (TtS M g) ∧ (StS M c) ∧ (RdR M g S 0 nT nH nL) ∧ (FrM c M0 M) ∧ (FrT b S0 S) ∧ (SiR M S c b nT nH z A x) ∧ (F → mI M c 14 = tI S 0 68 ∧ In (tI S 0 68) (-1) 60) ∧ (b ≤ 1) ∧ (∀ k, k < nH → tI S 31 (6 * b + k) = 1 → tI S0 31 (6 * b + k) = 1) ∧ (z = 0 → tL S 0 67 = tL S0 0 67)
theorem Sim.tt {M0 : Mem} {S0 : TS} {g c b nT nH nL : Nat} {z : Int32} {A : Nat → Prop} {F : Prop} {x : Nat} {M : Mem} {S : TS} (h : Sim M0 S0 g c b nT nH nL z A F x M S) : TtS M g := h.1
theorem Sim.st {M0 : Mem} {S0 : TS} {g c b nT nH nL : Nat} {z : Int32} {A : Nat → Prop} {F : Prop} {x : Nat} {M : Mem} {S : TS} (h : Sim M0 S0 g c b nT nH nL z A F x M S) : StS M c := h.2.1
theorem Sim.rd {M0 : Mem} {S0 : TS} {g c b nT nH nL : Nat} {z : Int32} {A : Nat → Prop} {F : Prop} {x : Nat} {M : Mem} {S : TS} (h : Sim M0 S0 g c b nT nH nL z A F x M S) : RdR M g S 0 nT nH nL := h.2.2.1
theorem Sim.fm {M0 : Mem} {S0 : TS} {g c b nT nH nL : Nat} {z : Int32} {A : Nat → Prop} {F : Prop} {x : Nat} {M : Mem} {S : TS} (h : Sim M0 S0 g c b nT nH nL z A F x M S) : FrM c M0 M := h.2.2.2.1
theorem Sim.ft {M0 : Mem} {S0 : TS} {g c b nT nH nL : Nat} {z : Int32} {A : Nat → Prop} {F : Prop} {x : Nat} {M : Mem} {S : TS} (h : Sim M0 S0 g c b nT nH nL z A F x M S) : FrT b S0 S := h.2.2.2.2.1
theorem Sim.si {M0 : Mem} {S0 : TS} {g c b nT nH nL : Nat} {z : Int32} {A : Nat → Prop} {F : Prop} {x : Nat} {M : Mem} {S : TS} (h : Sim M0 S0 g c b nT nH nL z A F x M S) : SiR M S c b nT nH z A x := h.2.2.2.2.2.1
theorem Sim.fp {M0 : Mem} {S0 : TS} {g c b nT nH nL : Nat} {z : Int32} {A : Nat → Prop} {F : Prop} {x : Nat} {M : Mem} {S : TS} (h : Sim M0 S0 g c b nT nH nL z A F x M S) : F → mI M c 14 = tI S 0 68 ∧ In (tI S 0 68) (-1) 60 := h.2.2.2.2.2.2.1
theorem Sim.bb {M0 : Mem} {S0 : TS} {g c b nT nH nL : Nat} {z : Int32} {A : Nat → Prop} {F : Prop} {x : Nat} {M : Mem} {S : TS} (h : Sim M0 S0 g c b nT nH nL z A F x M S) : b ≤ 1 := h.2.2.2.2.2.2.2.1
theorem Sim.om {M0 : Mem} {S0 : TS} {g c b nT nH nL : Nat} {z : Int32} {A : Nat → Prop} {F : Prop} {x : Nat} {M : Mem} {S : TS} (h : Sim M0 S0 g c b nT nH nL z A F x M S) : ∀ k, k < nH → tI S 31 (6 * b + k) = 1 → tI S0 31 (6 * b + k) = 1 := h.2.2.2.2.2.2.2.2.1
theorem Sim.dz {M0 : Mem} {S0 : TS} {g c b nT nH nL : Nat} {z : Int32} {A : Nat → Prop} {F : Prop} {x : Nat} {M : Mem} {S : TS} (h : Sim M0 S0 g c b nT nH nL z A F x M S) : z = 0 → tL S 0 67 = tL S0 0 67 := h.2.2.2.2.2.2.2.2.2
theorem FrM_sI {M : Mem} {a k : Nat} {v : Int32} (h : c ≤ a) (h2 : a < c + 7) : FrM c M (sI M a k v) := by
  refine ⟨rfl, rfl, rfl, rfl, fun x y hx => ?_, fun _ _ _ => rfl⟩
  rw [mI_sI, if_neg]
  rintro ⟨rfl, _⟩
  omega
theorem FrM_sL {M : Mem} {k : Nat} {v : Int64} : FrM c M (sL M 11 k v) := by
  refine ⟨rfl, rfl, rfl, rfl, fun x y hx => rfl, fun x y hx => ?_⟩
  rw [mL_sL, if_neg]
  rintro ⟨rfl, _⟩
  exact hx rfl
theorem FrM_refl {M : Mem} : FrM c M M := ⟨rfl, rfl, rfl, rfl, fun _ _ _ => rfl, fun _ _ _ => rfl⟩
theorem FrM_trans {M M' M'' : Mem} (h : FrM c M M') (k : FrM c M' M'') : FrM c M M'' :=
  ⟨k.n.trans h.n, k.t.trans h.t, k.ln.trans h.ln, k.r.trans h.r, fun a y ha => (k.i a y ha).trans (h.i a y ha), fun a y ha => (k.l a y ha).trans (h.l a y ha)⟩
theorem FrT_refl {S : TS} : FrT b S S := ⟨fun _ _ _ _ _ => rfl, fun _ _ _ _ _ => rfl⟩
theorem FrT_trans {S S' S'' : TS} (h : FrT b S S') (k : FrT b S' S'') : FrT b S S'' :=
  ⟨fun j y h1 h2 h3 => (k.i j y h1 h2 h3).trans (h.i j y h1 h2 h3), fun j y h1 h2 h3 => (k.l j y h1 h2 h3).trans (h.l j y h1 h2 h3)⟩
theorem FrT_tsI {S : TS} {j k : Nat} {v : Int32} (h : (27 ≤ j ∧ j ≤ 33 ∧ 6 * b ≤ k ∧ k < 6 * b + 6) ∨ (34 ≤ j ∧ j ≤ 39 ∧ k = b) ∨ (j = 0 ∧ (k = 53 ∨ k = 68))) : FrT b S (tsI S j k v) := by
  refine ⟨fun x y h1 h2 h3 => ?_, fun _ _ _ _ _ => rfl⟩
  rw [tI_tsI, if_neg]
  rintro ⟨rfl, rfl⟩
  rcases h with h | h | h
  · exact h1 h
  · exact h2 h
  · exact h3 h
theorem FrT_tsL {S : TS} {j k : Nat} {v : Int64} (h : j = 25 ∨ j = 26 ∨ (j = 0 ∧ k = 67)) : FrT b S (tsL S j k v) := by
  refine ⟨fun x y h1 h2 h3 => rfl, fun x y h1 h2 h3 => ?_⟩
  rw [tL_tsL, if_neg]
  rintro ⟨rfl, rfl⟩
  rcases h with h | h | h
  · exact h1 h
  · exact h2 h
  · exact h3 h
theorem TtS_mv {M M' : Mem} (h1 : mN M' = mN M) (h2 : mT M' = mT M) (h3 : mLn M' = mLn M) (h4 : mR M' = mR M) (h : TtS M g) : TtS M' g := by
  unfold TtS StS at h ⊢
  rw [h1, h2, h3, h4]
  exact h
theorem StS_mv {M M' : Mem} (h2 : mT M' = mT M) (h3 : mLn M' = mLn M) (h4 : mR M' = mR M) (h : StS M c) : StS M' c := by
  unfold StS at h ⊢
  rw [h2, h3, h4]
  exact h
theorem StS.rng {M : Mem} (h : StS M c) {a : Nat} (h5 : mT M a ≠ 5) (h100 : mT M a ≠ 100) : a < c ∨ c + 7 ≤ a := by
  refine Decidable.byContradiction fun hn => ?_
  have ha : a = c ∨ a = c + 1 ∨ a = c + 2 ∨ a = c + 3 ∨ a = c + 4 ∨ a = c + 5 ∨ a = c + 6 := by omega
  rcases ha with rfl | rfl | rfl | rfl | rfl | rfl | rfl
  · exact h5 h.k
  · exact h100 h.k1
  · exact h100 h.k2
  · exact h100 h.k3
  · exact h100 h.k4
  · exact h100 h.k5
  · exact h100 h.k6
variable {M0 : Mem} {S0 : TS} {F : Prop}
theorem Sim_wr {M' : Mem} {S' : TS} {A' : Nat → Prop} {F' : Prop} (h : Sim M0 S0 g c b nT nH nL z A F x M S) (fm : FrM c M M') (ft : FrT b S S') (si : SiR M' S' c b nT nH z A' x) (fp : F' → mI M' c 14 = tI S' 0 68 ∧ In (tI S' 0 68) (-1) 60) (om : ∀ k, k < nH → tI S' 31 (6 * b + k) = 1 → tI S 31 (6 * b + k) = 1 := by intro k hk h1; simpa [tI_tsI, tI_tsL] using h1) (dz : z = 0 → tL S' 0 67 = tL S 0 67 := by intro hz; simp [tL_tsI, tL_tsL]) : Sim M0 S0 g c b nT nH nL z A' F' x M' S' := by
  refine ⟨TtS_mv fm.n fm.t fm.ln fm.r h.tt, StS_mv fm.t fm.ln fm.r h.st, ?_, FrM_trans h.fm fm, FrT_trans h.ft ft, si, fp, h.bb, fun k hk h1 => h.om k hk (om k hk h1), fun hz => (dz hz).trans (h.dz hz)⟩
  refine RdR_mv fm.t fm.ln fm.r (fun a k h5 h100 => fm.i a k (h.st.rng h5 h100)) (fun j k h1 h2 => ft.i j k (by omega) (by omega) (by omega)) (fun k h1 h2 => ft.i 0 k (by omega) (by omega) (by omega)) (by omega) h.rd
theorem sim_p (h : Sim M0 S0 g c b nT nH nL z A F x M S) {k : Nat} {v : Int32} (hk : k < nH) (hv : In v 0 60) : Sim M0 S0 g c b nT nH nL z A F x (sI M (c + 1) k v) (tsI S 27 (6 * b + k) v) := by
  have n1 := h.rd.nh
  have n2 := h.rd.nt
  refine Sim_wr h (FrM_sI (by omega) (by omega)) (FrT_tsI (by omega)) (si_p h.si hk hv) (fun hf => ?_)
  simp [mI_sI, tI_tsI]
  exact h.fp hf
theorem sim_th (h : Sim M0 S0 g c b nT nH nL z A F x M S) {k : Nat} {v : Int32} (hk : k < nH) (hv : In v 0 198) (ha : A k → tI S 31 (6 * b + k) = 1 → v.toInt < 100) : Sim M0 S0 g c b nT nH nL z A F x (sI M (c + 2) k v) (tsI S 28 (6 * b + k) v) := by
  have n1 := h.rd.nh
  have n2 := h.rd.nt
  refine Sim_wr h (FrM_sI (by omega) (by omega)) (FrT_tsI (by omega)) (si_th h.si hk hv ha) (fun hf => ?_)
  simp [mI_sI, tI_tsI]
  exact h.fp hf
theorem sim_go (h : Sim M0 S0 g c b nT nH nL z A F x M S) {k : Nat} {v : Int32} (hk : k < nH) (hv : v = -1 ∨ ∃ t, t < nT ∧ v = Int32.ofNat t) : Sim M0 S0 g c b nT nH nL z A F x (sI M (c + 3) k v) (tsI S 29 (6 * b + k) v) := by
  have n1 := h.rd.nh
  have n2 := h.rd.nt
  refine Sim_wr h (FrM_sI (by omega) (by omega)) (FrT_tsI (by omega)) (si_go h.si hk hv) (fun hf => ?_)
  simp [mI_sI, tI_tsI]
  exact h.fp hf
theorem sim_hu (h : Sim M0 S0 g c b nT nH nL z A F x M S) {k : Nat} {v : Int32} (hk : k < nH) : Sim M0 S0 g c b nT nH nL z A F x (sI M (c + 4) k v) (tsI S 30 (6 * b + k) v) := by
  have n1 := h.rd.nh
  have n2 := h.rd.nt
  refine Sim_wr h (FrM_sI (by omega) (by omega)) (FrT_tsI (by omega)) (si_hu h.si hk) (fun hf => ?_)
  simp [mI_sI, tI_tsI]
  exact h.fp hf
theorem sim_dr (h : Sim M0 S0 g c b nT nH nL z A F x M S) {k : Nat} {v : Int32} (hk : k < nH) : Sim M0 S0 g c b nT nH nL z A F x (sI M (c + 5) k v) (tsI S 32 (6 * b + k) v) := by
  have n1 := h.rd.nh
  have n2 := h.rd.nt
  refine Sim_wr h (FrM_sI (by omega) (by omega)) (FrT_tsI (by omega)) (si_dr h.si hk) (fun hf => ?_)
  simp [mI_sI, tI_tsI]
  exact h.fp hf
theorem sim_wa (h : Sim M0 S0 g c b nT nH nL z A F x M S) {k : Nat} {v : Int32} (hk : k < nT) (hv : In v 0 99) : Sim M0 S0 g c b nT nH nL z A F x (sI M (c + 6) k v) (tsI S 33 (6 * b + k) v) := by
  have n1 := h.rd.nh
  have n2 := h.rd.nt
  refine Sim_wr h (FrM_sI (by omega) (by omega)) (FrT_tsI (by omega)) (si_wa h.si hk hv) (fun hf => ?_)
  simp [mI_sI, tI_tsI]
  exact h.fp hf
theorem sim_hour (h : Sim M0 S0 g c b nT nH nL z A F x M S) {v : Int32}  : Sim M0 S0 g c b nT nH nL z A F x (sI M (c) 6 v) (tsI S 37 (b) v) := by
  have n1 := h.rd.nh
  have n2 := h.rd.nt
  refine Sim_wr h (FrM_sI (by omega) (by omega)) (FrT_tsI (by omega)) (si_hour h.si ) (fun hf => ?_)
  simp [mI_sI, tI_tsI]
  exact h.fp hf
theorem sim_fi (h : Sim M0 S0 g c b nT nH nL z A F x M S) {v : Int32}  : Sim M0 S0 g c b nT nH nL z A F x (sI M (c) 8 v) (tsI S 34 (b) v) := by
  have n1 := h.rd.nh
  have n2 := h.rd.nt
  refine Sim_wr h (FrM_sI (by omega) (by omega)) (FrT_tsI (by omega)) (si_fi h.si ) (fun hf => ?_)
  simp [mI_sI, tI_tsI]
  exact h.fp hf
theorem sim_ta (h : Sim M0 S0 g c b nT nH nL z A F x M S) {v : Int32}  : Sim M0 S0 g c b nT nH nL z A F x (sI M (c) 9 v) (tsI S 35 (b) v) := by
  have n1 := h.rd.nh
  have n2 := h.rd.nt
  refine Sim_wr h (FrM_sI (by omega) (by omega)) (FrT_tsI (by omega)) (si_ta h.si ) (fun hf => ?_)
  simp [mI_sI, tI_tsI]
  exact h.fp hf
theorem sim_dk (h : Sim M0 S0 g c b nT nH nL z A F x M S) {v : Int32}  : Sim M0 S0 g c b nT nH nL z A F x (sI M (c) 10 v) (tsI S 36 (b) v) := by
  have n1 := h.rd.nh
  have n2 := h.rd.nt
  refine Sim_wr h (FrM_sI (by omega) (by omega)) (FrT_tsI (by omega)) (si_dk h.si ) (fun hf => ?_)
  simp [mI_sI, tI_tsI]
  exact h.fp hf
theorem sim_tk (h : Sim M0 S0 g c b nT nH nL z A F x M S) {v : Int32}  : Sim M0 S0 g c b nT nH nL z A F x (sI M (c) 15 v) (tsI S 38 (b) v) := by
  have n1 := h.rd.nh
  have n2 := h.rd.nt
  refine Sim_wr h (FrM_sI (by omega) (by omega)) (FrT_tsI (by omega)) (si_tk h.si ) (fun hf => ?_)
  simp [mI_sI, tI_tsI]
  exact h.fp hf
theorem sim_fo (h : Sim M0 S0 g c b nT nH nL z A F x M S) {v : Int32}  : Sim M0 S0 g c b nT nH nL z A F x (sI M (c) 16 v) (tsI S 39 (b) v) := by
  have n1 := h.rd.nh
  have n2 := h.rd.nt
  refine Sim_wr h (FrM_sI (by omega) (by omega)) (FrT_tsI (by omega)) (si_fo h.si ) (fun hf => ?_)
  simp [mI_sI, tI_tsI]
  exact h.fp hf
theorem sim_fp (h : Sim M0 S0 g c b nT nH nL z A F x M S) {v : Int32} (hv : In v (-1) 60) : Sim M0 S0 g c b nT nH nL z A True x (sI M c 14 v) (tsI S 0 68 v) := by
  refine Sim_wr h (FrM_sI (by omega) (by omega)) (FrT_tsI (by omega)) (si_fp h.si) (fun hf => ?_)
  simp [mI_sI, tI_tsI]
  exact hv
theorem sim_nm (h : Sim M0 S0 g c b nT nH nL z A F x M S) {k j : Nat} {v w : Int64} (hj : j = 25 ∨ j = 26) : Sim M0 S0 g c b nT nH nL z A F x (sL M 11 k v) (tsL S j k w) := 
  Sim_wr h FrM_sL (FrT_tsL (by omega)) (si_sL (si_tsL h.si (by omega))) h.fp (dz := fun _ => by rw [tL_tsL, if_neg (by omega)])
theorem sim_nmS (h : Sim M0 S0 g c b nT nH nL z A F x M S) {k j : Nat} {w : Int64} (hj : j = 25 ∨ j = 26) : Sim M0 S0 g c b nT nH nL z A F x M (tsL S j k w) := 
  Sim_wr h FrM_refl (FrT_tsL (by omega)) (si_tsL h.si (by omega)) h.fp (dz := fun _ => by rw [tL_tsL, if_neg (by omega)])
theorem sim_nmM (h : Sim M0 S0 g c b nT nH nL z A F x M S) {k : Nat} {v : Int64} : Sim M0 S0 g c b nT nH nL z A F x (sL M 11 k v) S := 
  Sim_wr h FrM_sL FrT_refl (si_sL h.si) h.fp
theorem sim_err (h : Sim M0 S0 g c b nT nH nL z A F x M S) {v : Int32} : Sim M0 S0 g c b nT nH nL z A F x M (tsI S 0 53 v) := by
  refine Sim_wr h FrM_refl (FrT_tsI (by omega)) (si_err h.si) (fun hf => ?_)
  simp [tI_tsI]
  exact h.fp hf
theorem sim_A (h : Sim M0 S0 g c b nT nH nL z A F x M S) {A' : Nat → Prop} (ha : ∀ k, A' k → A k) : Sim M0 S0 g c b nT nH nL z A' F x M S :=
  Sim_wr h FrM_refl FrT_refl ⟨h.si.p, h.si.th, h.si.go, h.si.hu, h.si.dr, h.si.wa, h.si.pB, h.si.gB, h.si.tB, h.si.wB, fun k hk h1 h2 => h.si.tA k hk (ha k h1) h2, h.si.onb, h.si.onv, h.si.hour, h.si.fi, h.si.ta, h.si.dk, h.si.tk, h.si.fo, h.si.fast, h.si.noR, h.si.noD, h.si.dw, h.si.num, h.si.z01⟩ h.fp
/-- the twin is ahead at one horse's hurt -/
theorem sim_hu1 (h : Sim M0 S0 g c b nT nH nL z A F 99 M S) {k : Nat} {v : Int32} (hk : k < nH) : Sim M0 S0 g c b nT nH nL z A F k M (tsI S 30 (6 * b + k) v) := by
  have n1 := h.rd.nh
  have n2 := h.rd.nt
  have s := h.si
  have hh : SiR M (tsI S 30 (6 * b + k) v) c b nT nH z A k := by
    refine ⟨?_, ?_, ?_, ?_, ?_, ?_, ?_, ?_, ?_, ?_, ?_, ?_, ?_, ?_, ?_, ?_, ?_, ?_, ?_, ?_, ?_, ?_, ?_, ?_, ?_⟩
    all_goals try simp [tI_tsI, tL_tsI]
    all_goals first
      | exact s.p | exact s.th | exact s.go | exact s.dr | exact s.wa | exact s.pB | exact s.gB | exact s.tB | exact s.wB | exact s.tA | exact s.onb | exact s.onv | exact s.hour | exact s.fi | exact s.ta | exact s.dk | exact s.tk | exact s.fo | exact s.fast | exact s.noR | exact s.noD | exact s.dw | exact s.num | exact s.z01
      | (intro j hj hx
         first | rw [if_neg hx] | skip
         first | exact s.hu j hj (by omega) | simp [hx]; exact s.hu j hj (by omega))
  refine ⟨h.tt, h.st, ?_, h.fm, FrT_trans h.ft (FrT_tsI (by omega)), hh, fun hf => ?_, h.bb, fun k hk h1 => h.om k hk (by simpa [tI_tsI] using h1), h.dz⟩
  · exact RdR_mv rfl rfl rfl (fun _ _ _ _ => rfl) (fun j k h1 h2 => by rw [tI_tsI, if_neg (by omega)]) (fun k h1 h2 => by rw [tI_tsI, if_neg (by omega)]) (by omega) h.rd
  · rw [tI_tsI, if_neg (by omega)]
    exact h.fp hf
theorem sim_hu2 {k : Nat} (h : Sim M0 S0 g c b nT nH nL z A F k M S) {v : Int32} (hk : k < nH) (hv : tI S 30 (6 * b + k) = v) : Sim M0 S0 g c b nT nH nL z A F 99 (sI M (c + 4) k v) S := by
  have n1 := h.rd.nh
  have s := h.si
  have ho := s.onv
  have fm : FrM c M (sI M (c + 4) k v) := FrM_sI (by omega) (by omega)
  have hh : SiR (sI M (c + 4) k v) S c b nT nH z A 99 := by
    refine ⟨?_, ?_, ?_, ?_, ?_, ?_, ?_, ?_, ?_, ?_, ?_, ?_, ?_, ?_, ?_, ?_, ?_, ?_, ?_, ?_, ?_, ?_, ?_, ?_, ?_⟩
    all_goals try simp only [onV_ne (show c + 4 ≠ c by omega)]
    all_goals try simp [mI_sI, mL_sI]
    all_goals first
      | exact s.p | exact s.th | exact s.go | exact s.dr | exact s.wa | exact s.pB | exact s.gB | exact s.tB | exact s.wB | exact s.tA | exact s.onb | exact s.onv | exact s.hour | exact s.fi | exact s.ta | exact s.dk | exact s.tk | exact s.fo | exact s.fast | exact s.noR | exact s.noD | exact s.dw | exact s.num | exact s.z01
      | (intro j hj hx
         split
         · rename_i e
           subst e
           exact hv.symm
         · rename_i e
           exact s.hu j hj e)
  refine ⟨TtS_mv fm.n fm.t fm.ln fm.r h.tt, StS_mv fm.t fm.ln fm.r h.st, ?_, FrM_trans h.fm fm, h.ft, hh, fun hf => ?_, h.bb, fun k hk h1 => h.om k hk (by simpa [tI_tsI] using h1), h.dz⟩
  · exact RdR_mv fm.t fm.ln fm.r (fun a k h5 h100 => fm.i a k (h.st.rng h5 h100)) (fun _ _ _ _ => rfl) (fun _ _ _ => rfl) (by omega) h.rd
  · rw [mI_sI, if_neg (by omega)]
    exact h.fp hf
end
