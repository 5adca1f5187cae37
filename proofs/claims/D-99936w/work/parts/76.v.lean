set_option maxRecDepth 100000
section
/-! roads, moved by what changes no cell of a road -/
def RK (t : Nat) : Prop := t = 2 ∨ t = 3 ∨ (7 ≤ t ∧ t ≤ 15) ∨ t = 104 ∨ t = 105
/-- the cells of roads stand -/
def Rst (M M' : Mem) : Prop := ∀ a, RK (mT M a) → mT M' a = mT M a ∧ mLn M' a = mLn M a ∧ ∀ k, mR M' a k = mR M a k ∧ mI M' a k = mI M a k
theorem Tr_mv2 {M M' : Mem} {S S' : TS} {q : Nat} (hM : Rst M M') (hS : ∀ j k, j = 20 ∨ j = 21 ∨ j = 22 → q ≤ k → k < q + 64 → tI S' j k = tI S j k) : ∀ d p lo hi, Tr M S q d p lo hi → Tr M' S' q d p lo hi := by
  intro d
  induction d with
  | zero => intro p lo hi h; exact h
  | succ d ih =>
    intro p lo hi h
    obtain ⟨h0, h⟩ := h
    have hr : RK (mT M p) := by unfold RK; omega
    obtain ⟨e1, _, e2⟩ := hM p hr
    refine ⟨h0, ?_⟩
    rw [e1, (e2 0).1, (e2 2).1, (e2 0).2, (e2 1).2]
    rcases h with ⟨h1, h2, h3, h4⟩ | ⟨h1, h2, h3, h4, w, h5, h6⟩ | ⟨h1, a, m, h2, h3, h4, h5, h6, h7⟩ | ⟨h1, a, b, m, n, w, h2, h3, h4, h5, h6, h7, h8, h9, h10, h11, h12⟩
    · refine Or.inl ⟨h1, h2, ?_, ?_⟩
      · rw [hS _ _ (by omega) (by omega) (by omega), h3]
      · rw [hS _ _ (by omega) (by omega) (by omega), h4]
    · refine Or.inr (Or.inl ⟨h1, h2, ?_, ?_, w, h5, h6⟩)
      · rw [hS _ _ (by omega) (by omega) (by omega), h3]
      · rw [hS _ _ (by omega) (by omega) (by omega), h4]
    · refine Or.inr (Or.inr (Or.inl ⟨h1, a, m, h2, h3, h4, ih _ _ _ h5, ?_, ?_⟩))
      · rw [hS _ _ (by omega) (by omega) (by omega), h6]
      · rw [hS _ _ (by omega) (by omega) (by omega), h7]
    · refine Or.inr (Or.inr (Or.inr ⟨h1, a, b, m, n, w, h2, h3, h4, h5, h6, ih _ _ _ h7, ih _ _ _ h8, ?_, ?_, ?_, h12⟩))
      · rw [hS _ _ (by omega) (by omega) (by omega), h9]
      · rw [hS _ _ (by omega) (by omega) (by omega), h10]
      · rw [hS _ _ (by omega) (by omega) (by omega), h11]
theorem LsS_adr {M M' : Mem} {l n kk cap : Nat} (hM : Rst M M') (h : LsS M l n kk cap) : elA M' l = elA M l ∧ ∀ k, itA M' l k = itA M l k := by
  have e := (hM l (by rw [h.k]; unfold RK; omega)).2.2 1
  have e1 : elA M' l = elA M l := by unfold elA; rw [e.1]
  refine ⟨e1, fun k => ?_⟩
  unfold itA
  rw [e1, ((hM _ (by rw [h.e]; unfold RK; omega)).2.2 k).1]
theorem LsS_mv2 {M M' : Mem} {l n kk cap : Nat} (hM : Rst M M') (hkk : RK kk) (h : LsS M l n kk cap) : LsS M' l n kk cap := by
  obtain ⟨e1, e2⟩ := LsS_adr hM h
  have hl := hM l (by rw [h.k]; unfold RK; omega)
  have he := hM _ (show RK (mT M (elA M l)) by rw [h.e]; unfold RK; omega)
  unfold LsS
  simp only [e1, e2]
  refine ⟨hl.1.trans h.k, (hl.2.2 2).2.trans h.n, (hl.2.2 1).1.trans h.r, he.1.trans h.e, he.2.1.trans h.ln, h.le, fun k hk => ((he.2.2 k).1).trans (h.it k hk), fun k hk => ?_⟩
  rw [(hM _ (by rw [h.ik k hk]; exact hkk)).1]
  exact h.ik k hk
theorem RdR_mv2 {M M' : Mem} {S S' : TS} {g u nT nH nL : Nat} (hM : Rst M M')
    (hS : ∀ j k, 4 ≤ j → j ≤ 22 → tI S' j k = tI S j k) (hF : ∀ k, 12 ≤ k → k ≤ 22 → tI S' 0 k = tI S 0 k) (hu : u ≤ 1) (h : RdR M g S u nT nH nL) : RdR M' g S' u nT nH nL := by
  have hg := hM g (by rw [h.k]; unfold RK; omega)
  have e3 : tlA M' g = tlA M g := by unfold tlA; rw [(hg.2.2 0).1]
  have e4 : hlA M' g = hlA M g := by unfold hlA; rw [(hg.2.2 1).1]
  have e5 : plA M' g = plA M g := by unfold plA; rw [(hg.2.2 2).1]
  have e6 : wlA M' g = wlA M g := by unfold wlA; rw [(hg.2.2 3).1]
  have e7 : ∀ k, trA M' g k = trA M g k := fun k => by unfold trA; rw [e3]; exact (LsS_adr hM h.tl).2 k
  have e8 : ∀ k, hsA M' g k = hsA M g k := fun k => by unfold hsA; rw [e4]; exact (LsS_adr hM h.hl).2 k
  have e9 : ∀ k, lpA M' g k = lpA M g k := fun k => by unfold lpA; rw [e5]; exact (LsS_adr hM h.pl).2 k
  have hw := hM (wlA M g) (by rw [h.wk]; unfold RK; omega)
  have gi : ∀ k, mI M' g k = mI M g k := fun k => (hg.2.2 k).2
  have gr : ∀ k, mR M' g k = mR M g k := fun k => (hg.2.2 k).1
  have wr : ∀ k, mR M' (wlA M g) k = mR M (wlA M g) k := fun k => (hw.2.2 k).1
  have ti : ∀ t k, t < nT → mI M' (trA M g t) k = mI M (trA M g t) k := fun t k ht => ((hM _ (by rw [h.tk ht]; unfold RK; omega)).2.2 k).2
  have hi : ∀ t k, t < nH → mI M' (hsA M g t) k = mI M (hsA M g t) k := fun t k ht => ((hM _ (by rw [h.hk ht]; unfold RK; omega)).2.2 k).2
  have li : ∀ t k, t < nL → mI M' (lpA M g t) k = mI M (lpA M g t) k := fun t k ht => ((hM _ (by rw [h.pk ht]; unfold RK; omega)).2.2 k).2
  unfold RdR
  simp only [e3, e4, e5, e6, e7, e8, e9, gi, gr, wr]
  rw [hF (12 + 5 * u) (by omega) (by omega), hF (13 + 5 * u) (by omega) (by omega), hF (14 + 5 * u) (by omega) (by omega), hF (15 + 5 * u) (by omega) (by omega), hS 4 _ (by omega) (by omega), hS 4 _ (by omega) (by omega)]
  have s5 := fun k => hS 5 k (by omega) (by omega)
  have s6 := fun k => hS 6 k (by omega) (by omega)
  have s7 := fun k => hS 7 k (by omega) (by omega)
  have s8 := fun k => hS 8 k (by omega) (by omega)
  have s9 := fun k => hS 9 k (by omega) (by omega)
  have s10 := fun k => hS 10 k (by omega) (by omega)
  have s11 := fun k => hS 11 k (by omega) (by omega)
  have s12 := fun k => hS 12 k (by omega) (by omega)
  have s13 := fun k => hS 13 k (by omega) (by omega)
  have s14 := fun k => hS 14 k (by omega) (by omega)
  have s15 := fun k => hS 15 k (by omega) (by omega)
  have s16 := fun k => hS 16 k (by omega) (by omega)
  have s17 := fun k => hS 17 k (by omega) (by omega)
  have s18 := fun k => hS 18 k (by omega) (by omega)
  have s19 := fun k => hS 19 k (by omega) (by omega)
  simp only [s5, s6, s7, s8, s9, s10, s11, s12, s13, s14, s15, s16, s17, s18, s19]
  refine ⟨hg.1.trans h.k, h.nt, h.nh, h.nl, h.r0, h.r1, h.r2, h.r3, LsS_mv2 hM (by unfold RK; omega) h.tl, LsS_mv2 hM (by unfold RK; omega) h.hl, LsS_mv2 hM (by unfold RK; omega) h.pl, hw.1.trans h.wk, hw.2.1.trans h.wn, h.cT, h.cH, h.cL, h.len, h.rain, h.seed, h.lenB, h.rainB, h.seedB, ?_, ?_, ?_, ?_, h.tPB, h.tWB, h.tFB, ?_, ?_, ?_, ?_, ?_, h.hPB, h.hSB, h.hTB, h.hCB, ?_, ?_, ?_, h.lHB, h.lTB, ?_⟩
  · intro t ht; rw [ti t _ ht]; exact h.tP t ht
  · intro t ht; rw [ti t _ ht]; exact h.tN t ht
  · intro t ht; rw [ti t _ ht]; exact h.tW t ht
  · intro t ht; rw [ti t _ ht]; exact h.tF t ht
  · intro t ht; rw [hi t _ ht]; exact h.hP t ht
  · intro t ht; rw [hi t _ ht]; exact h.hN t ht
  · intro t ht; rw [hi t _ ht]; exact h.hS t ht
  · intro t ht; rw [hi t _ ht]; exact h.hT t ht
  · intro t ht; rw [hi t _ ht]; exact h.hC t ht
  · intro t ht; rw [li t _ ht]; exact h.lH t ht
  · intro t ht; rw [li t _ ht]; exact h.lT t ht
  · intro t ht; rw [li t _ ht]; exact h.lO t ht
  · intro k hk
    rcases h.law k hk with h1 | ⟨p, lo, hi, h1, h2, h3, h4, h5, h6⟩
    · exact Or.inl h1
    · exact Or.inr ⟨p, lo, hi, h1, h2, h3, h4, h5, Tr_mv2 hM (fun j k hj _ _ => hS j k (by omega) (by omega)) _ _ _ _ h6⟩
/-! all that is told between two calls -/
def seA (M : Mem) (k : Nat) : Nat := (mR M 38 k).getD 0
def SnR (M : Mem) (S : TS) (nT ns : Nat) : Prop := (ns ≤ 24) ∧ (mT M 37 = 3) ∧ (mI M 37 2 = Int32.ofNat ns) ∧ (mR M 37 1 = some 38) ∧ (mT M 38 = 104) ∧ (mLn M 38 = 24) ∧ (tI S 0 74 = Int32.ofNat ns) ∧ (∀ k, k < ns → mR M 38 k = some (seA M k)) ∧ (∀ k, k < ns → (mT M (seA M k) = 14 ∧ mI M (seA M k) 0 = tI S 41 (4 * k) ∧ In (tI S 41 (4 * k)) 1 60 ∧ mI M (seA M k) 1 = tI S 41 (4 * k + 1) ∧ (∃ t, t < nT ∧ tI S 41 (4 * k + 1) = Int32.ofNat t) ∧ mI M (seA M k) 2 = tI S 41 (4 * k + 2) ∧ mI M (seA M k) 3 = tI S 41 (4 * k + 3) ∧ (tI S 41 (4 * k + 3) = 0 ∨ tI S 41 (4 * k + 3) = 1)) ∨ (mT M (seA M k) = 15 ∧ tI S 41 (4 * k) = -1 ∧ mI M (seA M k) 0 = tI S 41 (4 * k + 1) ∧ ∃ j, j < k ∧ tI S 41 (4 * k + 1) = Int32.ofNat j)) ∧ (mI M 0 18 = tI S 0 75) ∧ (tI S 0 75 = -1 ∨ ∃ j, j ≤ ns ∧ tI S 0 75 = Int32.ofNat j)
theorem SnR.n {M : Mem} {S : TS} {nT ns : Nat} (h : SnR M S nT ns) : ns ≤ 24 := h.1
theorem SnR.k {M : Mem} {S : TS} {nT ns : Nat} (h : SnR M S nT ns) : mT M 37 = 3 := h.2.1
theorem SnR.sz {M : Mem} {S : TS} {nT ns : Nat} (h : SnR M S nT ns) : mI M 37 2 = Int32.ofNat ns := h.2.2.1
theorem SnR.r {M : Mem} {S : TS} {nT ns : Nat} (h : SnR M S nT ns) : mR M 37 1 = some 38 := h.2.2.2.1
theorem SnR.e {M : Mem} {S : TS} {nT ns : Nat} (h : SnR M S nT ns) : mT M 38 = 104 := h.2.2.2.2.1
theorem SnR.ln {M : Mem} {S : TS} {nT ns : Nat} (h : SnR M S nT ns) : mLn M 38 = 24 := h.2.2.2.2.2.1
theorem SnR.c {M : Mem} {S : TS} {nT ns : Nat} (h : SnR M S nT ns) : tI S 0 74 = Int32.ofNat ns := h.2.2.2.2.2.2.1
theorem SnR.it {M : Mem} {S : TS} {nT ns : Nat} (h : SnR M S nT ns) : ∀ k, k < ns → mR M 38 k = some (seA M k) := h.2.2.2.2.2.2.2.1
theorem SnR.v {M : Mem} {S : TS} {nT ns : Nat} (h : SnR M S nT ns) : ∀ k, k < ns → (mT M (seA M k) = 14 ∧ mI M (seA M k) 0 = tI S 41 (4 * k) ∧ In (tI S 41 (4 * k)) 1 60 ∧ mI M (seA M k) 1 = tI S 41 (4 * k + 1) ∧ (∃ t, t < nT ∧ tI S 41 (4 * k + 1) = Int32.ofNat t) ∧ mI M (seA M k) 2 = tI S 41 (4 * k + 2) ∧ mI M (seA M k) 3 = tI S 41 (4 * k + 3) ∧ (tI S 41 (4 * k + 3) = 0 ∨ tI S 41 (4 * k + 3) = 1)) ∨ (mT M (seA M k) = 15 ∧ tI S 41 (4 * k) = -1 ∧ mI M (seA M k) 0 = tI S 41 (4 * k + 1) ∧ ∃ j, j < k ∧ tI S 41 (4 * k + 1) = Int32.ofNat j) := h.2.2.2.2.2.2.2.2.1
theorem SnR.kn {M : Mem} {S : TS} {nT ns : Nat} (h : SnR M S nT ns) : mI M 0 18 = tI S 0 75 := h.2.2.2.2.2.2.2.2.2.1
theorem SnR.kb {M : Mem} {S : TS} {nT ns : Nat} (h : SnR M S nT ns) : tI S 0 75 = -1 ∨ ∃ j, j ≤ ns ∧ tI S 0 75 = Int32.ofNat j := h.2.2.2.2.2.2.2.2.2.2
/-- a kept state and a row of the twin -/
def UnR (M : Mem) (S : TS) (nT nH i q : Nat) : Prop := (∀ k, k < nH → mI M (q + 1) k = tI S 43 (18 * i + k) ∧ In (tI S 43 (18 * i + k)) 0 60) ∧ (∀ k, k < nH → mI M (q + 3) k = tI S 43 (18 * i + 6 + k) ∧ (tI S 43 (18 * i + 6 + k) = -1 ∨ ∃ t, t < nT ∧ tI S 43 (18 * i + 6 + k) = Int32.ofNat t)) ∧ (∀ k, k < nT → mI M (q + 6) k = tI S 43 (18 * i + 12 + k) ∧ In (tI S 43 (18 * i + 12 + k)) 0 99) ∧ (∀ k, k < nH → mI M (q + 2) k = mI M 15 k) ∧ (∀ k, k < nH → mI M (q + 4) k = mI M 17 k) ∧ (∀ k, k < nH → mI M (q + 5) k = mI M 18 k) ∧ (∀ k, 6 ≤ k → k ≤ 16 → k ≠ 13 → k ≠ 14 → mI M q k = mI M 13 k)
theorem UnR.p {M : Mem} {S : TS} {nT nH i q : Nat} (h : UnR M S nT nH i q) : ∀ k, k < nH → mI M (q + 1) k = tI S 43 (18 * i + k) ∧ In (tI S 43 (18 * i + k)) 0 60 := h.1
theorem UnR.g {M : Mem} {S : TS} {nT nH i q : Nat} (h : UnR M S nT nH i q) : ∀ k, k < nH → mI M (q + 3) k = tI S 43 (18 * i + 6 + k) ∧ (tI S 43 (18 * i + 6 + k) = -1 ∨ ∃ t, t < nT ∧ tI S 43 (18 * i + 6 + k) = Int32.ofNat t) := h.2.1
theorem UnR.w {M : Mem} {S : TS} {nT nH i q : Nat} (h : UnR M S nT nH i q) : ∀ k, k < nT → mI M (q + 6) k = tI S 43 (18 * i + 12 + k) ∧ In (tI S 43 (18 * i + 12 + k)) 0 99 := h.2.2.1
theorem UnR.th {M : Mem} {S : TS} {nT nH i q : Nat} (h : UnR M S nT nH i q) : ∀ k, k < nH → mI M (q + 2) k = mI M 15 k := h.2.2.2.1
theorem UnR.hu {M : Mem} {S : TS} {nT nH i q : Nat} (h : UnR M S nT nH i q) : ∀ k, k < nH → mI M (q + 4) k = mI M 17 k := h.2.2.2.2.1
theorem UnR.dr {M : Mem} {S : TS} {nT nH i q : Nat} (h : UnR M S nT nH i q) : ∀ k, k < nH → mI M (q + 5) k = mI M 18 k := h.2.2.2.2.2.1
theorem UnR.f {M : Mem} {S : TS} {nT nH i q : Nat} (h : UnR M S nT nH i q) : ∀ k, 6 ≤ k → k ≤ 16 → k ≠ 13 → k ≠ 14 → mI M q k = mI M 13 k := h.2.2.2.2.2.2
def KpR (M : Mem) (S : TS) (nT nH nk : Nat) : Prop := (nk ≤ 20) ∧ (mI M 0 4 = Int32.ofNat nk) ∧ (tI S 0 78 = Int32.ofNat nk) ∧ (∀ i, i < 20 → mR M 34 i = none ∨ ∃ q, mR M 34 i = some q ∧ StS M q ∧ 87 ≤ q) ∧ (∀ i j q, i < 20 → j < 20 → mR M 34 i = some q → mR M 34 j = some q → i = j) ∧ (∀ i, i < nk → ∃ q, mR M 34 i = some q ∧ UnR M S nT nH i q)
theorem KpR.n {M : Mem} {S : TS} {nT nH nk : Nat} (h : KpR M S nT nH nk) : nk ≤ 20 := h.1
theorem KpR.m {M : Mem} {S : TS} {nT nH nk : Nat} (h : KpR M S nT nH nk) : mI M 0 4 = Int32.ofNat nk := h.2.1
theorem KpR.u {M : Mem} {S : TS} {nT nH nk : Nat} (h : KpR M S nT nH nk) : tI S 0 78 = Int32.ofNat nk := h.2.2.1
theorem KpR.a {M : Mem} {S : TS} {nT nH nk : Nat} (h : KpR M S nT nH nk) : ∀ i, i < 20 → mR M 34 i = none ∨ ∃ q, mR M 34 i = some q ∧ StS M q ∧ 87 ≤ q := h.2.2.2.1
theorem KpR.d {M : Mem} {S : TS} {nT nH nk : Nat} (h : KpR M S nT nH nk) : ∀ i j q, i < 20 → j < 20 → mR M 34 i = some q → mR M 34 j = some q → i = j := h.2.2.2.2.1
theorem KpR.v {M : Mem} {S : TS} {nT nH nk : Nat} (h : KpR M S nT nH nk) : ∀ i, i < nk → ∃ q, mR M 34 i = some q ∧ UnR M S nT nH i q := h.2.2.2.2.2
/-- the image -/
def ImR (M : Mem) (S : TS) (nT nH : Nat) : Prop := (∀ k, k < nH → mI M 28 k = tI S 44 k ∧ In (tI S 44 k) 0 60) ∧ (∀ k, k < nH → mI M 30 k = tI S 44 (6 + k) ∧ (tI S 44 (6 + k) = -1 ∨ ∃ t, t < nT ∧ tI S 44 (6 + k) = Int32.ofNat t)) ∧ (∀ k, k < nT → mI M 33 k = tI S 44 (12 + k) ∧ In (tI S 44 (12 + k)) 0 99) ∧ (∀ k, k < nH → mI M 29 k = tI S 45 k ∧ In (tI S 45 k) 0 198 ∧ (tI S 45 (12 + k) = 1 → (tI S 45 k).toInt < 100)) ∧ (∀ k, k < nH → mI M 31 k = tI S 45 (6 + k)) ∧ (∀ k, k < nH → mI M 32 k = tI S 45 (18 + k)) ∧ (∃ o, o < 2 ^ nH ∧ mI M 27 7 = Int32.ofNat o) ∧ (∀ k, k < nH → onV M 27 k = tI S 45 (12 + k)) ∧ (mI M 27 8 = tI S 45 24) ∧ (mI M 27 9 = tI S 45 25) ∧ (mI M 27 10 = tI S 45 26) ∧ (mI M 27 6 = tI S 45 27) ∧ (mI M 27 15 = tI S 45 28) ∧ (mI M 27 16 = tI S 45 29) ∧ ((mI M 27 11).toInt64 = tL S 0 83 ∧ 0 ≤ (mI M 27 11).toInt) ∧ (mI M 27 12 = -1)
theorem ImR.p {M : Mem} {S : TS} {nT nH : Nat} (h : ImR M S nT nH) : ∀ k, k < nH → mI M 28 k = tI S 44 k ∧ In (tI S 44 k) 0 60 := h.1
theorem ImR.g {M : Mem} {S : TS} {nT nH : Nat} (h : ImR M S nT nH) : ∀ k, k < nH → mI M 30 k = tI S 44 (6 + k) ∧ (tI S 44 (6 + k) = -1 ∨ ∃ t, t < nT ∧ tI S 44 (6 + k) = Int32.ofNat t) := h.2.1
theorem ImR.w {M : Mem} {S : TS} {nT nH : Nat} (h : ImR M S nT nH) : ∀ k, k < nT → mI M 33 k = tI S 44 (12 + k) ∧ In (tI S 44 (12 + k)) 0 99 := h.2.2.1
theorem ImR.th {M : Mem} {S : TS} {nT nH : Nat} (h : ImR M S nT nH) : ∀ k, k < nH → mI M 29 k = tI S 45 k ∧ In (tI S 45 k) 0 198 ∧ (tI S 45 (12 + k) = 1 → (tI S 45 k).toInt < 100) := h.2.2.2.1
theorem ImR.hu {M : Mem} {S : TS} {nT nH : Nat} (h : ImR M S nT nH) : ∀ k, k < nH → mI M 31 k = tI S 45 (6 + k) := h.2.2.2.2.1
theorem ImR.dr {M : Mem} {S : TS} {nT nH : Nat} (h : ImR M S nT nH) : ∀ k, k < nH → mI M 32 k = tI S 45 (18 + k) := h.2.2.2.2.2.1
theorem ImR.onb {M : Mem} {S : TS} {nT nH : Nat} (h : ImR M S nT nH) : ∃ o, o < 2 ^ nH ∧ mI M 27 7 = Int32.ofNat o := h.2.2.2.2.2.2.1
theorem ImR.onv {M : Mem} {S : TS} {nT nH : Nat} (h : ImR M S nT nH) : ∀ k, k < nH → onV M 27 k = tI S 45 (12 + k) := h.2.2.2.2.2.2.2.1
theorem ImR.fi {M : Mem} {S : TS} {nT nH : Nat} (h : ImR M S nT nH) : mI M 27 8 = tI S 45 24 := h.2.2.2.2.2.2.2.2.1
theorem ImR.ta {M : Mem} {S : TS} {nT nH : Nat} (h : ImR M S nT nH) : mI M 27 9 = tI S 45 25 := h.2.2.2.2.2.2.2.2.2.1
theorem ImR.dk {M : Mem} {S : TS} {nT nH : Nat} (h : ImR M S nT nH) : mI M 27 10 = tI S 45 26 := h.2.2.2.2.2.2.2.2.2.2.1
theorem ImR.ho {M : Mem} {S : TS} {nT nH : Nat} (h : ImR M S nT nH) : mI M 27 6 = tI S 45 27 := h.2.2.2.2.2.2.2.2.2.2.2.1
theorem ImR.tk {M : Mem} {S : TS} {nT nH : Nat} (h : ImR M S nT nH) : mI M 27 15 = tI S 45 28 := h.2.2.2.2.2.2.2.2.2.2.2.2.1
theorem ImR.fo {M : Mem} {S : TS} {nT nH : Nat} (h : ImR M S nT nH) : mI M 27 16 = tI S 45 29 := h.2.2.2.2.2.2.2.2.2.2.2.2.2.1
theorem ImR.nm {M : Mem} {S : TS} {nT nH : Nat} (h : ImR M S nT nH) : (mI M 27 11).toInt64 = tL S 0 83 ∧ 0 ≤ (mI M 27 11).toInt := h.2.2.2.2.2.2.2.2.2.2.2.2.2.2.1
theorem ImR.wt {M : Mem} {S : TS} {nT nH : Nat} (h : ImR M S nT nH) : mI M 27 12 = -1 := h.2.2.2.2.2.2.2.2.2.2.2.2.2.2.2
def Ful (M : Mem) (S : TS) (g nT nH nL ns nk nt : Nat) : Prop := (TtS M g) ∧ (∀ a, 40 ≤ a → a < 87 → ¬ RK (mT M a)) ∧ (RdR M g S 0 nT nH nL) ∧ (SiR M S 13 0 nT nH 0 (fun _ => True) 99) ∧ ((mI M 13 11).toInt64 = tL S 0 67 ∧ 0 ≤ (mI M 13 11).toInt) ∧ (mI M 13 12 = -1) ∧ (nt ≤ 700) ∧ (mI M 0 1 = Int32.ofNat nt) ∧ (tI S 0 1 = Int32.ofNat nt) ∧ (∀ k, k < nt → mI M 1 k &&& 255 = tI S 1 k) ∧ (∀ k, k < nt → In (mI M 1 k) (-128) 127) ∧ (mI M 0 2 = tI S 0 4) ∧ (mI M 0 3 = tI S 0 5) ∧ (mI M g 7 = tI S 0 16) ∧ (SnR M S nT ns) ∧ (KpR M S nT nH nk) ∧ (mI M 0 13 = tI S 0 80) ∧ (tI S 0 80 = 0 ∨ tI S 0 80 = 1) ∧ (tI S 0 80 = 1 → ImR M S nT nH) ∧ (∀ k, k < 99 → tI S 2 k = [114, 111, 97, 100, 32, 116, 114, 111, 117, 103, 104, 32, 104, 111, 114, 115, 101, 32, 108, 97, 112, 32, 114, 97, 105, 110, 32, 115, 101, 101, 100, 32, 108, 97, 119, 32, 100, 114, 121, 32, 103, 117, 108, 112, 32, 102, 105, 103, 104, 116, 32, 97, 110, 100, 32, 111, 114, 32, 110, 111, 116, 32, 116, 104, 105, 114, 115, 116, 32, 112, 97, 99, 101, 32, 115, 105, 100, 101, 32, 119, 97, 116, 101, 114, 32, 102, 97, 114, 32, 104, 117, 114, 116, 32, 104, 111, 117, 114, 32].getD k 0)
theorem Ful.tt {M : Mem} {S : TS} {g nT nH nL ns nk nt : Nat} (h : Ful M S g nT nH nL ns nk nt) : TtS M g := h.1
theorem Ful.tk {M : Mem} {S : TS} {g nT nH nL ns nk nt : Nat} (h : Ful M S g nT nH nL ns nk nt) : ∀ a, 40 ≤ a → a < 87 → ¬ RK (mT M a) := h.2.1
theorem Ful.rd {M : Mem} {S : TS} {g nT nH nL ns nk nt : Nat} (h : Ful M S g nT nH nL ns nk nt) : RdR M g S 0 nT nH nL := h.2.2.1
theorem Ful.si {M : Mem} {S : TS} {g nT nH nL ns nk nt : Nat} (h : Ful M S g nT nH nL ns nk nt) : SiR M S 13 0 nT nH 0 (fun _ => True) 99 := h.2.2.2.1
theorem Ful.num {M : Mem} {S : TS} {g nT nH nL ns nk nt : Nat} (h : Ful M S g nT nH nL ns nk nt) : (mI M 13 11).toInt64 = tL S 0 67 ∧ 0 ≤ (mI M 13 11).toInt := h.2.2.2.2.1
theorem Ful.wt {M : Mem} {S : TS} {g nT nH nL ns nk nt : Nat} (h : Ful M S g nT nH nL ns nk nt) : mI M 13 12 = -1 := h.2.2.2.2.2.1
theorem Ful.ntB {M : Mem} {S : TS} {g nT nH nL ns nk nt : Nat} (h : Ful M S g nT nH nL ns nk nt) : nt ≤ 700 := h.2.2.2.2.2.2.1
theorem Ful.tp {M : Mem} {S : TS} {g nT nH nL ns nk nt : Nat} (h : Ful M S g nT nH nL ns nk nt) : mI M 0 1 = Int32.ofNat nt := h.2.2.2.2.2.2.2.1
theorem Ful.tpt {M : Mem} {S : TS} {g nT nH nL ns nk nt : Nat} (h : Ful M S g nT nH nL ns nk nt) : tI S 0 1 = Int32.ofNat nt := h.2.2.2.2.2.2.2.2.1
theorem Ful.tb {M : Mem} {S : TS} {g nT nH nL ns nk nt : Nat} (h : Ful M S g nT nH nL ns nk nt) : ∀ k, k < nt → mI M 1 k &&& 255 = tI S 1 k := h.2.2.2.2.2.2.2.2.2.1
theorem Ful.tbB {M : Mem} {S : TS} {g nT nH nL ns nk nt : Nat} (h : Ful M S g nT nH nL ns nk nt) : ∀ k, k < nt → In (mI M 1 k) (-128) 127 := h.2.2.2.2.2.2.2.2.2.2.1
theorem Ful.fk {M : Mem} {S : TS} {g nT nH nL ns nk nt : Nat} (h : Ful M S g nT nH nL ns nk nt) : mI M 0 2 = tI S 0 4 := h.2.2.2.2.2.2.2.2.2.2.2.1
theorem Ful.fpl {M : Mem} {S : TS} {g nT nH nL ns nk nt : Nat} (h : Ful M S g nT nH nL ns nk nt) : mI M 0 3 = tI S 0 5 := h.2.2.2.2.2.2.2.2.2.2.2.2.1
theorem Ful.kn {M : Mem} {S : TS} {g nT nH nL ns nk nt : Nat} (h : Ful M S g nT nH nL ns nk nt) : mI M g 7 = tI S 0 16 := h.2.2.2.2.2.2.2.2.2.2.2.2.2.1
theorem Ful.sn {M : Mem} {S : TS} {g nT nH nL ns nk nt : Nat} (h : Ful M S g nT nH nL ns nk nt) : SnR M S nT ns := h.2.2.2.2.2.2.2.2.2.2.2.2.2.2.1
theorem Ful.kp {M : Mem} {S : TS} {g nT nH nL ns nk nt : Nat} (h : Ful M S g nT nH nL ns nk nt) : KpR M S nT nH nk := h.2.2.2.2.2.2.2.2.2.2.2.2.2.2.2.1
theorem Ful.him {M : Mem} {S : TS} {g nT nH nL ns nk nt : Nat} (h : Ful M S g nT nH nL ns nk nt) : mI M 0 13 = tI S 0 80 := h.2.2.2.2.2.2.2.2.2.2.2.2.2.2.2.2.1
theorem Ful.hi01 {M : Mem} {S : TS} {g nT nH nL ns nk nt : Nat} (h : Ful M S g nT nH nL ns nk nt) : tI S 0 80 = 0 ∨ tI S 0 80 = 1 := h.2.2.2.2.2.2.2.2.2.2.2.2.2.2.2.2.2.1
theorem Ful.im {M : Mem} {S : TS} {g nT nH nL ns nk nt : Nat} (h : Ful M S g nT nH nL ns nk nt) : tI S 0 80 = 1 → ImR M S nT nH := h.2.2.2.2.2.2.2.2.2.2.2.2.2.2.2.2.2.2.1
theorem Ful.wd {M : Mem} {S : TS} {g nT nH nL ns nk nt : Nat} (h : Ful M S g nT nH nL ns nk nt) : ∀ k, k < 99 → tI S 2 k = [114, 111, 97, 100, 32, 116, 114, 111, 117, 103, 104, 32, 104, 111, 114, 115, 101, 32, 108, 97, 112, 32, 114, 97, 105, 110, 32, 115, 101, 101, 100, 32, 108, 97, 119, 32, 100, 114, 121, 32, 103, 117, 108, 112, 32, 102, 105, 103, 104, 116, 32, 97, 110, 100, 32, 111, 114, 32, 110, 111, 116, 32, 116, 104, 105, 114, 115, 116, 32, 112, 97, 99, 101, 32, 115, 105, 100, 101, 32, 119, 97, 116, 101, 114, 32, 102, 97, 114, 32, 104, 117, 114, 116, 32, 104, 111, 117, 114, 32].getD k 0 := h.2.2.2.2.2.2.2.2.2.2.2.2.2.2.2.2.2.2.2
end
