set_option maxRecDepth 100000
section
variable {M : Mem} {S : TS} {g u nT nH nL c b : Nat}
theorem a_troughs (ht : TtS M g) (h : RdR M g S u nT nH nL) : f_X1_troughs 0 M = some (Int32.ofNat nT) := by
  unfold f_X1_troughs gd
  simp only [ht.k, ht.r6, h.k, h.r0, h.tl.k, a_size h.tl, bd, if_true]
theorem a_horses (ht : TtS M g) (h : RdR M g S u nT nH nL) : f_X1_horses 0 M = some (Int32.ofNat nH) := by
  unfold f_X1_horses gd
  simp only [ht.k, ht.r6, h.k, h.r1, h.hl.k, a_size h.hl, bd, if_true]
theorem a_trough (ht : TtS M g) (h : RdR M g S u nT nH nL) {t : Nat} (h1 : t < nT) : f_X1_trough 0 (Int32.ofNat t) M = some (trA M g t) := by
  have hk : mT M (itA M (tlA M g) t) = 7 := h.tl.ik t h1
  unfold f_X1_trough gd trA
  simp only [ht.k, ht.r6, h.k, h.r0, h.tl.k, a_get h.tl (by omega) h1, bd, if_true, hk]
theorem a_horse (ht : TtS M g) (h : RdR M g S u nT nH nL) {t : Nat} (h1 : t < nH) : f_X1_horse 0 (Int32.ofNat t) M = some (hsA M g t) := by
  have hk : mT M (itA M (hlA M g) t) = 8 := h.hl.ik t h1
  unfold f_X1_horse gd hsA
  simp only [ht.k, ht.r6, h.k, h.r1, h.hl.k, a_get h.hl (by omega) h1, bd, if_true, hk]
theorem RdR.tk (h : RdR M g S u nT nH nL) {t : Nat} (h1 : t < nT) : mT M (trA M g t) = 7 := h.tl.ik t h1
theorem RdR.hk (h : RdR M g S u nT nH nL) {t : Nat} (h1 : t < nH) : mT M (hsA M g t) = 8 := h.hl.ik t h1
theorem RdR.pk (h : RdR M g S u nT nH nL) {t : Nat} (h1 : t < nL) : mT M (lpA M g t) = 9 := h.pl.ik t h1
/-- a road's tree, moved -/
theorem Tr_mv {M M' : Mem} {S S' : TS} {q : Nat} (hT : mT M' = mT M) (hR : mR M' = mR M) (hI : ∀ a k, mT M a ≠ 5 → mT M a ≠ 100 → mI M' a k = mI M a k) (hS : ∀ j k, j = 20 ∨ j = 21 ∨ j = 22 → q ≤ k → k < q + 64 → tI S' j k = tI S j k) : ∀ d p lo hi, Tr M S q d p lo hi → Tr M' S' q d p lo hi := by
  intro d
  induction d with
  | zero => intro p lo hi h; exact h
  | succ d ih =>
    intro p lo hi h
    obtain ⟨h0, h⟩ := h
    refine ⟨h0, ?_⟩
    rw [hT, hR]
    rcases h with ⟨h1, h2, h3, h4⟩ | ⟨h1, h2, h3, h4, w, h5, h6⟩ | ⟨h1, a, m, h2, h3, h4, h5, h6, h7⟩ | ⟨h1, a, b, m, n, w, h2, h3, h4, h5, h6, h7, h8, h9, h10, h11, h12⟩
    · refine Or.inl ⟨h1, h2, ?_, ?_⟩
      · rw [hS _ _ (by omega) (by omega) (by omega), h3]
      · rw [hS _ _ (by omega) (by omega) (by omega), h4, hI _ _ (by omega) (by omega)]
    · refine Or.inr (Or.inl ⟨h1, h2, ?_, ?_, w, h5, ?_⟩)
      · rw [hS _ _ (by omega) (by omega) (by omega), h3]
      · rw [hS _ _ (by omega) (by omega) (by omega), h4, hI _ _ (by omega) (by omega)]
      · rw [hI _ _ (by omega) (by omega), h6]
    · refine Or.inr (Or.inr (Or.inl ⟨h1, a, m, h2, h3, h4, ih _ _ _ h5, ?_, ?_⟩))
      · rw [hS _ _ (by omega) (by omega) (by omega), h6]
      · rw [hS _ _ (by omega) (by omega) (by omega), h7]
    · refine Or.inr (Or.inr (Or.inr ⟨h1, a, b, m, n, w, h2, h3, h4, h5, h6, ih _ _ _ h7, ih _ _ _ h8, ?_, ?_, ?_, ?_⟩))
      · rw [hS _ _ (by omega) (by omega) (by omega), h9]
      · rw [hS _ _ (by omega) (by omega) (by omega), h10]
      · rw [hS _ _ (by omega) (by omega) (by omega), h11]
      · rw [hI _ _ (by omega) (by omega)]
        exact h12
theorem adr_mv {M M' : Mem} (hR : mR M' = mR M) (g k : Nat) : elA M' g = elA M g ∧ itA M' g k = itA M g k ∧ tlA M' g = tlA M g ∧ hlA M' g = hlA M g ∧ plA M' g = plA M g ∧ wlA M' g = wlA M g ∧ trA M' g k = trA M g k ∧ hsA M' g k = hsA M g k ∧ lpA M' g k = lpA M g k := by
  unfold trA hsA lpA itA elA tlA hlA plA wlA
  rw [hR]
  exact ⟨rfl, rfl, rfl, rfl, rfl, rfl, rfl, rfl, rfl⟩
theorem LsS_mv {M M' : Mem} {l n kk cap : Nat} (hT : mT M' = mT M) (hLn : mLn M' = mLn M) (hR : mR M' = mR M) (hI : ∀ a k, mT M a ≠ 5 → mT M a ≠ 100 → mI M' a k = mI M a k) (h : LsS M l n kk cap) : LsS M' l n kk cap := by
  have e1 : elA M' l = elA M l := (adr_mv hR l 0).1
  have e2 : ∀ k, itA M' l k = itA M l k := fun k => (adr_mv hR l k).2.1
  unfold LsS
  simp only [hT, hLn, hR, e1, e2]
  refine ⟨h.k, ?_, h.r, h.e, h.ln, h.le, h.it, h.ik⟩
  rw [hI _ _ (by rw [h.k]; omega) (by rw [h.k]; omega)]
  exact h.n
/-- a road, moved by what changes no cell of it -/
theorem RdR_mv {M M' : Mem} {S S' : TS} {g u nT nH nL : Nat} (hT : mT M' = mT M) (hLn : mLn M' = mLn M) (hR : mR M' = mR M) (hI : ∀ a k, mT M a ≠ 5 → mT M a ≠ 100 → mI M' a k = mI M a k)
    (hS : ∀ j k, 4 ≤ j → j ≤ 22 → tI S' j k = tI S j k) (hF : ∀ k, 12 ≤ k → k ≤ 22 → tI S' 0 k = tI S 0 k) (hu : u ≤ 1) (h : RdR M g S u nT nH nL) : RdR M' g S' u nT nH nL := by
  have e := fun k => adr_mv hR g k
  have e3 : tlA M' g = tlA M g := (e 0).2.2.1
  have e4 : hlA M' g = hlA M g := (e 0).2.2.2.1
  have e5 : plA M' g = plA M g := (e 0).2.2.2.2.1
  have e6 : wlA M' g = wlA M g := (e 0).2.2.2.2.2.1
  have e7 : ∀ k, trA M' g k = trA M g k := fun k => (e k).2.2.2.2.2.2.1
  have e8 : ∀ k, hsA M' g k = hsA M g k := fun k => (e k).2.2.2.2.2.2.2.1
  have e9 : ∀ k, lpA M' g k = lpA M g k := fun k => (e k).2.2.2.2.2.2.2.2
  have gi : ∀ k, mI M' g k = mI M g k := fun k => hI g k (by rw [h.k]; omega) (by rw [h.k]; omega)
  have ti : ∀ t k, t < nT → mI M' (trA M g t) k = mI M (trA M g t) k := fun t k ht => hI _ k (by rw [h.tk ht]; omega) (by rw [h.tk ht]; omega)
  have hi : ∀ t k, t < nH → mI M' (hsA M g t) k = mI M (hsA M g t) k := fun t k ht => hI _ k (by rw [h.hk ht]; omega) (by rw [h.hk ht]; omega)
  have li : ∀ t k, t < nL → mI M' (lpA M g t) k = mI M (lpA M g t) k := fun t k ht => hI _ k (by rw [h.pk ht]; omega) (by rw [h.pk ht]; omega)
  have lsm := fun {l n kk cap : Nat} (x : LsS M l n kk cap) => LsS_mv hT hLn hR hI x
  unfold RdR
  simp only [hT, hLn, hR, e3, e4, e5, e6, e7, e8, e9, gi]
  rw [hF (12 + 5 * u) (by omega) (by omega), hF (13 + 5 * u) (by omega) (by omega), hF (14 + 5 * u) (by omega) (by omega), hF (15 + 5 * u) (by omega) (by omega), hS 4 _ (by omega) (by omega), hS 4 _ (by omega) (by omega)]
  have s5 := fun k => hS 5 k (by omega) (by omega)
  have s6 := fun k => hS 6 k (by omega) (by omega)
  have s7 := fun k => hS 7 k (by omega) (by omega)
  have s8 := fun k => hS 8 k (by omega) (by omega)
  have s9 := fun k => hS 9 k (by omega) (by omega)
  have s10 := fun k => hS 10 k (by omega) (by omega)
  have s11 := fun k => hS 11 k (by omega) (by omega)
  have s12 := fun k => hS 12 k (by omega) (by omega)
  have s13 := fun k => hS 13 k (by omega) (by omega)
  have s14 := fun k => hS 14 k (by omega) (by omega)
  have s15 := fun k => hS 15 k (by omega) (by omega)
  have s16 := fun k => hS 16 k (by omega) (by omega)
  have s17 := fun k => hS 17 k (by omega) (by omega)
  have s18 := fun k => hS 18 k (by omega) (by omega)
  have s19 := fun k => hS 19 k (by omega) (by omega)
  simp only [s5, s6, s7, s8, s9, s10, s11, s12, s13, s14, s15, s16, s17, s18, s19]
  refine ⟨h.k, h.nt, h.nh, h.nl, h.r0, h.r1, h.r2, h.r3, lsm h.tl, lsm h.hl, lsm h.pl, h.wk, h.wn, h.cT, h.cH, h.cL, h.len, h.rain, h.seed, h.lenB, h.rainB, h.seedB, ?_, ?_, ?_, ?_, h.tPB, h.tWB, h.tFB, ?_, ?_, ?_, ?_, ?_, h.hPB, h.hSB, h.hTB, h.hCB, ?_, ?_, ?_, h.lHB, h.lTB, ?_⟩
  · intro t ht; rw [ti t _ ht]; exact h.tP t ht
  · intro t ht; rw [ti t _ ht]; exact h.tN t ht
  · intro t ht; rw [ti t _ ht]; exact h.tW t ht
  · intro t ht; rw [ti t _ ht]; exact h.tF t ht
  · intro t ht; rw [hi t _ ht]; exact h.hP t ht
  · intro t ht; rw [hi t _ ht]; exact h.hN t ht
  · intro t ht; rw [hi t _ ht]; exact h.hS t ht
  · intro t ht; rw [hi t _ ht]; exact h.hT t ht
  · intro t ht; rw [hi t _ ht]; exact h.hC t ht
  · intro t ht; rw [li t _ ht]; exact h.lH t ht
  · intro t ht; rw [li t _ ht]; exact h.lT t ht
  · intro t ht; rw [li t _ ht]; exact h.lO t ht
  · intro k hk
    rcases h.law k hk with h1 | ⟨p, lo, hi, h1, h2, h3, h4, h5, h6⟩
    · exact Or.inl h1
    · exact Or.inr ⟨p, lo, hi, h1, h2, h3, h4, h5, Tr_mv hT hR hI (fun j k hj _ _ => hS j k (by omega) (by omega)) _ _ _ _ h6⟩
end
