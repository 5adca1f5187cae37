set_option maxRecDepth 100000
section
variable {M M' : Mem} {S S' : TS} {g nT nH nL ns nk nt : Nat}
theorem KpM_refl (M : Mem) : KpM M M := ⟨rfl, rfl, rfl, rfl, fun _ _ _ _ _ _ => rfl⟩
theorem KpS_refl (S : TS) : KpS S S := ⟨fun _ _ _ => rfl, rfl, rfl⟩
theorem KpS_trans {S S' S'' : TS} (h : KpS S S') (k : KpS S' S'') : KpS S S'' := ⟨fun j x hx => (k.i j x hx).trans (h.i j x hx), k.d.trans h.d, k.e.trans h.e⟩
theorem KpM_trans {M M' M'' : Mem} (h : KpM M M') (k : KpM M' M'') : KpM M M'' := ⟨k.n.trans h.n, k.t.trans h.t, k.ln.trans h.ln, k.r.trans h.r, fun a x h1 h2 h3 h4 => (k.i a x h1 h2 h3 h4).trans (h.i a x h1 h2 h3 h4)⟩
theorem KpS_ts {S : TS} {j k : Nat} {v : Int32} (h : ¬ Us j k) : KpS S (tsI S j k v) := by
  refine ⟨fun x y hu => ?_, rfl, rfl⟩
  rw [tI_tsI, if_neg]
  rintro ⟨rfl, rfl⟩
  exact h hu
theorem KpS_2 (S : TS) (v : Int32) : KpS S (tsI S 0 2 v) := KpS_ts (by unfold Us; omega)
theorem Ful.t2 (h : Ful M S g nT nH nL ns nk nt) : Ful M (tsI S 0 2 0) g nT nH nL ns nk nt := Ful_mv h (KpM_refl M) (KpS_2 S 0)
theorem Ful.nP (h : Ful M S g nT nH nL ns nk nt) {k : Nat} (hk : k < nH) : mI M (13 + 1) k = tI S 27 k := by simpa using h.si.p k hk
theorem Ful.nTh (h : Ful M S g nT nH nL ns nk nt) {k : Nat} (hk : k < nH) : mI M (13 + 2) k = tI S 28 k := by simpa using h.si.th k hk
theorem Ful.nG (h : Ful M S g nT nH nL ns nk nt) {k : Nat} (hk : k < nH) : mI M (13 + 3) k = tI S 29 k := by simpa using h.si.go k hk
theorem Ful.nHu (h : Ful M S g nT nH nL ns nk nt) {k : Nat} (hk : k < nH) : mI M (13 + 4) k = tI S 30 k := by simpa using h.si.hu k hk (by have := h.rd.nh; omega)
theorem Ful.nDr (h : Ful M S g nT nH nL ns nk nt) {k : Nat} (hk : k < nH) : mI M (13 + 5) k = tI S 32 k := by simpa using h.si.dr k hk
theorem Ful.nW (h : Ful M S g nT nH nL ns nk nt) {k : Nat} (hk : k < nT) : mI M (13 + 6) k = tI S 33 k := by simpa using h.si.wa k hk
theorem Ful.nPB (h : Ful M S g nT nH nL ns nk nt) {k : Nat} (hk : k < nH) : In (tI S 27 k) 0 60 := by simpa using h.si.pB k hk
theorem Ful.nTB (h : Ful M S g nT nH nL ns nk nt) {k : Nat} (hk : k < nH) : In (tI S 28 k) 0 198 := by simpa using h.si.tB k hk
theorem Ful.nWB (h : Ful M S g nT nH nL ns nk nt) {k : Nat} (hk : k < nT) : In (tI S 33 k) 0 99 := by simpa using h.si.wB k hk
theorem Ful.nGB (h : Ful M S g nT nH nL ns nk nt) {k : Nat} (hk : k < nH) : tI S 29 k = -1 ∨ ∃ t, t < nT ∧ tI S 29 k = Int32.ofNat t := by simpa using h.si.gB k hk
theorem Ful.on1 (h : Ful M S g nT nH nL ns nk nt) {k : Nat} (hk : k < nH) : f_X6_isOn 13 (Int32.ofNat k) M = some (tI S 31 k) := by
  have := h.si.onv k hk
  rw [c_isOn h.tt.s13, this]
  simp
theorem Ful.on01 (h : Ful M S g nT nH nL ns nk nt) {k : Nat} (hk : k < nH) : tI S 31 k = 0 ∨ tI S 31 k = 1 := by
  have h1 := h.si.onv k hk
  have h2 := onV_01 M 13 k
  rw [h1] at h2
  simpa using h2
theorem Ful.tP0 (h : Ful M S g nT nH nL ns nk nt) {k : Nat} (hk : k < nT) : mI M (trA M g k) 0 = tI S 6 k := by simpa using h.rd.tP k hk
theorem Ful.tF0 (h : Ful M S g nT nH nL ns nk nt) {k : Nat} (hk : k < nT) : mI M (trA M g k) 3 = tI S 8 k := by simpa using h.rd.tF k hk
theorem Ful.tPB0 (h : Ful M S g nT nH nL ns nk nt) {k : Nat} (hk : k < nT) : In (tI S 6 k) 0 60 := by simpa using h.rd.tPB k hk
theorem Ful.hS0 (h : Ful M S g nT nH nL ns nk nt) {k : Nat} (hk : k < nH) : mI M (hsA M g k) 2 = tI S 10 k := by simpa using h.rd.hS k hk
theorem Ful.hC0 (h : Ful M S g nT nH nL ns nk nt) {k : Nat} (hk : k < nH) : mI M (hsA M g k) 4 = tI S 13 k := by simpa using h.rd.hC k hk
theorem Ful.hCB0 (h : Ful M S g nT nH nL ns nk nt) {k : Nat} (hk : k < nH) : In (tI S 13 k) 1 9 := by simpa using h.rd.hCB k hk
theorem Ful.hSB0 (h : Ful M S g nT nH nL ns nk nt) {k : Nat} (hk : k < nH) : In (tI S 10 k) 0 3 := by simpa using h.rd.hSB k hk
theorem Ful.c12 (h : Ful M S g nT nH nL ns nk nt) : tI S 0 12 = Int32.ofNat nT := h.rd.cT
theorem Ful.c13 (h : Ful M S g nT nH nL ns nk nt) : tI S 0 13 = Int32.ofNat nH := h.rd.cH
/-! ranges -/
theorem r_in {a l u : Int32} {L U : Int64} (hL : L.toInt = l.toInt) (hU : U.toInt = u.toInt) (M : Mem) (S : TS) : ∃ r, f_X1_in a.toInt64 L U M = some r ∧ tw_isIn a l u S = some r ∧ (r = 0 ∨ (r = 1 ∧ In a l.toInt u.toInt)) := by
  unfold f_X1_in tw_isIn
  have e1 : (lg_cmp a.toInt64 L < 0) = (a < l) := propext (by rw [lg_cmp_lt, Int64.lt_iff_toInt_lt, Int32.toInt_toInt64, hL, Int32.lt_iff_toInt_lt])
  have e2 : (0 < lg_cmp a.toInt64 U) = (u < a) := propext (by rw [lg_cmp_gt, Int64.lt_iff_toInt_lt, Int32.toInt_toInt64, hU, Int32.lt_iff_toInt_lt])
  simp only [e1, e2, be, gd]
  by_cases h1 : a < l
  · refine ⟨0, ?_, ?_, Or.inl rfl⟩ <;> simp [h1]
  · by_cases h2 : u < a
    · refine ⟨0, ?_, ?_, Or.inl rfl⟩ <;> simp [h1, h2]
    · refine ⟨1, ?_, ?_, Or.inr ⟨rfl, ?_⟩⟩
      · simp [h1, h2]
      · simp [h1, h2]
      · rw [Int32.lt_iff_toInt_lt] at h1 h2
        unfold In
        omega
theorem In_of {a : Int32} {n : Nat} (h : In a 0 ((n : Int) - 1)) : ∃ k, k < n ∧ a = Int32.ofNat k := by
  unfold In at h
  have hb := a.toInt_lt
  refine ⟨a.toInt.toNat, by omega, ?_⟩
  rw [← Int32.toInt_inj, i_toI (by omega)]
  omega
theorem r_isHorse (h : Ful M S g nT nH nL ns nk nt) (a : Int32) : ∃ r, f_X1_isHorse 0 a M = some r ∧ tw_isHorse a S = some r ∧ (r = 0 ∨ (r = 1 ∧ ∃ k, k < nH ∧ a = Int32.ofNat k)) := by
  have hn := h.rd.nh
  have x0 : (0 : Int32).toInt = 0 := by decide
  have x1 : (1 : Int32).toInt = 1 := by decide
  have e : (Int32.ofNat nH - 1).toInt = (nH : Int) - 1 := by
    rw [Int32.toInt_sub, i_toI (by omega), x1, Int.bmod_def]
    omega
  obtain ⟨r, h1, h2, h3⟩ := r_in (a := a) (l := 0) (u := Int32.ofNat nH - 1) (L := 0) (U := (Int32.ofNat nH - 1).toInt64) (by decide) (by rw [Int32.toInt_toInt64]) M S
  refine ⟨r, ?_, ?_, ?_⟩
  · unfold f_X1_isHorse gd
    simp only [h.tt.k, if_true, a_horses h.tt h.rd, bd, h1]
    rcases h3 with rfl | ⟨rfl, _⟩ <;> rfl
  · unfold tw_isIn at h2
    unfold tw_isHorse
    rw [h.c13]
    have e2 : (Int32.ofNat nH ≤ a) = (Int32.ofNat nH - 1 < a) := propext (by rw [Int32.le_iff_toInt_le, Int32.lt_iff_toInt_lt, e, i_toI (by omega)]; omega)
    simp only [e2]
    exact h2
  · rcases h3 with h3 | ⟨h3, h4⟩
    · exact Or.inl h3
    · rw [e, x0] at h4
      exact Or.inr ⟨h3, In_of h4⟩
theorem r_isTrough (h : Ful M S g nT nH nL ns nk nt) (a : Int32) : ∃ r, f_X1_isTrough 0 a M = some r ∧ tw_isTrough a S = some r ∧ (r = 0 ∨ (r = 1 ∧ ∃ k, k < nT ∧ a = Int32.ofNat k)) := by
  have hn := h.rd.nt
  have x0 : (0 : Int32).toInt = 0 := by decide
  have x1 : (1 : Int32).toInt = 1 := by decide
  have e : (Int32.ofNat nT - 1).toInt = (nT : Int) - 1 := by
    rw [Int32.toInt_sub, i_toI (by omega), x1, Int.bmod_def]
    omega
  obtain ⟨r, h1, h2, h3⟩ := r_in (a := a) (l := 0) (u := Int32.ofNat nT - 1) (L := 0) (U := (Int32.ofNat nT - 1).toInt64) (by decide) (by rw [Int32.toInt_toInt64]) M S
  refine ⟨r, ?_, ?_, ?_⟩
  · unfold f_X1_isTrough gd
    simp only [h.tt.k, if_true, a_troughs h.tt h.rd, bd, h1]
    rcases h3 with rfl | ⟨rfl, _⟩ <;> rfl
  · unfold tw_isIn at h2
    unfold tw_isTrough
    rw [h.c12]
    have e2 : (Int32.ofNat nT ≤ a) = (Int32.ofNat nT - 1 < a) := propext (by rw [Int32.le_iff_toInt_le, Int32.lt_iff_toInt_lt, e, i_toI (by omega)]; omega)
    simp only [e2]
    exact h2
  · rcases h3 with h3 | ⟨h3, h4⟩
    · exact Or.inl h3
    · rw [e, x0] at h4
      exact Or.inr ⟨h3, In_of h4⟩
theorem r_areTwo (h : Ful M S g nT nH nL ns nk nt) (a b : Int32) : ∃ r, f_X1_areTwo 0 a b M = some r ∧ tw_areTwo a b S = some r ∧ (r = 0 ∨ (r = 1 ∧ ∃ k l, k < nH ∧ l < nH ∧ k ≠ l ∧ a = Int32.ofNat k ∧ b = Int32.ofNat l)) := by
  obtain ⟨r, h1, h2, h3⟩ := r_isHorse h a
  obtain ⟨q, g1, g2, g3⟩ := r_isHorse h b
  unfold f_X1_areTwo tw_areTwo gd
  simp only [h.tt.k, if_true, h1, h2, g1, g2, bd]
  rcases h3 with rfl | ⟨rfl, k, hk, ek⟩
  · exact ⟨0, rfl, rfl, Or.inl rfl⟩
  · rcases g3 with rfl | ⟨rfl, l, hl, el⟩
    · exact ⟨0, rfl, rfl, Or.inl rfl⟩
    · by_cases e : a = b
      · exact ⟨0, by simp [e], by simp [e], Or.inl rfl⟩
      · exact ⟨1, by simp [e], by simp [e], Or.inr ⟨rfl, k, l, hk, hl, by rintro rfl; exact e (ek.trans el.symm), ek, el⟩⟩
/-! the calls -/
theorem L_fault (h : Ful M S g nT nH nL ns nk nt) (a : Int32) : ev (f_X1_fault 0 a M) fun r => ev (tw_fault a S) fun q => q.1 = r ∧ KpS S q.2 := by
  have k := KpS_2 S 0
  have e1 := h.t2.fk
  have e2 := h.t2.fpl
  unfold f_X1_fault tw_fault
  simp only [ev_some, ev_none, ev_be, ev_gd, ev_bd, ev_bd2, ev_bd3, ev_bd4, ev_ite, h.tt.k, true_and, and_true, forall_const, not_true_eq_false, not_false_eq_true, false_implies, ne_eq, implies_true, true_implies, ev_some, e1, e2]
  by_cases h1 : a = 0
  · simp only [h1, true_and, and_true, forall_const, not_true_eq_false, not_false_eq_true, false_implies, ne_eq, implies_true, true_implies, ev_some, if_true]
    exact k
  · by_cases h2 : a = 1
    · simp only [h1, h2, true_and, and_true, forall_const, not_true_eq_false, not_false_eq_true, false_implies, ne_eq, implies_true, true_implies, ev_some, if_true, if_false]
      simp [k]
    · simp only [h1, h2, true_and, and_true, forall_const, not_true_eq_false, not_false_eq_true, false_implies, ne_eq, implies_true, true_implies, ev_some, if_true, if_false]
      exact k
theorem L_named (h : Ful M S g nT nH nL ns nk nt) {N : Nat} (hN : 1000 ≤ N) (a b : Int32) : ev (f_X1_named N 0 a b M) fun r => ev (tw_named N a b S) fun q => q.1 = r ∧ KpS S q.2 := by
  have k := KpS_2 S 0
  have hn := h.rd.nt
  have hn2 := h.rd.nh
  have h2 := h.t2
  unfold f_X1_named tw_named
  simp only [ev_some, ev_none, ev_be, ev_gd, ev_bd, ev_bd2, ev_bd3, ev_bd4, ev_ite, h.tt.k, h.tt.r6, h.rd.k, h.rd.r0, h.rd.r1, true_and, and_true, forall_const, not_true_eq_false, not_false_eq_true, false_implies, ne_eq, implies_true, true_implies, ev_some]
  rw [h2.c12, h2.c13]
  obtain ⟨r, t1, r', t2, t3, _⟩ := a_find (N := N) (M := M) (S := tsI S 0 2 0) (j := 5) (q := 0) h2.rd.tl (by omega) (Or.inl rfl) (fun t ht => h2.rd.tN t ht) rfl (by rw [le_5]; omega) (by rw [le_5]; omega) (by omega) (by omega) b
  obtain ⟨v, s1, v', s2, s3, _⟩ := a_find (N := N) (M := M) (S := tsI S 0 2 0) (j := 9) (q := 0) h2.rd.hl (by omega) (Or.inr rfl) (fun t ht => h2.rd.hN t ht) rfl (by rw [le_9]; omega) (by rw [le_9]; omega) (by omega) (by omega) b
  have z0 : (0 : Int32) = Int32.ofNat 0 := rfl
  by_cases h1 : a = 0
  · simp only [h1, true_and, and_true, forall_const, not_true_eq_false, not_false_eq_true, false_implies, ne_eq, implies_true, true_implies, ev_some, t1, ev_some]
    rw [← z0] at t2
    rw [t2]
    simp only [ev_some]
    exact ⟨t3, k⟩
  · by_cases h3 : a = 1
    · have d10 : ((1 : Int32) = 0) = False := eq_false (by decide)
      simp only [h3, d10, true_and, and_true, forall_const, not_true_eq_false, not_false_eq_true, false_implies, ne_eq, implies_true, true_implies, ev_some, s1, ev_some]
      rw [← z0] at s2
      rw [s2]
      simp only [ev_some]
      exact ⟨s3, k⟩
    · simp only [h1, h3, true_and, and_true, forall_const, not_true_eq_false, not_false_eq_true, false_implies, ne_eq, implies_true, true_implies, ev_some]
      exact k
end
