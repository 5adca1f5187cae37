set_option maxRecDepth 100000
section
def mnV (a b : Int32) : Int32 := if b < a then b else a
def mxV (a b : Int32) : Int32 := if a < b then b else a
theorem c_min (a b : Int32) (M : Mem) : f_J8_min a b M = some (mnV a b) := rfl
theorem c_max (a b : Int32) (M : Mem) : f_J8_max a b M = some (mxV a b) := rfl
theorem walk_eq {P X C : Int32} (hP : In P 0 60) (hX : In X 0 60) (hC : In C 1 18) :
    (abV (P - X) ≤ 0 → X + mxV (-C) (mnV C (P - X)) = X) ∧ (¬ abV (P - X) ≤ 0 → X + mxV (-C) (mnV C (P - X)) = X + (if P ≤ X then -(if C ≤ abV (P - X) then C else abV (P - X)) else (if C ≤ abV (P - X) then C else abV (P - X)))) ∧ In (X + mxV (-C) (mnV C (P - X))) 0 60 := by
  unfold In at *
  have d : (P - X).toInt = P.toInt - X.toInt := by rw [Int32.toInt_sub, Int.bmod_def]; omega
  have n : (-C).toInt = -C.toInt := by rw [Int32.toInt_neg, Int.bmod_def]; omega
  have n2 : (-(P - X)).toInt = -(P.toInt - X.toInt) := by rw [Int32.toInt_neg, d, Int.bmod_def]; omega
  have z0 : (0 : Int32).toInt = 0 := by decide
  have a : (abV (P - X)).toInt = if 0 ≤ P.toInt - X.toInt then P.toInt - X.toInt else -(P.toInt - X.toInt) := by
    unfold abV
    by_cases hh : 0 ≤ P - X
    · rw [if_pos hh]
      rw [Int32.le_iff_toInt_le, z0, d] at hh
      rw [if_pos hh, d]
    · rw [if_neg hh]
      rw [Int32.le_iff_toInt_le, z0, d] at hh
      rw [if_neg hh, n2]
  have m1 : (mnV C (P - X)).toInt = if P.toInt - X.toInt < C.toInt then P.toInt - X.toInt else C.toInt := by
    unfold mnV
    by_cases hh : P - X < C
    · rw [if_pos hh]
      rw [Int32.lt_iff_toInt_lt, d] at hh
      rw [if_pos hh, d]
    · rw [if_neg hh]
      rw [Int32.lt_iff_toInt_lt, d] at hh
      rw [if_neg hh]
  have m2 : (mxV (-C) (mnV C (P - X))).toInt = if -C.toInt < (mnV C (P - X)).toInt then (mnV C (P - X)).toInt else -C.toInt := by
    unfold mxV
    by_cases hh : -C < mnV C (P - X)
    · rw [if_pos hh]
      rw [Int32.lt_iff_toInt_lt, n] at hh
      rw [if_pos hh]
    · rw [if_neg hh]
      rw [Int32.lt_iff_toInt_lt, n] at hh
      rw [if_neg hh, n]
  have t : (X + mxV (-C) (mnV C (P - X))).toInt = X.toInt + (mxV (-C) (mnV C (P - X))).toInt := by
    rw [Int32.toInt_add, Int.bmod_def]
    rw [m2, m1]
    split <;> split <;> omega
  refine ⟨fun h => ?_, fun h => ?_, ?_⟩
  · rw [Int32.le_iff_toInt_le, z0, a] at h
    rw [← Int32.toInt_inj, t, m2, m1]
    split at h <;> split <;> split <;> omega
  · rw [Int32.le_iff_toInt_le, z0, a] at h
    rw [← Int32.toInt_inj, t, m2, m1]
    by_cases h1 : C ≤ abV (P - X)
    · rw [if_pos h1]
      have h1' := h1
      rw [Int32.le_iff_toInt_le, a] at h1'
      by_cases h2 : P ≤ X
      · rw [if_pos h2]
        rw [Int32.le_iff_toInt_le] at h2
        rw [Int32.toInt_add, n, Int.bmod_def]
        split at h1' <;> split <;> split <;> omega
      · rw [if_neg h2]
        rw [Int32.le_iff_toInt_le] at h2
        rw [Int32.toInt_add, Int.bmod_def]
        split at h1' <;> split <;> split <;> omega
    · rw [if_neg h1]
      have h1' := h1
      rw [Int32.le_iff_toInt_le, a] at h1'
      by_cases h2 : P ≤ X
      · rw [if_pos h2]
        rw [Int32.le_iff_toInt_le] at h2
        rw [Int32.toInt_add, Int32.toInt_neg, a, Int.bmod_def, Int.bmod_def]
        split at h1' <;> split <;> split <;> omega
      · rw [if_neg h2]
        rw [Int32.le_iff_toInt_le] at h2
        rw [Int32.toInt_add, a, Int.bmod_def]
        split at h1' <;> split <;> split <;> omega
  · rw [t, m2, m1]
    split <;> split <;> omega
theorem tsI_self (S : TS) (j k : Nat) : tsI S j k (tI S j k) = S := by
  have e : u2 (tI S) j k (tI S j k) = tI S := by
    funext x y
    unfold u2
    split
    · rename_i h
      rw [h.1, h.2]
    · rfl
  unfold tsI
  rw [e]
  rfl
variable {M M0 : Mem} {S S0 : TS} {g u nT nH nL c b x : Nat} {z : Int32} {A : Nat → Prop} {F : Prop}
theorem r_dries (h : Sim M0 S0 g c b nT nH nL z A F x M S) {N w : Nat} (hN : 100 ≤ N) (hw : w < nH) (hx : w ≠ x) :
    ev (f_X5_dries N 12 c (Int32.ofNat w) M) fun q => ev (tw_boundLaw N (Int32.ofNat b) 0 (Int32.ofNat w) 1 S) fun q' => q'.1 = q.1 ∧ In q.1 0 99 ∧ Sim M0 S0 g c b nT nH nL z A F x q.2 q'.2 ∧ mI q.2 = mI M ∧ ∀ j x, ¬ (j = 0 ∧ x = 53) → tI q'.2 j x = tI S j x := by
  obtain ⟨q, h1, q', h2, h3, h4, h5⟩ := r_by h (k := 0) (d := 1) hN (by omega) hw hx
  refine ⟨q, ?_, q', h2, h3, ?_, h5⟩
  · unfold f_X5_dries f_X4_dries gd
    simp only [h.tt.k12, if_true, bd]
    rw [show (0 : Int32) = Int32.ofNat 0 from rfl, h1]
    rfl
  · rcases h4 with h4 | h4
    · rw [h4]; unfold In; decide
    · exact h4
theorem r_gulps (h : Sim M0 S0 g c b nT nH nL z A F x M S) {N w : Nat} (hN : 100 ≤ N) (hw : w < nH) (hx : w ≠ x) :
    ev (f_X5_gulps N 12 c (Int32.ofNat w) M) fun q => ev (tw_boundLaw N (Int32.ofNat b) 1 (Int32.ofNat w) 9 S) fun q' => q'.1 = q.1 ∧ In q.1 0 99 ∧ Sim M0 S0 g c b nT nH nL z A F x q.2 q'.2 ∧ mI q.2 = mI M ∧ ∀ j x, ¬ (j = 0 ∧ x = 53) → tI q'.2 j x = tI S j x := by
  obtain ⟨q, h1, q', h2, h3, h4, h5⟩ := r_by h (k := 1) (d := 9) hN (by omega) hw hx
  refine ⟨q, ?_, q', h2, h3, ?_, h5⟩
  · unfold f_X5_gulps f_X4_gulps gd
    simp only [h.tt.k12, if_true, bd]
    rw [show (1 : Int32) = Int32.ofNat 1 from rfl, h1]
    rfl
  · rcases h4 with h4 | h4
    · rw [h4]; unfold In; decide
    · exact h4
theorem r_fights (h : Sim M0 S0 g c b nT nH nL z A F x M S) {N w : Nat} (hN : 100 ≤ N) (hw : w < nH) (hx : w ≠ x) :
    ev (f_X5_fights N 12 c (Int32.ofNat w) M) fun q => ev (tw_boundLaw N (Int32.ofNat b) 2 (Int32.ofNat w) 1 S) fun q' => q'.1 = q.1 ∧ In q.1 0 99 ∧ Sim M0 S0 g c b nT nH nL z A F x q.2 q'.2 ∧ mI q.2 = mI M ∧ ∀ j x, ¬ (j = 0 ∧ x = 53) → tI q'.2 j x = tI S j x := by
  obtain ⟨q, h1, q', h2, h3, h4, h5⟩ := r_by h (k := 2) (d := 1) hN (by omega) hw hx
  refine ⟨q, ?_, q', h2, h3, ?_, h5⟩
  · unfold f_X5_fights f_X4_fights gd
    simp only [h.tt.k12, if_true, bd]
    rw [show (2 : Int32) = Int32.ofNat 2 from rfl, h1]
    rfl
  · rcases h4 with h4 | h4
    · rw [h4]; unfold In; decide
    · exact h4
/-- the part of walk behind the step -/
theorem r_walk2 {i : Nat} (h : Sim M0 S0 g c b nT nH nL z (fun k => i ≤ k) F 99 M S) {N : Nat} (hN : 100 ≤ N) (hi : i < nH) (on : tI S 31 (6 * b + i) = 1) :
    ev (f_X5_dries N 12 c (Int32.ofNat i) M) fun q => ev (tw_boundLaw N (Int32.ofNat b) 0 (Int32.ofNat i) 1 S) fun q' => Sim M0 S0 g c b nT nH nL z (fun k => i + 1 ≤ k) F 99 (sI q.2 (c + 2) i (tI S 28 (6 * b + i) + q.1)) (tsI q'.2 28 (6 * b + i) (tI S 28 (6 * b + i) + q'.1)) ∧ q.2.2.1 = M.2.1 ∧ mT q.2 = mT M ∧ mLn q.2 = mLn M := by
  have hbb := h.bb
  have hnh := h.rd.nh
  have hnt := h.rd.nt
  have hnl := h.rd.nl
  have hb2 : inb (Int32.ofNat b) 2 = True := i_inb (by omega) (by omega)
  have hbn : (Int32.ofNat b).toNatClampNeg = b := i_toN (by omega)
  obtain ⟨q, h1, q', h2, h3, h4, h5, h6, h7⟩ := r_dries h hN hi (by omega)
  refine ⟨q, h1, q', h2, ?_, ?_, ?_, ?_⟩
  · rw [h3]
    have tb := h.si.tB i hi
    have ta := h.si.tA i hi (Nat.le_refl i) on
    refine sim_th (sim_A h5 (fun k hk => by have : i + 1 ≤ k := hk; omega)) hi ?_ (fun hA => ?_)
    · unfold In at *
      rw [Int32.toInt_add, Int.bmod_def]
      omega
    · have : i + 1 ≤ i := hA
      omega
  · exact h5.fm.t.trans h.fm.t.symm
  · exact h5.fm.t.trans h.fm.t.symm
  · exact h5.fm.ln.trans h.fm.ln.symm
theorem r_walk {i : Nat} (h : Sim M0 S0 g c b nT nH nL z (fun k => i ≤ k) F 99 M S) {N : Nat} (hN : 100 ≤ N) (hi : i < nH) (on : tI S 31 (6 * b + i) = 1) :
    ev (f_X6_walk N c (Int32.ofNat i) M) fun M' => ev (tw_walks N (Int32.ofNat b) (Int32.ofNat i) S) fun S' => Sim M0 S0 g c b nT nH nL z (fun k => i + 1 ≤ k) F 99 M' S' := by
  have hbb := h.bb
  have hnh := h.rd.nh
  have hnt := h.rd.nt
  have hnl := h.rd.nl
  have hb2 : inb (Int32.ofNat b) 2 = True := i_inb (by omega) (by omega)
  have hbn : (Int32.ofNat b).toNatClampNeg = b := i_toN (by omega)
  have ix_i := ix6 b i
  have n12_i : inb (Int32.ofNat (6 * b + i)) 12 = True := i_inb (by omega) (by omega)
  have nn_i : (Int32.ofNat (6 * b + i)).toNatClampNeg = 6 * b + i := i_toN (by omega)
  have n6_i : inb (Int32.ofNat i) 6 = True := i_inb (by omega) (by omega)
  have m12_i : inb (Int32.ofNat i) 12 = True := i_inb (by omega) (by omega)
  have m_i : (Int32.ofNat i).toNatClampNeg = i := i_toN (by omega)
  unfold f_X6_walk tw_walks
  have pc := pcB h hi
  have eF : farV S b i = if 0 ≤ tI S 29 (6 * b + i) then abV (tI S 6 (tI S 29 (6 * b + i)).toNatClampNeg - tI S 27 (6 * b + i)) else 0 := rfl
  have pre : ∀ M1 S1, Sim M0 S0 g c b nT nH nL z (fun k => i ≤ k) F 99 M1 S1 → tI S1 28 (6 * b + i) = tI S 28 (6 * b + i) → tI S1 31 (6 * b + i) = 1 →
      ev (f_X5_dries N 12 c (Int32.ofNat i) M1) fun a => mT a.2 (c + 2) = 100 ∧ inb (Int32.ofNat i) (mLn a.2 (c + 2)) ∧ ev (tw_boundLaw N (Int32.ofNat b) 0 (Int32.ofNat i) 1 S1) fun a' => Sim M0 S0 g c b nT nH nL z (fun k => i + 1 ≤ k) F 99 (sI a.2 (c + 2) i (tI S 28 (6 * b + i) + a.1)) (tsI a'.2 28 (6 * b + i) (tI S 28 (6 * b + i) + a'.1)) := by
    intro M1 S1 hs e1 e2
    obtain ⟨q, h1, q', h2, h3, _, h4, h5⟩ := r_walk2 hs hN hi e2
    refine ⟨q, h1, ?_, ?_, q', h2, ?_⟩
    · rw [h4]; exact hs.st.k2
    · rw [h5, hs.st.n2, n6_i]; trivial
    · rw [e1] at h3; exact h3
  rcases h.si.gB i hi with eg | ⟨t, ht, eg⟩
  · rw [eg, if_neg n1_lt] at eF
    have z0 : ((0 : Int32) ≤ 0) = True := eq_true (by decide)
    simp only [ev_some, ev_none, ev_be, ev_gd, ev_bd, ev_bd2, ev_bd3, ev_bd4, ev_ite, mI_sI, mI_sL, mI_sR, mL_sI, mL_sL, mL_sR, mR_sI, mR_sL, mR_sR, mT_sI, mT_sL, mT_sR, mLn_sI, mLn_sL, mLn_sR, mN_sI, mN_sL, mN_sR, tI_tsI, tI_tsL, tL_tsI, tL_tsL, h.tt.k, h.tt.r0, h.tt.r5, h.tt.r6, h.tt.r7, h.tt.r8, h.tt.r9, h.tt.r10, h.tt.r11, h.tt.r12, h.tt.r14, h.tt.r15, h.tt.r16, h.tt.r17, h.tt.k11, h.tt.n11, h.tt.k12, h.tt.q121, h.rd.k, h.rd.r0, h.rd.r1, h.rd.r2, h.rd.r3, h.rd.wk, h.rd.wn, h.rd.tl.k, h.rd.hl.k, h.rd.pl.k, h.st.k, h.st.r0, h.st.r1, h.st.r2, h.st.r3, h.st.r4, h.st.r5, h.st.rt, h.st.k1, h.st.k2, h.st.k3, h.st.k4, h.st.k5, h.st.k6, h.st.n1, h.st.n2, h.st.n3, h.st.n4, h.st.n5, h.st.n6, ix_i, n12_i, nn_i, n6_i, m12_i, m_i, le_1, le_2, le_3, le_4, le_5, le_6, le_7, le_8, le_9, le_10, le_11, le_12, le_13, le_14, le_15, le_16, le_17, le_18, le_19, le_20, le_21, le_22, le_23, le_24, le_25, le_26, le_27, le_28, le_29, le_30, le_31, le_32, le_33, le_34, le_35, le_36, le_37, le_38, le_39, le_40, le_41, le_42, le_43, le_44, le_45, true_and, and_true, forall_const, not_true_eq_false, not_false_eq_true, false_implies, ne_eq, implies_true, true_implies, ev_some, h.si.p i hi, h.si.th i hi, h.si.go i hi, ev_eq (t_far h hi), eF, eg, z0, Nat.reduceEqDiff, Nat.add_left_cancel_iff, false_and, and_false, if_false, if_true, true_and, and_true, and_self, cn_1, cm_1, cn_2, cm_2, cn_3, cm_3, cn_4, cm_4, cn_5, cm_5, cn_6, cm_6]
    exact pre M S h rfl on
  · have m12 : inb (Int32.ofNat t) 12 = True := i_inb (by omega) (by omega)
    have mt : (Int32.ofNat t).toNatClampNeg = t := i_toN (by omega)
    have g1 := h.rd.tP t ht
    have g2 := h.rd.tPB t ht
    simp only [Nat.mul_zero, Nat.zero_add] at g1 g2
    rw [eg, if_pos (i_nn (by omega)), mt] at eF
    have wk := walk_eq g2 (h.si.pB i hi) pc
    rw [← eF] at wk
    by_cases hf : farV S b i ≤ 0
    · have s1 := sim_p h hi (h.si.pB i hi)
      rw [tsI_self] at s1
      simp only [ev_some, ev_none, ev_be, ev_gd, ev_bd, ev_bd2, ev_bd3, ev_bd4, ev_ite, mI_sI, mI_sL, mI_sR, mL_sI, mL_sL, mL_sR, mR_sI, mR_sL, mR_sR, mT_sI, mT_sL, mT_sR, mLn_sI, mLn_sL, mLn_sR, mN_sI, mN_sL, mN_sR, tI_tsI, tI_tsL, tL_tsI, tL_tsL, h.tt.k, h.tt.r0, h.tt.r5, h.tt.r6, h.tt.r7, h.tt.r8, h.tt.r9, h.tt.r10, h.tt.r11, h.tt.r12, h.tt.r14, h.tt.r15, h.tt.r16, h.tt.r17, h.tt.k11, h.tt.n11, h.tt.k12, h.tt.q121, h.rd.k, h.rd.r0, h.rd.r1, h.rd.r2, h.rd.r3, h.rd.wk, h.rd.wn, h.rd.tl.k, h.rd.hl.k, h.rd.pl.k, h.st.k, h.st.r0, h.st.r1, h.st.r2, h.st.r3, h.st.r4, h.st.r5, h.st.rt, h.st.k1, h.st.k2, h.st.k3, h.st.k4, h.st.k5, h.st.k6, h.st.n1, h.st.n2, h.st.n3, h.st.n4, h.st.n5, h.st.n6, ix_i, n12_i, nn_i, n6_i, m12_i, m_i, le_1, le_2, le_3, le_4, le_5, le_6, le_7, le_8, le_9, le_10, le_11, le_12, le_13, le_14, le_15, le_16, le_17, le_18, le_19, le_20, le_21, le_22, le_23, le_24, le_25, le_26, le_27, le_28, le_29, le_30, le_31, le_32, le_33, le_34, le_35, le_36, le_37, le_38, le_39, le_40, le_41, le_42, le_43, le_44, le_45, true_and, and_true, forall_const, not_true_eq_false, not_false_eq_true, false_implies, ne_eq, implies_true, true_implies, ev_some, h.si.p i hi, h.si.th i hi, h.si.go i hi, ev_eq (t_far h hi), eg, hf, i_nneg (show t < 2147483648 by omega), ev_eq (a_trough h.tt h.rd ht), h.rd.tk ht, g1, c_min, c_max, ev_eq (c_pace h hi), wk.1 hf, Nat.reduceEqDiff, Nat.add_left_cancel_iff, false_and, and_false, if_false, if_true, true_and, and_true, and_self, cn_1, cm_1, cn_2, cm_2, cn_3, cm_3, cn_4, cm_4, cn_5, cm_5, cn_6, cm_6]
      exact pre _ S s1 rfl on
    · have s1 := sim_p h hi wk.2.2
      simp only [ev_some, ev_none, ev_be, ev_gd, ev_bd, ev_bd2, ev_bd3, ev_bd4, ev_ite, mI_sI, mI_sL, mI_sR, mL_sI, mL_sL, mL_sR, mR_sI, mR_sL, mR_sR, mT_sI, mT_sL, mT_sR, mLn_sI, mLn_sL, mLn_sR, mN_sI, mN_sL, mN_sR, tI_tsI, tI_tsL, tL_tsI, tL_tsL, h.tt.k, h.tt.r0, h.tt.r5, h.tt.r6, h.tt.r7, h.tt.r8, h.tt.r9, h.tt.r10, h.tt.r11, h.tt.r12, h.tt.r14, h.tt.r15, h.tt.r16, h.tt.r17, h.tt.k11, h.tt.n11, h.tt.k12, h.tt.q121, h.rd.k, h.rd.r0, h.rd.r1, h.rd.r2, h.rd.r3, h.rd.wk, h.rd.wn, h.rd.tl.k, h.rd.hl.k, h.rd.pl.k, h.st.k, h.st.r0, h.st.r1, h.st.r2, h.st.r3, h.st.r4, h.st.r5, h.st.rt, h.st.k1, h.st.k2, h.st.k3, h.st.k4, h.st.k5, h.st.k6, h.st.n1, h.st.n2, h.st.n3, h.st.n4, h.st.n5, h.st.n6, ix_i, n12_i, nn_i, n6_i, m12_i, m_i, le_1, le_2, le_3, le_4, le_5, le_6, le_7, le_8, le_9, le_10, le_11, le_12, le_13, le_14, le_15, le_16, le_17, le_18, le_19, le_20, le_21, le_22, le_23, le_24, le_25, le_26, le_27, le_28, le_29, le_30, le_31, le_32, le_33, le_34, le_35, le_36, le_37, le_38, le_39, le_40, le_41, le_42, le_43, le_44, le_45, true_and, and_true, forall_const, not_true_eq_false, not_false_eq_true, false_implies, ne_eq, implies_true, true_implies, ev_some, h.si.p i hi, h.si.th i hi, h.si.go i hi, ev_eq (t_far h hi), eg, hf, i_nneg (show t < 2147483648 by omega), ev_eq (a_trough h.tt h.rd ht), h.rd.tk ht, g1, c_min, c_max, ev_eq (c_pace h hi), ev_eq (t_pace (S := S) (show i < 6 by omega)), m12, mt, Nat.reduceEqDiff, Nat.add_left_cancel_iff, false_and, and_false, if_false, if_true, true_and, and_true, and_self, cn_1, cm_1, cn_2, cm_2, cn_3, cm_3, cn_4, cm_4, cn_5, cm_5, cn_6, cm_6]
      have p2 := pre _ _ s1 (by rw [tI_tsI, if_neg (by omega)]) (by rw [tI_tsI, if_neg (by omega)]; exact on)
      refine ev_mono p2 ?_
      rintro q ⟨q1, q2, q3⟩
      have w2 := wk.2.1 hf
      refine ⟨q1, q2, fun hc => ?_, fun hc => ?_⟩
      · rw [if_pos hc] at w2
        rw [w2] at q3
        exact q3
      · rw [if_neg hc] at w2
        rw [w2] at q3
        exact q3
end
