set_option maxRecDepth 100000
section
/-- a loop by a counter, side by side -/
theorem lp_for {σ τ ρ ρ' : Type} {f : Int32 × σ → Option (ρ ⊕ (Int32 × σ))} {g : Int32 × τ → Option (ρ' ⊕ (Int32 × τ))} {R : ρ → ρ' → Prop} (P : Nat → σ → τ → Prop) (n : Nat)
    (hs : ∀ i, i ≤ n → ∀ s t, P i s t → ev (f (Int32.ofNat i, s)) fun x => ev (g (Int32.ofNat i, t)) fun y => (∃ s' t', x = .inr (Int32.ofNat (i + 1), s') ∧ y = .inr (Int32.ofNat (i + 1), t') ∧ i < n ∧ P (i + 1) s' t') ∨ (∃ r r', x = .inl r ∧ y = .inl r' ∧ R r r')) :
    ∀ (N i0 : Nat), n < N → i0 ≤ n → ∀ s t, P i0 s t → ev (lp N f (Int32.ofNat i0, s)) fun r => ev (lp N g (Int32.ofNat i0, t)) fun r' => R r r' := by
  intro N i0 hN hi s t hP
  refine lp_rel (R := R) (fun m s t => ∃ i, i + m = n ∧ ∃ s1 t1, s = (Int32.ofNat i, s1) ∧ t = (Int32.ofNat i, t1) ∧ P i s1 t1) ?_ N (n - i0) _ _ (by omega) ⟨i0, by omega, s, t, rfl, rfl, hP⟩
  rintro m _ _ ⟨i, hm, s1, t1, rfl, rfl, hp⟩
  refine ev_mono (hs i (by omega) s1 t1 hp) ?_
  intro x hx
  refine ev_mono hx ?_
  rintro y (⟨s', t', rfl, rfl, h1, h2⟩ | ⟨r, r', rfl, rfl, h1⟩)
  · exact ⟨m - 1, by omega, i + 1, by omega, s', t', rfl, rfl, h2⟩
  · exact h1
variable {M M0 : Mem} {S S0 : TS} {g u nT nH nL c b x : Nat} {z : Int32} {A : Nat → Prop} {F : Prop}
theorem mn3 (q a w : Int32) : mnV q (mnV a w) = if (if q ≤ a then q else a) ≤ w then (if q ≤ a then q else a) else w := by
  unfold mnV
  simp only [Int32.lt_iff_toInt_lt, Int32.le_iff_toInt_le]
  rw [← Int32.toInt_inj]
  repeat' split
  all_goals omega
theorem r_drinkB {i : Nat} (h : Sim M0 S0 g c b nT nH nL z A F 99 M S) {N : Nat} (hN : 100 ≤ N) (hi : i < nH) :
    ev (f_X6_pass_b3 N c z (Int32.ofNat i) M) fun X => ev (tw_hourGoes_b3 N (Int32.ofNat b) (Int32.ofNat i) S) fun Y => ∃ M' S', X = .inr (Int32.ofNat (i + 1), M') ∧ Y = .inr (Int32.ofNat (i + 1), S') ∧ Sim M0 S0 g c b nT nH nL z A F 99 M' S' := by
  have hbb := h.bb
  have hnh := h.rd.nh
  have hnt := h.rd.nt
  have hnl := h.rd.nl
  have hb2 : inb (Int32.ofNat b) 2 = True := i_inb (by omega) (by omega)
  have hbn : (Int32.ofNat b).toNatClampNeg = b := i_toN (by omega)
  have ix_i := ix6 b i
  have n12_i : inb (Int32.ofNat (6 * b + i)) 12 = True := i_inb (by omega) (by omega)
  have nn_i : (Int32.ofNat (6 * b + i)).toNatClampNeg = 6 * b + i := i_toN (by omega)
  have n6_i : inb (Int32.ofNat i) 6 = True := i_inb (by omega) (by omega)
  have m12_i : inb (Int32.ofNat i) 12 = True := i_inb (by omega) (by omega)
  have m_i : (Int32.ofNat i).toNatClampNeg = i := i_toN (by omega)
  have h2 := sim_dr h (v := 0) hi
  have rd2 : RdR (sI M (c + 5) i 0) g S 0 nT nH nL := RdR_mv (M := M) rfl rfl rfl (fun a k h5 h100 => by rw [mI_sI, if_neg]; rintro ⟨rfl, _⟩; exact h100 h.st.k5) (fun _ _ _ _ => rfl) (fun _ _ _ => rfl) (by omega) h.rd
  obtain ⟨r, t1, t2, t3⟩ := r_tAt rd2 hN (tI S 27 (6 * b + i))
  have l1 : (Int32.ofNat nH ≤ Int32.ofNat i) = False := eq_false (by rw [i_le (by omega) (by omega)]; omega)
  have eo : onV (sI M (c + 5) i 0) c i = tI S 31 (6 * b + i) := by rw [onV_ne (by omega)]; exact h.si.onv i hi
  have on01 := onV_01 (sI M (c + 5) i 0) c i
  rw [eo] at on01
  unfold f_X6_pass_b3 tw_hourGoes_b3
  simp only [ev_some, ev_none, ev_be, ev_gd, ev_bd, ev_bd2, ev_bd3, ev_bd4, ev_ite, h.tt.k, h.tt.r0, h.tt.r5, h.tt.r6, h.tt.r7, h.tt.r8, h.tt.r9, h.tt.r10, h.tt.r11, h.tt.r12, h.tt.r14, h.tt.r15, h.tt.r16, h.tt.r17, h.tt.k11, h.tt.n11, h.tt.k12, h.tt.q121, h.rd.k, h.rd.r0, h.rd.r1, h.rd.r2, h.rd.r3, h.rd.wk, h.rd.wn, h.rd.tl.k, h.rd.hl.k, h.rd.pl.k, h.st.k, h.st.r0, h.st.r1, h.st.r2, h.st.r3, h.st.r4, h.st.r5, h.st.rt, h.st.k1, h.st.k2, h.st.k3, h.st.k4, h.st.k5, h.st.k6, h.st.n1, h.st.n2, h.st.n3, h.st.n4, h.st.n5, h.st.n6, ix_i, n12_i, nn_i, n6_i, m12_i, m_i, true_and, and_true, forall_const, not_true_eq_false, not_false_eq_true, false_implies, ne_eq, implies_true, true_implies, ev_some, a_horses h.tt h.rd, l1, show tI S 0 13 = Int32.ofNat nH from h.rd.cH, ev_eq (c_isOn h2.st i), eo]
  unfold tw_drinks
  simp only [ev_some, ev_none, ev_be, ev_gd, ev_bd, ev_bd2, ev_bd3, ev_bd4, ev_ite, tI_tsI, tI_tsL, tL_tsI, tL_tsL, ix_i, n12_i, nn_i, n6_i, m12_i, m_i, le_1, le_2, le_3, le_4, le_5, le_6, le_7, le_8, le_9, le_10, le_11, le_12, le_13, le_14, le_15, le_16, le_17, le_18, le_19, le_20, le_21, le_22, le_23, le_24, le_25, le_26, le_27, le_28, le_29, le_30, le_31, le_32, le_33, le_34, le_35, le_36, le_37, le_38, le_39, le_40, le_41, le_42, le_43, le_44, le_45, true_and, and_true, forall_const, not_true_eq_false, not_false_eq_true, false_implies, ne_eq, implies_true, true_implies, ev_some, ev_eq t2, Nat.reduceEqDiff, Nat.add_left_cancel_iff, false_and, and_false, if_false, if_true, true_and, and_true, and_self, cn_1, cm_1, cn_2, cm_2, cn_3, cm_3, cn_4, cm_4, cn_5, cm_5, cn_6, cm_6]
  rcases on01 with on0 | on1
  · simp only [on0, true_and, and_true, forall_const, not_true_eq_false, not_false_eq_true, false_implies, ne_eq, implies_true, true_implies, ev_some, i_succ]
    exact ⟨_, _, rfl, rfl, h2⟩
  · have d10 : ((1 : Int32) = 0) = False := eq_false (by decide)
    simp only [on1, d10, true_and, and_true, forall_const, not_true_eq_false, not_false_eq_true, false_implies, ne_eq, implies_true, true_implies, ev_some, i_succ]
    unfold f_X6_drink
    simp only [ev_some, ev_none, ev_be, ev_gd, ev_bd, ev_bd2, ev_bd3, ev_bd4, ev_ite, mI_sI, mI_sL, mI_sR, mL_sI, mL_sL, mL_sR, mR_sI, mR_sL, mR_sR, mT_sI, mT_sL, mT_sR, mLn_sI, mLn_sL, mLn_sR, mN_sI, mN_sL, mN_sR, h.tt.k, h.tt.r0, h.tt.r5, h.tt.r6, h.tt.r7, h.tt.r8, h.tt.r9, h.tt.r10, h.tt.r11, h.tt.r12, h.tt.r14, h.tt.r15, h.tt.r16, h.tt.r17, h.tt.k11, h.tt.n11, h.tt.k12, h.tt.q121, h.rd.k, h.rd.r0, h.rd.r1, h.rd.r2, h.rd.r3, h.rd.wk, h.rd.wn, h.rd.tl.k, h.rd.hl.k, h.rd.pl.k, h.st.k, h.st.r0, h.st.r1, h.st.r2, h.st.r3, h.st.r4, h.st.r5, h.st.rt, h.st.k1, h.st.k2, h.st.k3, h.st.k4, h.st.k5, h.st.k6, h.st.n1, h.st.n2, h.st.n3, h.st.n4, h.st.n5, h.st.n6, ix_i, n12_i, nn_i, n6_i, m12_i, m_i, true_and, and_true, forall_const, not_true_eq_false, not_false_eq_true, false_implies, ne_eq, implies_true, true_implies, ev_some, Nat.reduceEqDiff, Nat.add_left_cancel_iff, false_and, and_false, if_false, if_true, true_and, and_true, and_self, cn_1, cm_1, cn_2, cm_2, cn_3, cm_3, cn_4, cm_4, cn_5, cm_5, cn_6, cm_6, h.si.p i hi]
    have t1' : f_X10_at N (tlA M g) (tI S 27 (6 * b + i)) (sI M (c + 5) i 0) = some r := t1
    simp only [ev_eq t1']
    rcases t3 with rfl | ⟨t, ht, rfl, _⟩
    · have ng : ((-1 : Int32) < 0) = True := eq_true (by decide)
      simp only [true_and, and_true, forall_const, not_true_eq_false, not_false_eq_true, false_implies, ne_eq, implies_true, true_implies, ev_some, ng, forall_const]
      exact ⟨fun _ => ⟨_, _, rfl, rfl, h2⟩, fun _ => ⟨_, _, rfl, rfl, h2⟩⟩
    · have nl : (Int32.ofNat t < 0) = False := eq_false (by rw [show (0 : Int32) = Int32.ofNat 0 from rfl, i_lt (by omega) (by omega)]; omega)
      have ix_t := ix6 b t
      have n12_t : inb (Int32.ofNat (6 * b + t)) 12 = True := i_inb (by omega) (by omega)
      have nn_t : (Int32.ofNat (6 * b + t)).toNatClampNeg = 6 * b + t := i_toN (by omega)
      have n6_t : inb (Int32.ofNat t) 6 = True := i_inb (by omega) (by omega)
      have m12_t : inb (Int32.ofNat t) 12 = True := i_inb (by omega) (by omega)
      have m_t : (Int32.ofNat t).toNatClampNeg = t := i_toN (by omega)
      have hw := h.si.wa t ht
      have hth := h.si.th i hi
      have nd := h.si.noD
      simp only [nl, i_nneg (show t < 2147483648 by omega), ix_t, n12_t, nn_t, n6_t, m12_t, m_t, true_and, and_true, forall_const, not_true_eq_false, not_false_eq_true, false_implies, ne_eq, implies_true, true_implies, ev_some, hth, hw, hb2, hbn]
      by_cases e1 : tI S 28 (6 * b + i) = 0
      · simp only [e1, true_and, and_true, forall_const, not_true_eq_false, not_false_eq_true, false_implies, ne_eq, implies_true, true_implies, ev_some]
        exact ⟨fun _ => ⟨_, _, rfl, rfl, h2⟩, fun _ => ⟨_, _, rfl, rfl, h2⟩⟩
      · by_cases e2 : tI S 33 (6 * b + t) = 0
        · simp only [e1, e2, true_and, and_true, forall_const, not_true_eq_false, not_false_eq_true, false_implies, ne_eq, implies_true, true_implies, ev_some]
          exact ⟨fun _ => ⟨_, _, rfl, rfl, h2⟩, fun _ => ⟨_, _, rfl, rfl, h2⟩⟩
        · by_cases e3 : mI M c 12 = 1
          · rw [if_pos e3] at nd
            simp only [e1, e2, e3, nd, d10, true_and, and_true, forall_const, not_true_eq_false, not_false_eq_true, false_implies, ne_eq, implies_true, true_implies, ev_some]
            exact ⟨_, _, rfl, rfl, h2⟩
          · rw [if_neg e3] at nd
            simp only [e1, e2, e3, nd, true_and, and_true, forall_const, not_true_eq_false, not_false_eq_true, false_implies, ne_eq, implies_true, true_implies, ev_some]
            obtain ⟨⟨q, M3⟩, g1, ⟨q', S3⟩, g2, g3, g4, g5, g6, g7⟩ := r_gulps h2 hN hi (by omega)
            simp only at g3 g4 g5 g6 g7
            subst g3
            have k28 : tI S3 28 (6 * b + i) = tI S 28 (6 * b + i) := by rw [g7 28 _ (by omega), tI_tsI, if_neg (by omega)]
            have k33 : tI S3 33 (6 * b + t) = tI S 33 (6 * b + t) := by rw [g7 33 _ (by omega), tI_tsI, if_neg (by omega)]
            have k36 : tI S3 36 b = tI S 36 b := by rw [g7 36 _ (by omega), tI_tsI, if_neg (by omega)]
            have j2 : mI M3 (c + 2) i = tI S 28 (6 * b + i) := by rw [g5.si.th i hi, k28]
            have j6 : mI M3 (c + 6) t = tI S 33 (6 * b + t) := by rw [g5.si.wa t ht, k33]
            have j10 : mI M3 c 10 = tI S 36 b := by rw [g5.si.dk, k36]
            simp only [g1, g2, ev_some, ev_none, ev_be, ev_gd, ev_bd, ev_bd2, ev_bd3, ev_bd4, ev_ite, mI_sI, mI_sL, mI_sR, mL_sI, mL_sL, mL_sR, mR_sI, mR_sL, mR_sR, mT_sI, mT_sL, mT_sR, mLn_sI, mLn_sL, mLn_sR, mN_sI, mN_sL, mN_sR, g5.st.k, g5.st.r0, g5.st.r1, g5.st.r4, g5.st.r5, g5.st.k2, g5.st.k5, g5.st.k6, g5.st.n2, g5.st.n5, g5.st.n6, ix_i, n12_i, nn_i, n6_i, m12_i, m_i, ix_t, n12_t, nn_t, n6_t, m12_t, m_t, true_and, and_true, forall_const, not_true_eq_false, not_false_eq_true, false_implies, ne_eq, implies_true, true_implies, ev_some, Nat.reduceEqDiff, Nat.add_left_cancel_iff, false_and, and_false, if_false, if_true, true_and, and_true, and_self, cn_1, cm_1, cn_2, cm_2, cn_3, cm_3, cn_4, cm_4, cn_5, cm_5, cn_6, cm_6, c_min, j2, j6, j10, k28, k33, k36, tI_tsI, tI_tsL, tL_tsI, tL_tsL, ev_gd]
            have key := mn3 q' (tI S 28 (6 * b + i)) (tI S 33 (6 * b + t))
            have tb := h.si.tB i hi
            have wb := h.si.wB t ht
            have fin : ∀ v, v = mnV q' (mnV (tI S 28 (6 * b + i)) (tI S 33 (6 * b + t))) → Sim M0 S0 g c b nT nH nL z A F 99 (sI (sI (sI (sI M3 (c + 2) i (tI S 28 (6 * b + i) - v)) (c + 6) t (tI S 33 (6 * b + t) - v)) (c + 5) i v) c 10 (tI S 36 b + v)) (tsI (tsI (tsI (tsI S3 28 (6 * b + i) (tI S 28 (6 * b + i) - v)) 33 (6 * b + t) (tI S 33 (6 * b + t) - v)) 32 (6 * b + i) v) 36 b (tI S 36 b + v)) := by
              intro v hv
              have bv : 0 ≤ v.toInt ∧ v.toInt ≤ (tI S 28 (6 * b + i)).toInt ∧ v.toInt ≤ (tI S 33 (6 * b + t)).toInt := by
                subst hv
                unfold mnV In at *
                simp only [Int32.lt_iff_toInt_lt]
                repeat' split
                all_goals omega
              refine sim_dk (sim_dr (sim_wa (sim_th g5 hi ?_ ?_) ht ?_) hi)
              · unfold In at *
                rw [Int32.toInt_sub, Int.bmod_def]
                omega
              · intro hA hon
                have := h.si.tA i hi hA (by rw [g7 31 _ (by omega), tI_tsI, if_neg (by omega)] at hon; exact hon)
                rw [Int32.toInt_sub, Int.bmod_def]
                unfold In at *
                omega
              · unfold In at *
                rw [Int32.toInt_sub, Int.bmod_def]
                omega
            refine ⟨fun c1 => ⟨fun c2 => ?_, fun c2 => ?_⟩, fun c1 => ⟨fun c2 => ?_, fun c2 => ?_⟩⟩
            · rw [if_pos c1, if_pos c2] at key
              rw [key]
              exact ⟨_, _, rfl, rfl, fin _ key.symm⟩
            · rw [if_pos c1, if_neg c2] at key
              rw [key]
              exact ⟨_, _, rfl, rfl, fin _ key.symm⟩
            · rw [if_neg c1, if_pos c2] at key
              rw [key]
              exact ⟨_, _, rfl, rfl, fin _ key.symm⟩
            · rw [if_neg c1, if_neg c2] at key
              rw [key]
              exact ⟨_, _, rfl, rfl, fin _ key.symm⟩
end
