set_option maxRecDepth 100000
section
theorem tsI_comm (S : TS) {j k j' k' : Nat} (v w : Int32) (h : ¬ (j = j' ∧ k = k')) : tsI (tsI S j k v) j' k' w = tsI (tsI S j' k' w) j k v := by
  unfold tsI
  have e : u2 (u2 (tI S) j k v) j' k' w = u2 (u2 (tI S) j' k' w) j k v := by
    funext x y
    unfold u2
    by_cases h1 : x = j ∧ y = k
    · by_cases h2 : x = j' ∧ y = k'
      · exact absurd ⟨h1.1.symm.trans h2.1, h1.2.symm.trans h2.2⟩ h
      · rw [if_neg h2, if_pos h1, if_pos h1]
    · rw [if_neg h1, if_neg h1]
  exact Prod.ext e rfl
theorem zn_30 : ((30 : Nat) = 0) = False := eq_false (by decide)
theorem mn9 (y : Int32) : mnV 9999 y = if y ≤ 9999 then y else 9999 := by
  unfold mnV
  simp only [Int32.lt_iff_toInt_lt, Int32.le_iff_toInt_le]
  have : (9999 : Int32).toInt = 9999 := by decide
  rw [← Int32.toInt_inj]
  repeat' split
  all_goals omega
theorem t_more (p q : Int32) (S : TS) : tw_more p q S = some (if p + q ≤ 9999 then p + q else 9999) := rfl
variable {M M0 : Mem} {S S0 : TS} {g u nT nH nL c b x : Nat} {z : Int32} {A : Nat → Prop} {F : Prop}
theorem r_fight2 {i j : Nat} (h : Sim M0 S0 g c b nT nH nL z A F 99 M S) {N : Nat} (hN : 100 ≤ N) (hi : i < nH) (hj : j < nH) (hij : i ≠ j) :
    ev (f_X5_fights N 12 c (Int32.ofNat i) M) fun q1 => mT q1.2 = mT M ∧ mR q1.2 = mR M ∧ mLn q1.2 = mLn M ∧ ev (f_X5_fights N 12 c (Int32.ofNat j) q1.2) fun q2 => mT q2.2 = mT M ∧ mR q2.2 = mR M ∧ mLn q2.2 = mLn M ∧ mI q2.2 = mI M ∧
    ev (tw_boundLaw N (Int32.ofNat b) 2 (Int32.ofNat i) 1 S) fun p1 => ev (tw_boundLaw N (Int32.ofNat b) 2 (Int32.ofNat j) 1 (tsI p1.2 30 (6 * b + i) (if tI S 30 (6 * b + i) + p1.1 ≤ 9999 then tI S 30 (6 * b + i) + p1.1 else 9999))) fun p2 =>
    Sim M0 S0 g c b nT nH nL z A F 99 (sI (sI q2.2 (c + 4) i (mnV 9999 (tI S 30 (6 * b + i) + q1.1))) (c + 4) j (mnV 9999 (tI S 30 (6 * b + j) + q2.1))) (tsI p2.2 30 (6 * b + j) (if tI S 30 (6 * b + j) + p2.1 ≤ 9999 then tI S 30 (6 * b + j) + p2.1 else 9999)) ∧ tI p1.2 30 = tI S 30 := by
  obtain ⟨⟨a1, M1⟩, h1, ⟨a2, S1⟩, h2, h3, h4, h5, h6, h7⟩ := r_fights h hN hi (by have := h.rd.nh; omega)
  simp only at h3 h4 h5 h6 h7
  subst h3
  have t30 : tI S1 30 = tI S 30 := funext fun y => h7 30 y (by omega)
  have s2 := sim_hu1 h5 (k := i) (v := if tI S 30 (6 * b + i) + a2 ≤ 9999 then tI S 30 (6 * b + i) + a2 else 9999) hi
  obtain ⟨⟨b1, M2⟩, g1, ⟨b2, S2⟩, g2, g3, g4, g5, g6, g7⟩ := r_fights s2 hN hj (by omega)
  simp only at g3 g4 g5 g6 g7
  subst g3
  refine ⟨_, h1, h5.fm.t.trans h.fm.t.symm, h5.fm.r.trans h.fm.r.symm, h5.fm.ln.trans h.fm.ln.symm, _, g1, g5.fm.t.trans h.fm.t.symm, g5.fm.r.trans h.fm.r.symm, g5.fm.ln.trans h.fm.ln.symm, g6.trans h6, _, h2, _, g2, ?_, t30⟩
  have e1 : tI S2 30 (6 * b + i) = mnV 9999 (tI S 30 (6 * b + i) + a2) := by
    rw [g7 30 _ (by omega), tI_tsI, if_pos ⟨rfl, rfl⟩, mn9]
  have s3 := sim_hu2 g5 hi e1
  rw [mn9 (tI S 30 (6 * b + j) + b2)]
  exact sim_hu s3 hj
theorem r_meetB {i j : Nat} (h : Sim M0 S0 g c b nT nH nL z A True 99 M S) {N : Nat} (hN : 100 ≤ N) (hi : i < nH) (hj : j < nH) (hij : i ≠ j) :
    ev (f_X6_pass_b7 N (Int32.ofNat i) c z (Int32.ofNat j) M) fun X => ev (tw_hourGoes_b7 N (Int32.ofNat i) (Int32.ofNat b) (Int32.ofNat j) S) fun Y => ∃ M' S', X = .inr (Int32.ofNat (j + 1), M') ∧ Y = .inr (Int32.ofNat (j + 1), S') ∧ Sim M0 S0 g c b nT nH nL z A True 99 M' S' := by
  have hbb := h.bb
  have hnh := h.rd.nh
  have hnt := h.rd.nt
  have hnl := h.rd.nl
  have hb2 : inb (Int32.ofNat b) 2 = True := i_inb (by omega) (by omega)
  have hbn : (Int32.ofNat b).toNatClampNeg = b := i_toN (by omega)
  have ix_i := ix6 b i
  have n12_i : inb (Int32.ofNat (6 * b + i)) 12 = True := i_inb (by omega) (by omega)
  have nn_i : (Int32.ofNat (6 * b + i)).toNatClampNeg = 6 * b + i := i_toN (by omega)
  have n6_i : inb (Int32.ofNat i) 6 = True := i_inb (by omega) (by omega)
  have m12_i : inb (Int32.ofNat i) 12 = True := i_inb (by omega) (by omega)
  have m_i : (Int32.ofNat i).toNatClampNeg = i := i_toN (by omega)
  have ix_j := ix6 b j
  have n12_j : inb (Int32.ofNat (6 * b + j)) 12 = True := i_inb (by omega) (by omega)
  have nn_j : (Int32.ofNat (6 * b + j)).toNatClampNeg = 6 * b + j := i_toN (by omega)
  have n6_j : inb (Int32.ofNat j) 6 = True := i_inb (by omega) (by omega)
  have m12_j : inb (Int32.ofNat j) 12 = True := i_inb (by omega) (by omega)
  have m_j : (Int32.ofNat j).toNatClampNeg = j := i_toN (by omega)
  have l1 : (Int32.ofNat nH ≤ Int32.ofNat j) = False := eq_false (by rw [i_le (by omega) (by omega)]; omega)
  have oi := h.si.onv i hi
  have oj := h.si.onv j hj
  have oi1 := onV_01 M c i
  have oj1 := onV_01 M c j
  have si := h.rd.hS i hi
  have sj := h.rd.hS j hj
  simp only [Nat.mul_zero, Nat.zero_add] at si sj
  rw [oi] at oi1
  rw [oj] at oj1
  have d10 : ((1 : Int32) = 0) = False := eq_false (by decide)
  unfold f_X6_pass_b7 tw_hourGoes_b7
  simp only [ev_some, ev_none, ev_be, ev_gd, ev_bd, ev_bd2, ev_bd3, ev_bd4, ev_ite, h.tt.k, h.tt.r0, h.tt.r5, h.tt.r6, h.tt.r7, h.tt.r8, h.tt.r9, h.tt.r10, h.tt.r11, h.tt.r12, h.tt.r14, h.tt.r15, h.tt.r16, h.tt.r17, h.tt.k11, h.tt.n11, h.tt.k12, h.tt.q121, h.rd.k, h.rd.r0, h.rd.r1, h.rd.r2, h.rd.r3, h.rd.wk, h.rd.wn, h.rd.tl.k, h.rd.hl.k, h.rd.pl.k, h.st.k, h.st.r0, h.st.r1, h.st.r2, h.st.r3, h.st.r4, h.st.r5, h.st.rt, h.st.k1, h.st.k2, h.st.k3, h.st.k4, h.st.k5, h.st.k6, h.st.n1, h.st.n2, h.st.n3, h.st.n4, h.st.n5, h.st.n6, ix_i, n12_i, nn_i, n6_i, m12_i, m_i, ix_j, n12_j, nn_j, n6_j, m12_j, m_j, true_and, and_true, forall_const, not_true_eq_false, not_false_eq_true, false_implies, ne_eq, implies_true, true_implies, ev_some, a_horses h.tt h.rd, l1, show tI S 0 13 = Int32.ofNat nH from h.rd.cH, ev_eq (c_isOn h.st i), ev_eq (c_isOn h.st j), oi, oj, i_succ, h.si.p i hi, h.si.p j hj, ev_eq (a_horse h.tt h.rd hi), ev_eq (a_horse h.tt h.rd hj), h.rd.hk hi, h.rd.hk hj, si, sj]
  unfold tw_meets
  simp only [ev_some, ev_none, ev_be, ev_gd, ev_bd, ev_bd2, ev_bd3, ev_bd4, ev_ite, tI_tsI, tI_tsL, tL_tsI, tL_tsL, ix_i, n12_i, nn_i, n6_i, m12_i, m_i, ix_j, n12_j, nn_j, n6_j, m12_j, m_j, le_1, le_2, le_3, le_4, le_5, le_6, le_7, le_8, le_9, le_10, le_11, le_12, le_13, le_14, le_15, le_16, le_17, le_18, le_19, le_20, le_21, le_22, le_23, le_24, le_25, le_26, le_27, le_28, le_29, le_30, le_31, le_32, le_33, le_34, le_35, le_36, le_37, le_38, le_39, le_40, le_41, le_42, le_43, le_44, le_45, true_and, and_true, forall_const, not_true_eq_false, not_false_eq_true, false_implies, ne_eq, implies_true, true_implies, ev_some, Nat.reduceEqDiff, Nat.add_left_cancel_iff, false_and, and_false, if_false, if_true, true_and, and_true, and_self, cn_1, cm_1, cn_2, cm_2, cn_3, cm_3, cn_4, cm_4, cn_5, cm_5, cn_6, cm_6, hb2, hbn]
  rcases oi1 with o1 | o1
  · simp only [o1, true_and, and_true, forall_const, not_true_eq_false, not_false_eq_true, false_implies, ne_eq, implies_true, true_implies, ev_some]
    exact ⟨_, _, rfl, rfl, h⟩
  rcases oj1 with o2 | o2
  · simp only [o1, o2, d10, true_and, and_true, forall_const, not_true_eq_false, not_false_eq_true, false_implies, ne_eq, implies_true, true_implies, ev_some]
    exact ⟨_, _, rfl, rfl, h⟩
  by_cases e1 : tI S 27 (6 * b + i) = tI S 27 (6 * b + j)
  case neg =>
    simp only [o1, o2, d10, true_and, and_true, forall_const, not_true_eq_false, not_false_eq_true, false_implies, ne_eq, implies_true, true_implies, ev_some, e1]
    exact ⟨_, _, rfl, rfl, h⟩
  by_cases e2 : tI S 10 i = tI S 10 j
  · simp only [o1, o2, d10, true_and, and_true, forall_const, not_true_eq_false, not_false_eq_true, false_implies, ne_eq, implies_true, true_implies, ev_some, e1, e2]
    exact ⟨_, _, rfl, rfl, h⟩
  simp only [o1, o2, d10, true_and, and_true, forall_const, not_true_eq_false, not_false_eq_true, false_implies, ne_eq, implies_true, true_implies, ev_some, e1, e2]
  unfold f_X6_meet
  simp only [ev_some, ev_none, ev_be, ev_gd, ev_bd, ev_bd2, ev_bd3, ev_bd4, ev_ite, mI_sI, mI_sL, mI_sR, mL_sI, mL_sL, mL_sR, mR_sI, mR_sL, mR_sR, mT_sI, mT_sL, mT_sR, mLn_sI, mLn_sL, mLn_sR, mN_sI, mN_sL, mN_sR, h.tt.k, h.tt.r0, h.tt.r5, h.tt.r6, h.tt.r7, h.tt.r8, h.tt.r9, h.tt.r10, h.tt.r11, h.tt.r12, h.tt.r14, h.tt.r15, h.tt.r16, h.tt.r17, h.tt.k11, h.tt.n11, h.tt.k12, h.tt.q121, h.rd.k, h.rd.r0, h.rd.r1, h.rd.r2, h.rd.r3, h.rd.wk, h.rd.wn, h.rd.tl.k, h.rd.hl.k, h.rd.pl.k, h.st.k, h.st.r0, h.st.r1, h.st.r2, h.st.r3, h.st.r4, h.st.r5, h.st.rt, h.st.k1, h.st.k2, h.st.k3, h.st.k4, h.st.k5, h.st.k6, h.st.n1, h.st.n2, h.st.n3, h.st.n4, h.st.n5, h.st.n6, ix_i, n12_i, nn_i, n6_i, m12_i, m_i, ix_j, n12_j, nn_j, n6_j, m12_j, m_j, true_and, and_true, forall_const, not_true_eq_false, not_false_eq_true, false_implies, ne_eq, implies_true, true_implies, ev_some, ev_eq (a_horse h.tt h.rd hi), ev_eq (a_horse h.tt h.rd hj), h.rd.hk hi, h.rd.hk hj, si, sj, Nat.reduceEqDiff, Nat.add_left_cancel_iff, false_and, and_false, if_false, if_true, true_and, and_true, and_self, cn_1, cm_1, cn_2, cm_2, cn_3, cm_3, cn_4, cm_4, cn_5, cm_5, cn_6, cm_6, h.si.p i hi, h.si.dr i hi, h.si.dr j hj]
  by_cases e3 : tI S 32 (6 * b + i) + tI S 32 (6 * b + j) ≤ 0
  case neg =>
    simp only [e3, true_and, and_true, forall_const, not_true_eq_false, not_false_eq_true, false_implies, ne_eq, implies_true, true_implies, ev_some, h.si.ta, h.si.tk, hb2, hbn]
    exact ⟨_, _, rfl, rfl, sim_tk (sim_ta h)⟩
  have fp := h.fp trivial
  by_cases e4 : mI M c 14 = -1
  · have e5 : tI S 0 68 = -1 := fp.1.symm.trans e4
    have pb := h.si.pB i hi
    simp only [e3, true_and, and_true, forall_const, not_true_eq_false, not_false_eq_true, false_implies, ne_eq, implies_true, true_implies, ev_some, h.si.fi, h.si.fo, hb2, hbn, e4, e5, n1_lt, ← e1]
    have sM := sim_fo (sim_fi (sim_fp h (v := tI S 27 (6 * b + i)) (by unfold In at *; omega)) (v := tI S 34 b + 1)) (v := tI S 39 b ||| (1 <<< (4 * tI S 10 i + tI S 10 j &&& 31) ||| 1 <<< (4 * tI S 10 j + tI S 10 i &&& 31)))
    rw [tsI_comm S (j := 0) (k := 68) (j' := 34) (k' := b) _ _ (by omega), tsI_comm _ (j := 0) (k := 68) (j' := 39) (k' := b) _ _ (by omega)] at sM
    obtain ⟨⟨a1, M2⟩, k1, kt1, kr1, kl1, ⟨a2, M3⟩, k2, kt2, kr2, kl2, ki2, ⟨b1, S2⟩, k3, ⟨b2, S3⟩, k4, k5, k6⟩ := r_fight2 sM hN hi hj hij
    have y30 : ∀ y, tI S2 30 y = tI S 30 y := fun y => by
      have := congrFun k6 y
      simp only [tI_tsI, tI_tsL, tL_tsI, tL_tsL, Nat.reduceEqDiff, Nat.add_left_cancel_iff, false_and, and_false, if_false, if_true, true_and, and_true, and_self, cn_1, cm_1, cn_2, cm_2, cn_3, cm_3, cn_4, cm_4, cn_5, cm_5, cn_6, cm_6, zn_30] at this
      exact this
    have hui := h.si.hu i hi (by omega)
    have huj := h.si.hu j hj (by omega)
    have nji : (j = i) = False := eq_false (fun e => hij e.symm)
    simp only [tI_tsI, tI_tsL, tL_tsI, tL_tsL, mI_sI, mI_sL, mI_sR, mL_sI, mL_sL, mL_sR, mR_sI, mR_sL, mR_sR, mT_sI, mT_sL, mT_sR, mLn_sI, mLn_sL, mLn_sR, mN_sI, mN_sL, mN_sR, Nat.reduceEqDiff, Nat.add_left_cancel_iff, false_and, and_false, if_false, if_true, true_and, and_true, and_self, cn_1, cm_1, cn_2, cm_2, cn_3, cm_3, cn_4, cm_4, cn_5, cm_5, cn_6, cm_6, zn_30] at kt1 kr1 kl1 kt2 kr2 kl2 ki2 k4 k5
    simp only [k1, ev_some, kt1, kr1, kl1, k2, kt2, kr2, kl2, ki2, mI_sI, mI_sL, mI_sR, mL_sI, mL_sL, mL_sR, mR_sI, mR_sL, mR_sR, mT_sI, mT_sL, mT_sR, mLn_sI, mLn_sL, mLn_sR, mN_sI, mN_sL, mN_sR, h.tt.k, h.tt.r0, h.tt.r5, h.tt.r6, h.tt.r7, h.tt.r8, h.tt.r9, h.tt.r10, h.tt.r11, h.tt.r12, h.tt.r14, h.tt.r15, h.tt.r16, h.tt.r17, h.tt.k11, h.tt.n11, h.tt.k12, h.tt.q121, h.st.k, h.st.r0, h.st.r1, h.st.r2, h.st.r3, h.st.r4, h.st.r5, h.st.rt, h.st.k1, h.st.k2, h.st.k3, h.st.k4, h.st.k5, h.st.k6, h.st.n1, h.st.n2, h.st.n3, h.st.n4, h.st.n5, h.st.n6, ix_i, n12_i, nn_i, n6_i, m12_i, m_i, ix_j, n12_j, nn_j, n6_j, m12_j, m_j, true_and, and_true, forall_const, not_true_eq_false, not_false_eq_true, false_implies, ne_eq, implies_true, true_implies, ev_some, Nat.reduceEqDiff, Nat.add_left_cancel_iff, false_and, and_false, if_false, if_true, true_and, and_true, and_self, cn_1, cm_1, cn_2, cm_2, cn_3, cm_3, cn_4, cm_4, cn_5, cm_5, cn_6, cm_6, c_min, nji, hui, huj, ev_gd, ev_bd, ev_be, k3, t_more, k4, y30]
    exact ⟨_, _, rfl, rfl, k5⟩
  · have e5 : (0 ≤ tI S 0 68) = True := by
      apply eq_true
      have f2 := fp.2
      rw [fp.1, ← Int32.toInt_inj] at e4
      unfold In at f2
      rw [Int32.le_iff_toInt_le]
      have x0 : (0 : Int32).toInt = 0 := by decide
      have x1 : (-1 : Int32).toInt = -1 := by decide
      omega
    simp only [e3, true_and, and_true, forall_const, not_true_eq_false, not_false_eq_true, false_implies, ne_eq, implies_true, true_implies, ev_some, h.si.fi, h.si.fo, hb2, hbn, e4, e5]
    have sM := sim_fo (sim_fi h (v := tI S 34 b + 1)) (v := tI S 39 b ||| (1 <<< (4 * tI S 10 i + tI S 10 j &&& 31) ||| 1 <<< (4 * tI S 10 j + tI S 10 i &&& 31)))
    obtain ⟨⟨a1, M2⟩, k1, kt1, kr1, kl1, ⟨a2, M3⟩, k2, kt2, kr2, kl2, ki2, ⟨b1, S2⟩, k3, ⟨b2, S3⟩, k4, k5, k6⟩ := r_fight2 sM hN hi hj hij
    have y30 : ∀ y, tI S2 30 y = tI S 30 y := fun y => by
      have := congrFun k6 y
      simp only [tI_tsI, tI_tsL, tL_tsI, tL_tsL, Nat.reduceEqDiff, Nat.add_left_cancel_iff, false_and, and_false, if_false, if_true, true_and, and_true, and_self, cn_1, cm_1, cn_2, cm_2, cn_3, cm_3, cn_4, cm_4, cn_5, cm_5, cn_6, cm_6, zn_30] at this
      exact this
    have hui := h.si.hu i hi (by omega)
    have huj := h.si.hu j hj (by omega)
    have nji : (j = i) = False := eq_false (fun e => hij e.symm)
    simp only [tI_tsI, tI_tsL, tL_tsI, tL_tsL, mI_sI, mI_sL, mI_sR, mL_sI, mL_sL, mL_sR, mR_sI, mR_sL, mR_sR, mT_sI, mT_sL, mT_sR, mLn_sI, mLn_sL, mLn_sR, mN_sI, mN_sL, mN_sR, Nat.reduceEqDiff, Nat.add_left_cancel_iff, false_and, and_false, if_false, if_true, true_and, and_true, and_self, cn_1, cm_1, cn_2, cm_2, cn_3, cm_3, cn_4, cm_4, cn_5, cm_5, cn_6, cm_6, zn_30] at kt1 kr1 kl1 kt2 kr2 kl2 ki2 k4 k5
    simp only [k1, ev_some, kt1, kr1, kl1, k2, kt2, kr2, kl2, ki2, mI_sI, mI_sL, mI_sR, mL_sI, mL_sL, mL_sR, mR_sI, mR_sL, mR_sR, mT_sI, mT_sL, mT_sR, mLn_sI, mLn_sL, mLn_sR, mN_sI, mN_sL, mN_sR, h.tt.k, h.tt.r0, h.tt.r5, h.tt.r6, h.tt.r7, h.tt.r8, h.tt.r9, h.tt.r10, h.tt.r11, h.tt.r12, h.tt.r14, h.tt.r15, h.tt.r16, h.tt.r17, h.tt.k11, h.tt.n11, h.tt.k12, h.tt.q121, h.st.k, h.st.r0, h.st.r1, h.st.r2, h.st.r3, h.st.r4, h.st.r5, h.st.rt, h.st.k1, h.st.k2, h.st.k3, h.st.k4, h.st.k5, h.st.k6, h.st.n1, h.st.n2, h.st.n3, h.st.n4, h.st.n5, h.st.n6, ix_i, n12_i, nn_i, n6_i, m12_i, m_i, ix_j, n12_j, nn_j, n6_j, m12_j, m_j, true_and, and_true, forall_const, not_true_eq_false, not_false_eq_true, false_implies, ne_eq, implies_true, true_implies, ev_some, Nat.reduceEqDiff, Nat.add_left_cancel_iff, false_and, and_false, if_false, if_true, true_and, and_true, and_self, cn_1, cm_1, cn_2, cm_2, cn_3, cm_3, cn_4, cm_4, cn_5, cm_5, cn_6, cm_6, c_min, nji, hui, huj, ev_gd, ev_bd, ev_be, k3, t_more, k4, y30]
    exact ⟨_, _, rfl, rfl, k5⟩
end
