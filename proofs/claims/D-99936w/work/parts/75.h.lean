set_option maxRecDepth 100000
section
variable {M M0 : Mem} {S S0 : TS} {g u nT nH nL c b x : Nat} {z : Int32} {A : Nat → Prop} {F : Prop}
theorem si_num (h : SiR M S c b nT nH z A x) {v : Int32} {w : Int64} (h1 : v.toInt64 = w) (h2 : 0 ≤ v.toInt) : SiR (sI M c 11 v) (tsL S 0 67 w) c b nT nH z A x := by
  have ho := h.onv
  refine ⟨?_, ?_, ?_, ?_, ?_, ?_, ?_, ?_, ?_, ?_, ?_, ?_, ?_, ?_, ?_, ?_, ?_, ?_, ?_, ?_, ?_, ?_, ?_, ?_, ?_⟩
  all_goals try simp only [onV_f (show 11 ≠ 7 by omega) (show 11 ≠ 12 by omega) (show 11 ≠ 13 by omega)]
  all_goals try simp [mI_sI, tI_tsL, mL_sI, tL_tsL]
  all_goals first
    | exact h.p | exact h.th | exact h.go | exact h.hu | exact h.dr | exact h.wa | exact h.pB | exact h.gB | exact h.tB | exact h.wB | exact h.tA | exact h.onb | exact h.onv | exact h.hour | exact h.fi | exact h.ta | exact h.dk | exact h.tk | exact h.fo | exact h.fast | exact h.noR | exact h.noD | exact h.dw | exact h.z01
    | exact fun _ => ⟨h1, h2⟩
theorem sim_num (h : Sim M0 S0 g c b nT nH nL z A F x M S) (hz : z = 1) {v : Int32} {w : Int64} (h1 : v.toInt64 = w) (h2 : 0 ≤ v.toInt) : Sim M0 S0 g c b nT nH nL z A F x (sI M c 11 v) (tsL S 0 67 w) := by
  refine Sim_wr h (FrM_sI (by omega) (by omega)) (FrT_tsL (by omega)) (si_num h.si h1 h2) (fun hf => ?_) (dz := fun h0 => absurd (hz.symm.trans h0) (by decide))
  simp [mI_sI, tI_tsL]
  exact h.fp hf
theorem r_rains (h : Sim M0 S0 g c b nT nH nL z A F x M S) :
    ev (f_X6_rains c z M) fun q => ev (tw_isRain S) fun q' => q'.1 = q.1 ∧ Sim M0 S0 g c b nT nH nL z A F x q.2 q'.2 ∧ tI q'.2 = tI S := by
  have rn := h.rd.rain
  have rb := h.rd.rainB
  simp only [Nat.mul_zero] at rn
  rw [rn] at rb
  unfold In at rb
  have nr := h.si.noR
  have dw := h.si.dw
  have x0 : (0 : Int32).toInt = 0 := by decide
  have x50 : (50 : Int32).toInt = 50 := by decide
  have x100 : (100 : Int32).toInt = 100 := by decide
  have d10 : ((1 : Int32) = 0) = False := eq_false (by decide)
  have d1000 : ((100 : Int32) = 0) = False := eq_false (by decide)
  unfold f_X6_rains tw_isRain
  simp only [ev_some, ev_none, ev_be, ev_gd, ev_bd, ev_bd2, ev_bd3, ev_bd4, ev_ite, h.tt.k, h.tt.r0, h.tt.r5, h.tt.r6, h.tt.r7, h.tt.r8, h.tt.r9, h.tt.r10, h.tt.r11, h.tt.r12, h.tt.r14, h.tt.r15, h.tt.r16, h.tt.r17, h.tt.k11, h.tt.n11, h.tt.k12, h.tt.q121, h.rd.k, h.rd.r0, h.rd.r1, h.rd.r2, h.rd.r3, h.rd.wk, h.rd.wn, h.rd.tl.k, h.rd.hl.k, h.rd.pl.k, h.st.k, h.st.r0, h.st.r1, h.st.r2, h.st.r3, h.st.r4, h.st.r5, h.st.rt, h.st.k1, h.st.k2, h.st.k3, h.st.k4, h.st.k5, h.st.k6, h.st.n1, h.st.n2, h.st.n3, h.st.n4, h.st.n5, h.st.n6, true_and, and_true, forall_const, not_true_eq_false, not_false_eq_true, false_implies, ne_eq, implies_true, true_implies, ev_some, li_0, rn, dw, true_or, or_true]
  by_cases e0 : mI M c 12 = 0
  · rw [if_pos e0] at nr
    simp only [e0, nr, d10, true_and, and_true, forall_const, not_true_eq_false, not_false_eq_true, false_implies, ne_eq, implies_true, true_implies, ev_some]
    exact h
  rw [if_neg e0] at nr
  simp only [e0, nr, true_and, and_true, forall_const, not_true_eq_false, not_false_eq_true, false_implies, ne_eq, implies_true, true_implies, ev_some]
  generalize hR : tI S 4 0 = R at *
  have l50 : (R < 50) = (R.toInt < 50) := propext (by rw [Int32.lt_iff_toInt_lt, x50])
  have l0 : (R ≤ 0) = (R.toInt ≤ 0) := propext (by rw [Int32.le_iff_toInt_le, x0])
  have l100 : ((100 : Int32) ≤ R) = (100 ≤ R.toInt) := propext (by rw [Int32.le_iff_toInt_le, x100])
  have q0 : (R = 0) = (R.toInt = 0) := propext (by rw [← Int32.toInt_inj, x0])
  have q100 : (R = 100) = (R.toInt = 100) := propext (by rw [← Int32.toInt_inj, x100])
  simp only [l50, l0, l100, q0, q100]
  by_cases e1 : R.toInt = 0
  · have y1 : R.toInt < 50 := by omega
    have y2 : R.toInt ≤ 0 := by omega
    simp only [e1, y1, y2, true_and, and_true, forall_const, not_true_eq_false, not_false_eq_true, false_implies, ne_eq, implies_true, true_implies, ev_some, true_or, or_true]
    rcases h.si.z01 with rfl | rfl
    · simp [h]
    · simp [h]
  by_cases e2 : R.toInt = 100
  · rcases h.si.z01 with rfl | rfl
    · simp [e2, h]
    · simp [e2, h]
  rcases h.si.z01 with rfl | rfl
  · by_cases e3 : R.toInt < 50
    · simp [e1, e2, e3, h]
    · simp [e1, e2, e3, h]
  · have y1 : ¬ R.toInt ≤ 0 := by omega
    have y2 : ¬ 100 ≤ R.toInt := by omega
    have dr := draw_eq (h.si.num rfl).1 (h.si.num rfl).2
    have s2 := sim_num h rfl dr.1 dr.2.1
    have c100 : ¬ Int32.toInt64 100 = 0 := by decide
    have rg : mI (sI M c 11 ((((mI M c 11) * 1103515245) + 12345) &&& 2147483647)) g 5 = R := by
      rw [mI_sI, if_neg, rn]
      rintro ⟨e, _⟩
      have := h.rd.k
      rw [e, h.st.k] at this
      omega
    unfold f_X6_draw tw_number1
    simp only [ev_some, ev_none, ev_be, ev_gd, ev_bd, ev_bd2, ev_bd3, ev_bd4, ev_ite, mI_sI, mI_sL, mI_sR, mL_sI, mL_sL, mL_sR, mR_sI, mR_sL, mR_sR, mT_sI, mT_sL, mT_sR, mLn_sI, mLn_sL, mLn_sR, mN_sI, mN_sL, mN_sR, tI_tsI, tI_tsL, tL_tsI, tL_tsL, h.tt.k, h.tt.r0, h.tt.r5, h.tt.r6, h.tt.r7, h.tt.r8, h.tt.r9, h.tt.r10, h.tt.r11, h.tt.r12, h.tt.r14, h.tt.r15, h.tt.r16, h.tt.r17, h.tt.k11, h.tt.n11, h.tt.k12, h.tt.q121, h.rd.k, h.rd.r0, h.rd.r1, h.rd.r2, h.rd.r3, h.rd.wk, h.rd.wn, h.rd.tl.k, h.rd.hl.k, h.rd.pl.k, h.st.k, h.st.r0, h.st.r1, h.st.r2, h.st.r3, h.st.r4, h.st.r5, h.st.rt, h.st.k1, h.st.k2, h.st.k3, h.st.k4, h.st.k5, h.st.k6, h.st.n1, h.st.n2, h.st.n3, h.st.n4, h.st.n5, h.st.n6, true_and, and_true, forall_const, not_true_eq_false, not_false_eq_true, false_implies, ne_eq, implies_true, true_implies, ev_some, d10, d1000, c100, y1, y2, e1, e2, Nat.reduceEqDiff, Nat.add_left_cancel_iff, false_and, and_false, if_false, if_true, true_and, and_true, and_self, cn_1, cm_1, cn_2, cm_2, cn_3, cm_3, cn_4, cm_4, cn_5, cm_5, cn_6, cm_6, hR, li_0]
    rw [dr.2.2]
    simp only [rn, show ((5 : Nat) = 11) = False from eq_false (by decide), and_false, if_false]
    exact ⟨fun hc => ⟨fun _ => s2, fun hn => absurd hc hn⟩, fun hc => ⟨fun hp => absurd hp hc, fun _ => s2⟩⟩
theorem mn99 (y : Int32) : mnV 99 y = if y ≤ 99 then y else 99 := by
  unfold mnV
  simp only [Int32.lt_iff_toInt_lt, Int32.le_iff_toInt_le]
  have : (99 : Int32).toInt = 99 := by decide
  rw [← Int32.toInt_inj]
  repeat' split
  all_goals omega
theorem r_rainB {i : Nat} (h : Sim M0 S0 g c b nT nH nL z A F x M S) {N : Nat} (hi : i ≤ nT) :
    ev (f_X6_pass_b6 N c z (Int32.ofNat i) M) fun X => ev (tw_hourGoes_b6 N (Int32.ofNat b) (Int32.ofNat i) S) fun Y => (∃ M' S', X = .inr (Int32.ofNat (i + 1), M') ∧ Y = .inr (Int32.ofNat (i + 1), S') ∧ i < nT ∧ Sim M0 S0 g c b nT nH nL z A F x M' S') ∨ (∃ r r', X = .inl r ∧ Y = .inl r' ∧ Sim M0 S0 g c b nT nH nL z A F x r.2 r'.2) := by
  have hbb := h.bb
  have hnh := h.rd.nh
  have hnt := h.rd.nt
  have hnl := h.rd.nl
  have hb2 : inb (Int32.ofNat b) 2 = True := i_inb (by omega) (by omega)
  have hbn : (Int32.ofNat b).toNatClampNeg = b := i_toN (by omega)
  have l1 : (Int32.ofNat nT ≤ Int32.ofNat i) = (nT ≤ i) := i_le (by omega) (by omega)
  unfold f_X6_pass_b6 tw_hourGoes_b6
  simp only [ev_some, ev_none, ev_be, ev_gd, ev_bd, ev_bd2, ev_bd3, ev_bd4, ev_ite, h.tt.k, h.tt.r0, h.tt.r5, h.tt.r6, h.tt.r7, h.tt.r8, h.tt.r9, h.tt.r10, h.tt.r11, h.tt.r12, h.tt.r14, h.tt.r15, h.tt.r16, h.tt.r17, h.tt.k11, h.tt.n11, h.tt.k12, h.tt.q121, h.rd.k, h.rd.r0, h.rd.r1, h.rd.r2, h.rd.r3, h.rd.wk, h.rd.wn, h.rd.tl.k, h.rd.hl.k, h.rd.pl.k, h.st.k, h.st.r0, h.st.r1, h.st.r2, h.st.r3, h.st.r4, h.st.r5, h.st.rt, h.st.k1, h.st.k2, h.st.k3, h.st.k4, h.st.k5, h.st.k6, h.st.n1, h.st.n2, h.st.n3, h.st.n4, h.st.n5, h.st.n6, le_1, le_2, le_3, le_4, le_5, le_6, le_7, le_8, le_9, le_10, le_11, le_12, le_13, le_14, le_15, le_16, le_17, le_18, le_19, le_20, le_21, le_22, le_23, le_24, le_25, le_26, le_27, le_28, le_29, le_30, le_31, le_32, le_33, le_34, le_35, le_36, le_37, le_38, le_39, le_40, le_41, le_42, le_43, le_44, le_45, true_and, and_true, forall_const, not_true_eq_false, not_false_eq_true, false_implies, ne_eq, implies_true, true_implies, ev_some, a_troughs h.tt h.rd, l1, show tI S 0 12 = Int32.ofNat nT from h.rd.cT, i_succ, hb2, hbn, h.si.hour]
  by_cases e0 : nT ≤ i
  · simp only [e0, true_and, and_true, forall_const, not_true_eq_false, not_false_eq_true, false_implies, ne_eq, implies_true, true_implies, ev_some]
    exact Or.inr ⟨_, _, rfl, rfl, h⟩
  have hi' : i < nT := by omega
  have ix_i := ix6 b i
  have n12_i : inb (Int32.ofNat (6 * b + i)) 12 = True := i_inb (by omega) (by omega)
  have nn_i : (Int32.ofNat (6 * b + i)).toNatClampNeg = 6 * b + i := i_toN (by omega)
  have n6_i : inb (Int32.ofNat i) 6 = True := i_inb (by omega) (by omega)
  have m12_i : inb (Int32.ofNat i) 12 = True := i_inb (by omega) (by omega)
  have m_i : (Int32.ofNat i).toNatClampNeg = i := i_toN (by omega)
  simp only [e0, true_and, and_true, forall_const, not_true_eq_false, not_false_eq_true, false_implies, ne_eq, implies_true, true_implies, ev_some]
  by_cases e1 : tI S 37 b - tI S 37 b / 10 * 10 = 9
  case neg =>
    simp only [e1, true_and, and_true, forall_const, not_true_eq_false, not_false_eq_true, false_implies, ne_eq, implies_true, true_implies, ev_some]
    exact Or.inr ⟨_, _, rfl, rfl, h⟩
  simp only [e1, true_and, and_true, forall_const, not_true_eq_false, not_false_eq_true, false_implies, ne_eq, implies_true, true_implies, ev_some]
  obtain ⟨⟨r, M1⟩, h1, ⟨r', S1⟩, h2, h3, h4, h5⟩ := r_rains h
  simp only at h3 h4 h5
  subst h3
  simp only [h1, h2, ev_some]
  by_cases e2 : r' = 0
  · simp only [e2, true_and, and_true, forall_const, not_true_eq_false, not_false_eq_true, false_implies, ne_eq, implies_true, true_implies, ev_some]
    exact Or.inl ⟨_, _, rfl, rfl, hi', h4⟩
  have hw := h4.si.wa i hi'
  have hwb := h4.si.wB i hi'
  have hf := h4.rd.tF i hi'
  have hfb := h4.rd.tFB i hi'
  simp only [Nat.mul_zero, Nat.zero_add] at hf hfb
  simp only [e2, true_and, and_true, forall_const, not_true_eq_false, not_false_eq_true, false_implies, ne_eq, implies_true, true_implies, ev_some, h4.tt.k, h4.tt.r6, h4.st.k, h4.st.r5, h4.st.rt, h4.st.k6, h4.st.n6, ev_eq (a_trough h4.tt h4.rd hi'), h4.rd.tk hi', ix_i, n12_i, nn_i, n6_i, m12_i, m_i, c_min, hw, hf, mn99, ev_some]
  refine Or.inl ⟨_, _, rfl, rfl, hi', sim_wa h4 hi' ?_⟩
  unfold In at *
  split
  · rename_i hc
    rw [Int32.le_iff_toInt_le, show (99 : Int32).toInt = 99 by decide] at hc
    rw [Int32.toInt_add, Int.bmod_def] at hc ⊢
    omega
  · decide
theorem r_lapB {i : Nat} (h : Sim M0 S0 g c b nT nH nL z A F x M S) {N : Nat} (hi : i ≤ nL) :
    ev (f_X6_pass_b1 N c z (Int32.ofNat i) M) fun X => ev (tw_hourGoes_b1 N (Int32.ofNat b) (Int32.ofNat i) S) fun Y => (∃ M' S', X = .inr (Int32.ofNat (i + 1), M') ∧ Y = .inr (Int32.ofNat (i + 1), S') ∧ i < nL ∧ Sim M0 S0 g c b nT nH nL z A F x M' S') ∨ (∃ r r', X = .inl r ∧ Y = .inl r' ∧ Sim M0 S0 g c b nT nH nL z A F x r.2 r'.2) := by
  have hbb := h.bb
  have hnh := h.rd.nh
  have hnt := h.rd.nt
  have hnl := h.rd.nl
  have hb2 : inb (Int32.ofNat b) 2 = True := i_inb (by omega) (by omega)
  have hbn : (Int32.ofNat b).toNatClampNeg = b := i_toN (by omega)
  have l1 : (Int32.ofNat nL ≤ Int32.ofNat i) = (nL ≤ i) := i_le (by omega) (by omega)
  unfold f_X6_pass_b1 tw_hourGoes_b1
  simp only [ev_some, ev_none, ev_be, ev_gd, ev_bd, ev_bd2, ev_bd3, ev_bd4, ev_ite, h.tt.k, h.tt.r0, h.tt.r5, h.tt.r6, h.tt.r7, h.tt.r8, h.tt.r9, h.tt.r10, h.tt.r11, h.tt.r12, h.tt.r14, h.tt.r15, h.tt.r16, h.tt.r17, h.tt.k11, h.tt.n11, h.tt.k12, h.tt.q121, h.rd.k, h.rd.r0, h.rd.r1, h.rd.r2, h.rd.r3, h.rd.wk, h.rd.wn, h.rd.tl.k, h.rd.hl.k, h.rd.pl.k, h.st.k, h.st.r0, h.st.r1, h.st.r2, h.st.r3, h.st.r4, h.st.r5, h.st.rt, h.st.k1, h.st.k2, h.st.k3, h.st.k4, h.st.k5, h.st.k6, h.st.n1, h.st.n2, h.st.n3, h.st.n4, h.st.n5, h.st.n6, le_1, le_2, le_3, le_4, le_5, le_6, le_7, le_8, le_9, le_10, le_11, le_12, le_13, le_14, le_15, le_16, le_17, le_18, le_19, le_20, le_21, le_22, le_23, le_24, le_25, le_26, le_27, le_28, le_29, le_30, le_31, le_32, le_33, le_34, le_35, le_36, le_37, le_38, le_39, le_40, le_41, le_42, le_43, le_44, le_45, true_and, and_true, forall_const, not_true_eq_false, not_false_eq_true, false_implies, ne_eq, implies_true, true_implies, ev_some, ev_eq (a_size h.rd.pl), l1, show tI S 0 14 = Int32.ofNat nL from h.rd.cL, i_succ, hb2, hbn, h.si.hour]
  by_cases e0 : nL ≤ i
  · simp only [e0, true_and, and_true, forall_const, not_true_eq_false, not_false_eq_true, false_implies, ne_eq, implies_true, true_implies, ev_some]
    exact Or.inr ⟨_, _, rfl, rfl, h⟩
  have hi' : i < nL := by omega
  have m24 : inb (Int32.ofNat i) 24 = True := i_inb (by omega) (by omega)
  have mi : (Int32.ofNat i).toNatClampNeg = i := i_toN (by omega)
  have lk : mT M (itA M (plA M g) i) = 9 := h.rd.pk hi'
  have l0 : mI M (itA M (plA M g) i) 0 = tI S 14 (12 * 0 + i) := h.rd.lH i hi'
  have l1 : mI M (itA M (plA M g) i) 1 = tI S 15 (12 * 0 + i) := h.rd.lT i hi'
  have l2 : mI M (itA M (plA M g) i) 2 = tI S 16 (12 * 0 + i) := h.rd.lO i hi'
  obtain ⟨k, hk, ek⟩ := h.rd.lHB i hi'
  obtain ⟨t, ht, et⟩ := h.rd.lTB i hi'
  simp only [Nat.mul_zero, Nat.zero_add] at l0 l1 l2 ek et
  have ix_k := ix6 b k
  have n12_k : inb (Int32.ofNat (6 * b + k)) 12 = True := i_inb (by omega) (by omega)
  have nn_k : (Int32.ofNat (6 * b + k)).toNatClampNeg = 6 * b + k := i_toN (by omega)
  have n6_k : inb (Int32.ofNat k) 6 = True := i_inb (by omega) (by omega)
  have m12_k : inb (Int32.ofNat k) 12 = True := i_inb (by omega) (by omega)
  have m_k : (Int32.ofNat k).toNatClampNeg = k := i_toN (by omega)
  simp only [e0, true_and, and_true, forall_const, not_true_eq_false, not_false_eq_true, false_implies, ne_eq, implies_true, true_implies, ev_some, m24, mi, ev_eq (a_get h.rd.pl (show 12 < 1000 by omega) hi'), lk, l0, l1, l2, ek, et, ix_k, n12_k, nn_k, n6_k, m12_k, m_k]
  by_cases e1 : tI S 16 i = tI S 37 b
  · simp only [e1, true_and, and_true, forall_const, not_true_eq_false, not_false_eq_true, false_implies, ne_eq, implies_true, true_implies, ev_some]
    exact Or.inl ⟨_, _, rfl, rfl, hi', sim_go h hk (Or.inr ⟨t, ht, rfl⟩)⟩
  · simp only [e1, true_and, and_true, forall_const, not_true_eq_false, not_false_eq_true, false_implies, ne_eq, implies_true, true_implies, ev_some]
    exact Or.inl ⟨_, _, rfl, rfl, hi', h⟩
theorem r_walkB {i : Nat} (h : Sim M0 S0 g c b nT nH nL z (fun k => i ≤ k) F 99 M S) {N : Nat} (hN : 100 ≤ N) (hi : i ≤ nH) :
    ev (f_X6_pass_b2 N c z (Int32.ofNat i) M) fun X => ev (tw_hourGoes_b2 N (Int32.ofNat b) (Int32.ofNat i) S) fun Y => (∃ M' S', X = .inr (Int32.ofNat (i + 1), M') ∧ Y = .inr (Int32.ofNat (i + 1), S') ∧ i < nH ∧ Sim M0 S0 g c b nT nH nL z (fun k => i + 1 ≤ k) F 99 M' S') ∨ (∃ r r', X = .inl r ∧ Y = .inl r' ∧ Sim M0 S0 g c b nT nH nL z (fun _ => False) F 99 r.2 r'.2) := by
  have hbb := h.bb
  have hnh := h.rd.nh
  have hnt := h.rd.nt
  have hnl := h.rd.nl
  have hb2 : inb (Int32.ofNat b) 2 = True := i_inb (by omega) (by omega)
  have hbn : (Int32.ofNat b).toNatClampNeg = b := i_toN (by omega)
  have l1 : (Int32.ofNat nH ≤ Int32.ofNat i) = (nH ≤ i) := i_le (by omega) (by omega)
  unfold f_X6_pass_b2 tw_hourGoes_b2
  simp only [ev_some, ev_none, ev_be, ev_gd, ev_bd, ev_bd2, ev_bd3, ev_bd4, ev_ite, h.tt.k, h.tt.r0, h.tt.r5, h.tt.r6, h.tt.r7, h.tt.r8, h.tt.r9, h.tt.r10, h.tt.r11, h.tt.r12, h.tt.r14, h.tt.r15, h.tt.r16, h.tt.r17, h.tt.k11, h.tt.n11, h.tt.k12, h.tt.q121, h.rd.k, h.rd.r0, h.rd.r1, h.rd.r2, h.rd.r3, h.rd.wk, h.rd.wn, h.rd.tl.k, h.rd.hl.k, h.rd.pl.k, h.st.k, h.st.r0, h.st.r1, h.st.r2, h.st.r3, h.st.r4, h.st.r5, h.st.rt, h.st.k1, h.st.k2, h.st.k3, h.st.k4, h.st.k5, h.st.k6, h.st.n1, h.st.n2, h.st.n3, h.st.n4, h.st.n5, h.st.n6, le_1, le_2, le_3, le_4, le_5, le_6, le_7, le_8, le_9, le_10, le_11, le_12, le_13, le_14, le_15, le_16, le_17, le_18, le_19, le_20, le_21, le_22, le_23, le_24, le_25, le_26, le_27, le_28, le_29, le_30, le_31, le_32, le_33, le_34, le_35, le_36, le_37, le_38, le_39, le_40, le_41, le_42, le_43, le_44, le_45, true_and, and_true, forall_const, not_true_eq_false, not_false_eq_true, false_implies, ne_eq, implies_true, true_implies, ev_some, a_horses h.tt h.rd, l1, show tI S 0 13 = Int32.ofNat nH from h.rd.cH, i_succ]
  by_cases e0 : nH ≤ i
  · simp only [e0, true_and, and_true, forall_const, not_true_eq_false, not_false_eq_true, false_implies, ne_eq, implies_true, true_implies, ev_some]
    exact Or.inr ⟨_, _, rfl, rfl, sim_A h (fun k hk => hk.elim)⟩
  have hi' : i < nH := by omega
  have ix_i := ix6 b i
  have n12_i : inb (Int32.ofNat (6 * b + i)) 12 = True := i_inb (by omega) (by omega)
  have nn_i : (Int32.ofNat (6 * b + i)).toNatClampNeg = 6 * b + i := i_toN (by omega)
  have n6_i : inb (Int32.ofNat i) 6 = True := i_inb (by omega) (by omega)
  have m12_i : inb (Int32.ofNat i) 12 = True := i_inb (by omega) (by omega)
  have m_i : (Int32.ofNat i).toNatClampNeg = i := i_toN (by omega)
  have oi := h.si.onv i hi'
  have oi1 := onV_01 M c i
  rw [oi] at oi1
  have d10 : ((1 : Int32) = 0) = False := eq_false (by decide)
  simp only [e0, true_and, and_true, forall_const, not_true_eq_false, not_false_eq_true, false_implies, ne_eq, implies_true, true_implies, ev_some, ix_i, n12_i, nn_i, n6_i, m12_i, m_i, ev_eq (c_isOn h.st i), oi]
  rcases oi1 with o1 | o1
  · simp only [o1, true_and, and_true, forall_const, not_true_eq_false, not_false_eq_true, false_implies, ne_eq, implies_true, true_implies, ev_some]
    exact Or.inl ⟨_, _, rfl, rfl, hi', sim_A h (fun k hk => by have : i + 1 ≤ k := hk; omega)⟩
  · simp only [o1, d10, true_and, and_true, forall_const, not_true_eq_false, not_false_eq_true, false_implies, ne_eq, implies_true, true_implies, ev_some]
    obtain ⟨M1, h1, S1, h2, h3⟩ := r_walk h hN hi' o1
    simp only [h1, h2, ev_some]
    exact Or.inl ⟨_, _, rfl, rfl, hi', h3⟩
theorem r_meetO {i : Nat} (h : Sim M0 S0 g c b nT nH nL z A True 99 M S) {N : Nat} (hN : 100 ≤ N) (hi : i ≤ nH) :
    ev (f_X6_pass_b4 N c z (Int32.ofNat i) M) fun X => ev (tw_hourGoes_b4 N (Int32.ofNat b) (Int32.ofNat i) S) fun Y => (∃ M' S', X = .inr (Int32.ofNat (i + 1), M') ∧ Y = .inr (Int32.ofNat (i + 1), S') ∧ i < nH ∧ Sim M0 S0 g c b nT nH nL z A True 99 M' S') ∨ (∃ r r', X = .inl r ∧ Y = .inl r' ∧ Sim M0 S0 g c b nT nH nL z A True 99 r.2 r'.2) := by
  have hbb := h.bb
  have hnh := h.rd.nh
  have hnt := h.rd.nt
  have hnl := h.rd.nl
  have hb2 : inb (Int32.ofNat b) 2 = True := i_inb (by omega) (by omega)
  have hbn : (Int32.ofNat b).toNatClampNeg = b := i_toN (by omega)
  have l1 : (Int32.ofNat nH ≤ Int32.ofNat i) = (nH ≤ i) := i_le (by omega) (by omega)
  unfold f_X6_pass_b4 tw_hourGoes_b4
  simp only [ev_some, ev_none, ev_be, ev_gd, ev_bd, ev_bd2, ev_bd3, ev_bd4, ev_ite, h.tt.k, h.tt.r0, h.tt.r5, h.tt.r6, h.tt.r7, h.tt.r8, h.tt.r9, h.tt.r10, h.tt.r11, h.tt.r12, h.tt.r14, h.tt.r15, h.tt.r16, h.tt.r17, h.tt.k11, h.tt.n11, h.tt.k12, h.tt.q121, h.rd.k, h.rd.r0, h.rd.r1, h.rd.r2, h.rd.r3, h.rd.wk, h.rd.wn, h.rd.tl.k, h.rd.hl.k, h.rd.pl.k, h.st.k, h.st.r0, h.st.r1, h.st.r2, h.st.r3, h.st.r4, h.st.r5, h.st.rt, h.st.k1, h.st.k2, h.st.k3, h.st.k4, h.st.k5, h.st.k6, h.st.n1, h.st.n2, h.st.n3, h.st.n4, h.st.n5, h.st.n6, le_1, le_2, le_3, le_4, le_5, le_6, le_7, le_8, le_9, le_10, le_11, le_12, le_13, le_14, le_15, le_16, le_17, le_18, le_19, le_20, le_21, le_22, le_23, le_24, le_25, le_26, le_27, le_28, le_29, le_30, le_31, le_32, le_33, le_34, le_35, le_36, le_37, le_38, le_39, le_40, le_41, le_42, le_43, le_44, le_45, true_and, and_true, forall_const, not_true_eq_false, not_false_eq_true, false_implies, ne_eq, implies_true, true_implies, ev_some, a_horses h.tt h.rd, l1, show tI S 0 13 = Int32.ofNat nH from h.rd.cH, i_succ]
  by_cases e0 : nH ≤ i
  · simp only [e0, true_and, and_true, forall_const, not_true_eq_false, not_false_eq_true, false_implies, ne_eq, implies_true, true_implies, ev_some]
    exact Or.inr ⟨_, _, rfl, rfl, h⟩
  have hi' : i < nH := by omega
  simp only [e0, true_and, and_true, forall_const, not_true_eq_false, not_false_eq_true, false_implies, ne_eq, implies_true, true_implies, ev_some]
  have lk := lp_for (f := fun s : Int32 × Mem => f_X6_pass_b7 N (Int32.ofNat i) c z s.1 s.2) (g := fun s : Int32 × TS => tw_hourGoes_b7 N (Int32.ofNat i) (Int32.ofNat b) s.1 s.2) (R := fun r r' => Sim M0 S0 g c b nT nH nL z A True 99 r.2 r'.2) (fun j M S => i < j ∧ Sim M0 S0 g c b nT nH nL z A True 99 M S) nH (by
    rintro j hj M S ⟨hij, h⟩
    by_cases ej : j < nH
    · obtain ⟨X, x1, Y, x2, M', S', x3, x4, x5⟩ := r_meetB h hN hi' ej (by omega)
      exact ⟨X, x1, Y, x2, Or.inl ⟨M', S', x3, x4, ej, by omega, x5⟩⟩
    · have l2 : (Int32.ofNat nH ≤ Int32.ofNat j) = True := eq_true (by rw [i_le (by omega) (by omega)]; omega)
      unfold f_X6_pass_b7 tw_hourGoes_b7
      simp only [ev_some, ev_none, ev_be, ev_gd, ev_bd, ev_bd2, ev_bd3, ev_bd4, ev_ite, h.tt.k, h.tt.r0, h.tt.r5, h.tt.r6, h.tt.r7, h.tt.r8, h.tt.r9, h.tt.r10, h.tt.r11, h.tt.r12, h.tt.r14, h.tt.r15, h.tt.r16, h.tt.r17, h.tt.k11, h.tt.n11, h.tt.k12, h.tt.q121, h.rd.k, h.rd.r0, h.rd.r1, h.rd.r2, h.rd.r3, h.rd.wk, h.rd.wn, h.rd.tl.k, h.rd.hl.k, h.rd.pl.k, h.st.k, h.st.r0, h.st.r1, h.st.r2, h.st.r3, h.st.r4, h.st.r5, h.st.rt, h.st.k1, h.st.k2, h.st.k3, h.st.k4, h.st.k5, h.st.k6, h.st.n1, h.st.n2, h.st.n3, h.st.n4, h.st.n5, h.st.n6, le_1, le_2, le_3, le_4, le_5, le_6, le_7, le_8, le_9, le_10, le_11, le_12, le_13, le_14, le_15, le_16, le_17, le_18, le_19, le_20, le_21, le_22, le_23, le_24, le_25, le_26, le_27, le_28, le_29, le_30, le_31, le_32, le_33, le_34, le_35, le_36, le_37, le_38, le_39, le_40, le_41, le_42, le_43, le_44, le_45, true_and, and_true, forall_const, not_true_eq_false, not_false_eq_true, false_implies, ne_eq, implies_true, true_implies, ev_some, a_horses h.tt h.rd, l2, show tI S 0 13 = Int32.ofNat nH from h.rd.cH]
      exact Or.inr ⟨_, _, rfl, rfl, h⟩) N (i + 1) (by omega) (by omega) M S ⟨by omega, h⟩
  obtain ⟨⟨y, M1⟩, h1, ⟨y', S1⟩, h2, h3⟩ := lk
  simp only [h1, h2, ev_some]
  exact Or.inl ⟨_, _, rfl, rfl, hi', h3⟩
/-- an hour -/
theorem r_pass (h : Sim M0 S0 g c b nT nH nL z (fun _ => True) F 99 M S) {N : Nat} (hN : 100 ≤ N) :
    ev (f_X6_pass N c z M) fun M' => ev (tw_hourGoes N (Int32.ofNat b) S) fun S' => Sim M0 S0 g c b nT nH nL z (fun _ => True) True 99 M' S' := by
  have hbb := h.bb
  have hnh := h.rd.nh
  have hnt := h.rd.nt
  have hnl := h.rd.nl
  have hb2 : inb (Int32.ofNat b) 2 = True := i_inb (by omega) (by omega)
  have hbn : (Int32.ofNat b).toNatClampNeg = b := i_toN (by omega)
  have s1 := sim_fp h (v := -1) (by unfold In; decide)
  unfold f_X6_pass tw_hourGoes
  simp only [ev_some, ev_none, ev_be, ev_gd, ev_bd, ev_bd2, ev_bd3, ev_bd4, ev_ite, h.st.k, h.st.r0, h.st.r1, h.st.r2, h.st.r3, h.st.r4, h.st.r5, h.st.rt, h.st.k1, h.st.k2, h.st.k3, h.st.k4, h.st.k5, h.st.k6, h.st.n1, h.st.n2, h.st.n3, h.st.n4, h.st.n5, h.st.n6, true_and, and_true, forall_const, not_true_eq_false, not_false_eq_true, false_implies, ne_eq, implies_true, true_implies, ev_some]
  have zz : (0 : Int32) = Int32.ofNat 0 := rfl
  rw [zz]
  -- laps
  obtain ⟨⟨y1, M1⟩, a1, ⟨y1', S1⟩, b1, c1⟩ := lp_for (f := fun s : Int32 × Mem => f_X6_pass_b1 N c z s.1 s.2) (g := fun s : Int32 × TS => tw_hourGoes_b1 N (Int32.ofNat b) s.1 s.2) (R := fun r r' => Sim M0 S0 g c b nT nH nL z (fun _ => True) True 99 r.2 r'.2) (fun _ M S => Sim M0 S0 g c b nT nH nL z (fun _ => True) True 99 M S) nL (fun i hi M S h => r_lapB h hi) N 0 (by omega) (by omega) _ _ s1
  simp only [a1, b1, ev_some]
  obtain ⟨⟨y2, M2⟩, a2, ⟨y2', S2⟩, b2, c2⟩ := lp_for (f := fun s : Int32 × Mem => f_X6_pass_b2 N c z s.1 s.2) (g := fun s : Int32 × TS => tw_hourGoes_b2 N (Int32.ofNat b) s.1 s.2) (R := fun r r' => Sim M0 S0 g c b nT nH nL z (fun _ => False) True 99 r.2 r'.2) (fun i M S => Sim M0 S0 g c b nT nH nL z (fun k => i ≤ k) True 99 M S) nH (fun i hi M S h => r_walkB h hN hi) N 0 (by omega) (by omega) M1 S1 (sim_A c1 (fun _ _ => trivial))
  simp only [a2, b2, ev_some]
  obtain ⟨⟨y3, M3⟩, a3, ⟨y3', S3⟩, b3, c3⟩ := lp_for (f := fun s : Int32 × Mem => f_X6_pass_b3 N c z s.1 s.2) (g := fun s : Int32 × TS => tw_hourGoes_b3 N (Int32.ofNat b) s.1 s.2) (R := fun r r' => Sim M0 S0 g c b nT nH nL z (fun _ => False) True 99 r.2 r'.2) (fun _ M S => Sim M0 S0 g c b nT nH nL z (fun _ => False) True 99 M S) nH (by
    intro i hi M S h
    by_cases ei : i < nH
    · obtain ⟨X, x1, Y, x2, M', S', x3, x4, x5⟩ := r_drinkB h hN ei
      exact ⟨X, x1, Y, x2, Or.inl ⟨M', S', x3, x4, ei, x5⟩⟩
    · have l2 : (Int32.ofNat nH ≤ Int32.ofNat i) = True := eq_true (by rw [i_le (by omega) (by omega)]; omega)
      unfold f_X6_pass_b3 tw_hourGoes_b3
      simp only [ev_some, ev_none, ev_be, ev_gd, ev_bd, ev_bd2, ev_bd3, ev_bd4, ev_ite, h.tt.k, h.tt.r0, h.tt.r5, h.tt.r6, h.tt.r7, h.tt.r8, h.tt.r9, h.tt.r10, h.tt.r11, h.tt.r12, h.tt.r14, h.tt.r15, h.tt.r16, h.tt.r17, h.tt.k11, h.tt.n11, h.tt.k12, h.tt.q121, h.rd.k, h.rd.r0, h.rd.r1, h.rd.r2, h.rd.r3, h.rd.wk, h.rd.wn, h.rd.tl.k, h.rd.hl.k, h.rd.pl.k, h.st.k, h.st.r0, h.st.r1, h.st.r2, h.st.r3, h.st.r4, h.st.r5, h.st.rt, h.st.k1, h.st.k2, h.st.k3, h.st.k4, h.st.k5, h.st.k6, h.st.n1, h.st.n2, h.st.n3, h.st.n4, h.st.n5, h.st.n6, le_1, le_2, le_3, le_4, le_5, le_6, le_7, le_8, le_9, le_10, le_11, le_12, le_13, le_14, le_15, le_16, le_17, le_18, le_19, le_20, le_21, le_22, le_23, le_24, le_25, le_26, le_27, le_28, le_29, le_30, le_31, le_32, le_33, le_34, le_35, le_36, le_37, le_38, le_39, le_40, le_41, le_42, le_43, le_44, le_45, true_and, and_true, forall_const, not_true_eq_false, not_false_eq_true, false_implies, ne_eq, implies_true, true_implies, ev_some, a_horses h.tt h.rd, l2, show tI S 0 13 = Int32.ofNat nH from h.rd.cH]
      exact Or.inr ⟨_, _, rfl, rfl, h⟩) N 0 (by omega) (by omega) M2 S2 c2
  simp only [a3, b3, ev_some]
  obtain ⟨⟨y4, M4⟩, a4, ⟨y4', S4⟩, b4, c4⟩ := lp_for (f := fun s : Int32 × Mem => f_X6_pass_b4 N c z s.1 s.2) (g := fun s : Int32 × TS => tw_hourGoes_b4 N (Int32.ofNat b) s.1 s.2) (R := fun r r' => Sim M0 S0 g c b nT nH nL z (fun _ => False) True 99 r.2 r'.2) (fun _ M S => Sim M0 S0 g c b nT nH nL z (fun _ => False) True 99 M S) nH (fun i hi M S h => r_meetO h hN hi) N 0 (by omega) (by omega) M3 S3 c3
  simp only [a4, b4, ev_some]
  obtain ⟨⟨y5, M5⟩, a5, ⟨y5', S5⟩, b5, c5⟩ := lp_for (f := fun s : Int32 × Mem => f_X6_pass_b5 N c z s.1 s.2) (g := fun s : Int32 × TS => tw_hourGoes_b5 N (Int32.ofNat b) s.1 s.2) (R := fun r r' => Sim M0 S0 g c b nT nH nL z (fun k => k < nH) True 99 r.2 r'.2) (fun i M S => Sim M0 S0 g c b nT nH nL z (fun k => k < i) True 99 M S) nH (by
    intro i hi M S h
    by_cases ei : i < nH
    · obtain ⟨X, x1, Y, x2, M', S', x3, x4, x5⟩ := r_fallB (N := N) h ei
      exact ⟨X, x1, Y, x2, Or.inl ⟨M', S', x3, x4, ei, x5⟩⟩
    · have l2 : (Int32.ofNat nH ≤ Int32.ofNat i) = True := eq_true (by rw [i_le (by omega) (by omega)]; omega)
      have ei2 : i = nH := by omega
      subst ei2
      unfold f_X6_pass_b5 tw_hourGoes_b5
      simp only [ev_some, ev_none, ev_be, ev_gd, ev_bd, ev_bd2, ev_bd3, ev_bd4, ev_ite, h.tt.k, h.tt.r0, h.tt.r5, h.tt.r6, h.tt.r7, h.tt.r8, h.tt.r9, h.tt.r10, h.tt.r11, h.tt.r12, h.tt.r14, h.tt.r15, h.tt.r16, h.tt.r17, h.tt.k11, h.tt.n11, h.tt.k12, h.tt.q121, h.rd.k, h.rd.r0, h.rd.r1, h.rd.r2, h.rd.r3, h.rd.wk, h.rd.wn, h.rd.tl.k, h.rd.hl.k, h.rd.pl.k, h.st.k, h.st.r0, h.st.r1, h.st.r2, h.st.r3, h.st.r4, h.st.r5, h.st.rt, h.st.k1, h.st.k2, h.st.k3, h.st.k4, h.st.k5, h.st.k6, h.st.n1, h.st.n2, h.st.n3, h.st.n4, h.st.n5, h.st.n6, le_1, le_2, le_3, le_4, le_5, le_6, le_7, le_8, le_9, le_10, le_11, le_12, le_13, le_14, le_15, le_16, le_17, le_18, le_19, le_20, le_21, le_22, le_23, le_24, le_25, le_26, le_27, le_28, le_29, le_30, le_31, le_32, le_33, le_34, le_35, le_36, le_37, le_38, le_39, le_40, le_41, le_42, le_43, le_44, le_45, true_and, and_true, forall_const, not_true_eq_false, not_false_eq_true, false_implies, ne_eq, implies_true, true_implies, ev_some, a_horses h.tt h.rd, l2, show tI S 0 13 = Int32.ofNat i from h.rd.cH]
      exact Or.inr ⟨_, _, rfl, rfl, h⟩) N 0 (by omega) (by omega) M4 S4 (sim_A c4 (fun k hk => absurd hk (by omega)))
  simp only [a5, b5, ev_some]
  have c5' : Sim M0 S0 g c b nT nH nL z (fun _ => True) True 99 M5 S5 := by
    refine Sim_wr c5 FrM_refl FrT_refl ?_ c5.fp
    have s := c5.si
    exact ⟨s.p, s.th, s.go, s.hu, s.dr, s.wa, s.pB, s.gB, s.tB, s.wB, fun k hk _ e => s.tA k hk hk e, s.onb, s.onv, s.hour, s.fi, s.ta, s.dk, s.tk, s.fo, s.fast, s.noR, s.noD, s.dw, s.num, s.z01⟩
  obtain ⟨⟨y6, M6⟩, a6, ⟨y6', S6⟩, b6, c6⟩ := lp_for (f := fun s : Int32 × Mem => f_X6_pass_b6 N c z s.1 s.2) (g := fun s : Int32 × TS => tw_hourGoes_b6 N (Int32.ofNat b) s.1 s.2) (R := fun r r' => Sim M0 S0 g c b nT nH nL z (fun _ => True) True 99 r.2 r'.2) (fun _ M S => Sim M0 S0 g c b nT nH nL z (fun _ => True) True 99 M S) nT (fun i hi M S h => r_rainB h hi) N 0 (by omega) (by omega) M5 S5 c5'
  simp only [a6, b6, ev_some]
  simp only at c6
  simp only [c6.st.k, le_1, le_2, le_3, le_4, le_5, le_6, le_7, le_8, le_9, le_10, le_11, le_12, le_13, le_14, le_15, le_16, le_17, le_18, le_19, le_20, le_21, le_22, le_23, le_24, le_25, le_26, le_27, le_28, le_29, le_30, le_31, le_32, le_33, le_34, le_35, le_36, le_37, le_38, le_39, le_40, le_41, le_42, le_43, le_44, le_45, hb2, hbn, true_and, and_true, forall_const, not_true_eq_false, not_false_eq_true, false_implies, ne_eq, implies_true, true_implies, ev_some, c6.si.hour]
  exact sim_hour c6
end
