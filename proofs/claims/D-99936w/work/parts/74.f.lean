set_option maxRecDepth 100000
section
variable {M M0 : Mem} {S S0 : TS} {g u nT nH nL c b x : Nat} {z : Int32} {A : Nat → Prop} {F : Prop}
theorem pow_le {n : Nat} (h : n ≤ 6) : 2 ^ n ≤ 64 := by
  have : n = 0 ∨ n = 1 ∨ n = 2 ∨ n = 3 ∨ n = 4 ∨ n = 5 ∨ n = 6 := by omega
  rcases this with rfl | rfl | rfl | rfl | rfl | rfl | rfl <;> decide
/-- one falls -/
theorem si_off {i : Nat} (h : SiR M S c b nT nH z (fun k => k < i) x) (hn : nH ≤ 6) (hi : i < nH) :
    SiR (sI M c 7 ((mI M c 7) &&& ((1 <<< (Int32.ofNat i &&& 31)) ^^^ (-1)))) (tsI S 31 (6 * b + i) 0) c b nT nH z (fun k => k < i + 1) x := by
  obtain ⟨o, ho, eo⟩ := h.onb
  have ho6 : o < 64 := by have := pow_le hn; omega
  refine ⟨?_, ?_, ?_, ?_, ?_, ?_, ?_, ?_, ?_, ?_, ?_, ?_, ?_, ?_, ?_, ?_, ?_, ?_, ?_, ?_, ?_, ?_, ?_, ?_, ?_⟩
  case refine_11 =>
    intro k hk hA
    simp only [tI_tsI, show ((28 : Nat) = 31) = False from eq_false (by decide), false_and, if_false]
    intro e
    by_cases hki : k = i
    · subst hki
      simp at e
    · simp [hki] at e
      exact h.tA k hk (by omega) e
  case refine_12 =>
    refine ⟨o &&& (63 - 2 ^ i), ?_, ?_⟩
    · exact Nat.lt_of_le_of_lt Nat.and_le_left ho
    · simp only [mI_sI, and_self, if_true]
      rw [eo]
      exact bits_val ⟨o, ho6⟩ ⟨i, by omega⟩
  case refine_13 =>
    intro k hk
    have hb := bits_off ⟨o, ho6⟩ ⟨i, by omega⟩ ⟨k, by omega⟩
    have hv := h.onv k hk
    unfold onV at hv ⊢
    simp only [mI_sI, tI_tsI, and_self, if_true, show ((12 : Nat) = 7) = False from eq_false (by decide), show ((13 : Nat) = 7) = False from eq_false (by decide), and_false, if_false, eo, true_and, Nat.add_left_cancel_iff]
    rw [eo] at hv
    simp only [ne_eq, Fin.mk.injEq] at hb
    by_cases hki : k = i
    · rw [if_pos hki]
      rw [if_neg]
      rw [hb]
      exact fun e => e.1 hki
    · rw [if_neg hki]
      by_cases hc : (Int32.ofNat o >>> (Int32.ofNat k &&& 31)) &&& 1 = 1
      · rw [if_pos (hb.mpr ⟨hki, hc⟩)]
        rw [if_pos hc] at hv
        exact hv
      · rw [if_neg (fun e => hc (hb.mp e).2)]
        rw [if_neg hc] at hv
        exact hv
  all_goals try simp [mI_sI, tI_tsI, mL_sI, tL_tsI]
  all_goals first
    | exact h.p | exact h.th | exact h.go | exact h.hu | exact h.dr | exact h.wa | exact h.pB | exact h.gB | exact h.tB | exact h.wB | exact h.hour | exact h.fi | exact h.ta | exact h.dk | exact h.tk | exact h.fo | exact h.fast | exact h.noR | exact h.noD | exact h.dw | exact h.num | exact h.z01
theorem sim_off {i : Nat} (h : Sim M0 S0 g c b nT nH nL z (fun k => k < i) F x M S) (hi : i < nH) :
    Sim M0 S0 g c b nT nH nL z (fun k => k < i + 1) F x (sI M c 7 ((mI M c 7) &&& ((1 <<< (Int32.ofNat i &&& 31)) ^^^ (-1)))) (tsI S 31 (6 * b + i) 0) := by
  have n1 := h.rd.nh
  refine Sim_wr h (FrM_sI (by omega) (by omega)) (FrT_tsI (by omega)) (si_off h.si n1 hi) (fun hf => ?_) (fun k hk h1 => by
    rw [tI_tsI] at h1
    split at h1
    · exact absurd h1 (by decide)
    · exact h1)
  simp [mI_sI, tI_tsI]
  exact h.fp hf
theorem r_fallB {i : Nat} (h : Sim M0 S0 g c b nT nH nL z (fun k => k < i) F 99 M S) {N : Nat} (hi : i < nH) :
    ev (f_X6_pass_b5 N c z (Int32.ofNat i) M) fun X => ev (tw_hourGoes_b5 N (Int32.ofNat b) (Int32.ofNat i) S) fun Y => ∃ M' S', X = .inr (Int32.ofNat (i + 1), M') ∧ Y = .inr (Int32.ofNat (i + 1), S') ∧ Sim M0 S0 g c b nT nH nL z (fun k => k < i + 1) F 99 M' S' := by
  have hbb := h.bb
  have hnh := h.rd.nh
  have hnt := h.rd.nt
  have hnl := h.rd.nl
  have hb2 : inb (Int32.ofNat b) 2 = True := i_inb (by omega) (by omega)
  have hbn : (Int32.ofNat b).toNatClampNeg = b := i_toN (by omega)
  have ix_i := ix6 b i
  have n12_i : inb (Int32.ofNat (6 * b + i)) 12 = True := i_inb (by omega) (by omega)
  have nn_i : (Int32.ofNat (6 * b + i)).toNatClampNeg = 6 * b + i := i_toN (by omega)
  have n6_i : inb (Int32.ofNat i) 6 = True := i_inb (by omega) (by omega)
  have m12_i : inb (Int32.ofNat i) 12 = True := i_inb (by omega) (by omega)
  have m_i : (Int32.ofNat i).toNatClampNeg = i := i_toN (by omega)
  have l1 : (Int32.ofNat nH ≤ Int32.ofNat i) = False := eq_false (by rw [i_le (by omega) (by omega)]; omega)
  have o1 := h.si.onv i hi
  have o01 := onV_01 M c i
  rw [o1] at o01
  have d10 : ((1 : Int32) = 0) = False := eq_false (by decide)
  have x100 : (100 : Int32).toInt = 100 := by decide
  have off := sim_off h hi
  unfold f_X6_pass_b5 tw_hourGoes_b5
  simp only [ev_some, ev_none, ev_be, ev_gd, ev_bd, ev_bd2, ev_bd3, ev_bd4, ev_ite, h.tt.k, h.tt.r0, h.tt.r5, h.tt.r6, h.tt.r7, h.tt.r8, h.tt.r9, h.tt.r10, h.tt.r11, h.tt.r12, h.tt.r14, h.tt.r15, h.tt.r16, h.tt.r17, h.tt.k11, h.tt.n11, h.tt.k12, h.tt.q121, h.rd.k, h.rd.r0, h.rd.r1, h.rd.r2, h.rd.r3, h.rd.wk, h.rd.wn, h.rd.tl.k, h.rd.hl.k, h.rd.pl.k, h.st.k, h.st.r0, h.st.r1, h.st.r2, h.st.r3, h.st.r4, h.st.r5, h.st.rt, h.st.k1, h.st.k2, h.st.k3, h.st.k4, h.st.k5, h.st.k6, h.st.n1, h.st.n2, h.st.n3, h.st.n4, h.st.n5, h.st.n6, ix_i, n12_i, nn_i, n6_i, m12_i, m_i, le_1, le_2, le_3, le_4, le_5, le_6, le_7, le_8, le_9, le_10, le_11, le_12, le_13, le_14, le_15, le_16, le_17, le_18, le_19, le_20, le_21, le_22, le_23, le_24, le_25, le_26, le_27, le_28, le_29, le_30, le_31, le_32, le_33, le_34, le_35, le_36, le_37, le_38, le_39, le_40, le_41, le_42, le_43, le_44, le_45, true_and, and_true, forall_const, not_true_eq_false, not_false_eq_true, false_implies, ne_eq, implies_true, true_implies, ev_some, a_horses h.tt h.rd, l1, show tI S 0 13 = Int32.ofNat nH from h.rd.cH, h.si.th i hi, h.si.hu i hi (by omega), i_succ]
  have keep : (tI S 31 (6 * b + i) = 1 → (tI S 28 (6 * b + i)).toInt < 100) → Sim M0 S0 g c b nT nH nL z (fun k => k < i + 1) F 99 M (tsI S 31 (6 * b + i) (tI S 31 (6 * b + i))) := by
    intro ht
    rw [tsI_self]
    refine Sim_wr h FrM_refl FrT_refl ?_ h.fp
    have s := h.si
    refine ⟨s.p, s.th, s.go, s.hu, s.dr, s.wa, s.pB, s.gB, s.tB, s.wB, fun k hk hA e => ?_, s.onb, s.onv, s.hour, s.fi, s.ta, s.dk, s.tk, s.fo, s.fast, s.noR, s.noD, s.dw, s.num, s.z01⟩
    by_cases hki : k = i
    · subst hki
      exact ht e
    · have hA' : k < i + 1 := hA
      exact s.tA k hk (show k < i by omega) e
  by_cases e1 : 100 ≤ tI S 28 (6 * b + i)
  · rcases o01 with o0 | o0
    · simp only [e1, o0, true_and, and_true, forall_const, not_true_eq_false, not_false_eq_true, false_implies, ne_eq, implies_true, true_implies, ev_some, true_or, or_true]
      exact ⟨_, _, rfl, rfl, off⟩
    · simp only [e1, o0, d10, true_and, and_true, forall_const, not_true_eq_false, not_false_eq_true, false_implies, ne_eq, implies_true, true_implies, ev_some, true_or, or_true]
      exact ⟨_, _, rfl, rfl, off⟩
  · have e1' := e1
    rw [Int32.le_iff_toInt_le, x100] at e1'
    by_cases e2 : 100 ≤ tI S 30 (6 * b + i)
    · have e3 : (tI S 30 (6 * b + i) < 100) = False := eq_false (by rw [Int32.le_iff_toInt_le] at e2; rw [Int32.lt_iff_toInt_lt]; omega)
      rcases o01 with o0 | o0
      · simp only [e1, e2, e3, o0, true_and, and_true, forall_const, not_true_eq_false, not_false_eq_true, false_implies, ne_eq, implies_true, true_implies, ev_some, true_or, or_true]
        exact ⟨_, _, rfl, rfl, off⟩
      · simp only [e1, e2, e3, o0, d10, true_and, and_true, forall_const, not_true_eq_false, not_false_eq_true, false_implies, ne_eq, implies_true, true_implies, ev_some, true_or, or_true]
        exact ⟨_, _, rfl, rfl, off⟩
    · have e3 : (tI S 30 (6 * b + i) < 100) = True := eq_true (by rw [Int32.le_iff_toInt_le] at e2; rw [Int32.lt_iff_toInt_lt]; omega)
      have k1 := keep (fun _ => by omega)
      rcases o01 with o0 | o0
      · rw [o0] at k1
        simp only [e1, e2, e3, o0, true_and, and_true, forall_const, not_true_eq_false, not_false_eq_true, false_implies, ne_eq, implies_true, true_implies, ev_some, true_or, or_true]
        exact ⟨_, _, rfl, rfl, k1⟩
      · rw [o0] at k1
        simp only [e1, e2, e3, o0, d10, true_and, and_true, forall_const, not_true_eq_false, not_false_eq_true, false_implies, ne_eq, implies_true, true_implies, ev_some, true_or, or_true]
        exact ⟨_, _, rfl, rfl, k1⟩
end
