set_option maxRecDepth 100000
section
theorem ix6 (b k : Nat) : (6 : Int32) * Int32.ofNat b + Int32.ofNat k = Int32.ofNat (6 * b + k) := by
  rw [show (6 : Int32) = Int32.ofNat 6 from rfl, i_mul, i_add]
theorem le_1 : lenA 1 = 700 := by decide
theorem le_2 : lenA 2 = 99 := by decide
theorem le_3 : lenA 3 = 2 := by decide
theorem le_4 : lenA 4 = 4 := by decide
theorem le_5 : lenA 5 = 12 := by decide
theorem le_6 : lenA 6 = 12 := by decide
theorem le_7 : lenA 7 = 12 := by decide
theorem le_8 : lenA 8 = 12 := by decide
theorem le_9 : lenA 9 = 12 := by decide
theorem le_10 : lenA 10 = 12 := by decide
theorem le_11 : lenA 11 = 12 := by decide
theorem le_12 : lenA 12 = 12 := by decide
theorem le_13 : lenA 13 = 12 := by decide
theorem le_14 : lenA 14 = 24 := by decide
theorem le_15 : lenA 15 = 24 := by decide
theorem le_16 : lenA 16 = 24 := by decide
theorem le_17 : lenA 17 = 6 := by decide
theorem le_18 : lenA 18 = 6 := by decide
theorem le_19 : lenA 19 = 6 := by decide
theorem le_20 : lenA 20 = 128 := by decide
theorem le_21 : lenA 21 = 128 := by decide
theorem le_22 : lenA 22 = 128 := by decide
theorem le_23 : lenA 23 = 96 := by decide
theorem le_24 : lenA 24 = 96 := by decide
theorem le_25 : lenA 25 = 7 := by decide
theorem le_26 : lenA 26 = 64 := by decide
theorem le_27 : lenA 27 = 12 := by decide
theorem le_28 : lenA 28 = 12 := by decide
theorem le_29 : lenA 29 = 12 := by decide
theorem le_30 : lenA 30 = 12 := by decide
theorem le_31 : lenA 31 = 12 := by decide
theorem le_32 : lenA 32 = 12 := by decide
theorem le_33 : lenA 33 = 12 := by decide
theorem le_34 : lenA 34 = 2 := by decide
theorem le_35 : lenA 35 = 2 := by decide
theorem le_36 : lenA 36 = 2 := by decide
theorem le_37 : lenA 37 = 2 := by decide
theorem le_38 : lenA 38 = 2 := by decide
theorem le_39 : lenA 39 = 2 := by decide
theorem le_40 : lenA 40 = 12 := by decide
theorem le_41 : lenA 41 = 96 := by decide
theorem le_42 : lenA 42 = 24 := by decide
theorem le_43 : lenA 43 = 360 := by decide
theorem le_44 : lenA 44 = 18 := by decide
theorem le_45 : lenA 45 = 30 := by decide
variable {M M0 : Mem} {S S0 : TS} {g u nT nH nL c b x : Nat} {z : Int32} {A : Nat → Prop} {F : Prop}
theorem c_isOn (h : StS M c) (k : Nat) : f_X6_isOn c (Int32.ofNat k) M = some (onV M c k) := by
  unfold f_X6_isOn gd onV
  rw [if_pos h.k]
  repeat' split
  all_goals rfl
theorem onV_01 (M : Mem) (c k : Nat) : onV M c k = 0 ∨ onV M c k = 1 := by
  unfold onV
  repeat' split
  all_goals first | exact Or.inl rfl | exact Or.inr rfl
def pcV (S : TS) (h : Nat) : Int32 := if tI S 0 72 = 0 then tI S 13 h else 2 * tI S 13 h
theorem t_pace {S : TS} {k : Nat} (hk : k < 6) : tw_paceOf (Int32.ofNat k) S = some (pcV S k) := by
  have m12 : inb (Int32.ofNat k) 12 = True := i_inb (by omega) (by omega)
  have m : (Int32.ofNat k).toNatClampNeg = k := i_toN (by omega)
  unfold tw_paceOf pcV gd bd
  simp only [le_13, m12, m, if_true]
  by_cases e : tI S 0 72 = 0
  · simp only [e, if_true]
  · simp only [e, if_false]
theorem c_pace (h : Sim M0 S0 g c b nT nH nL z A F x M S) {k : Nat} (hk : k < nH) : f_X6_paceOf c (Int32.ofNat k) M = some (pcV S k) := by
  have e := h.rd.hC k hk
  have f := h.si.fast
  unfold f_X6_paceOf pcV gd
  rw [if_pos h.st.k]
  simp only [h.st.rt, bd, h.tt.k, if_true, a_horse h.tt h.rd hk, h.rd.hk hk, e, Nat.mul_zero, Nat.zero_add]
  rw [f]
  by_cases h4 : mI M c 12 = 4
  · simp only [h4, if_true]
    rfl
  · simp only [h4, if_false]
    rfl
theorem pcB (h : Sim M0 S0 g c b nT nH nL z A F x M S) {k : Nat} (hk : k < nH) : In (pcV S k) 1 18 := by
  have e := h.rd.hCB k hk
  unfold In at *
  simp only [Nat.mul_zero, Nat.zero_add] at e
  unfold pcV
  split
  · omega
  · rw [Int32.toInt_mul]
    have : (2 : Int32).toInt = 2 := by decide
    rw [this, Int.bmod_def]
    omega
theorem pace_sL {a k : Nat} {v : Int64} (p : Int32) : f_X6_paceOf c p (sL M a k v) = f_X6_paceOf c p M := rfl
theorem horse_sL {a k o : Nat} {v : Int64} (p : Int32) : f_X1_horse o p (sL M a k v) = f_X1_horse o p M := rfl
theorem trough_sL {a k o : Nat} {v : Int64} (p : Int32) : f_X1_trough o p (sL M a k v) = f_X1_trough o p M := rfl
theorem tpace_sL {a k : Nat} {v : Int64} (p : Int32) : tw_paceOf p (tsL S a k v) = tw_paceOf p S := rfl
theorem tfar_sL {a k : Nat} {v : Int64} (p q : Int32) : tw_farOf p q (tsL S a k v) = tw_farOf p q S := rfl
def abV (x : Int32) : Int32 := if 0 ≤ x then x else -x
theorem c_abs (x : Int32) (M : Mem) : f_J8_abs x M = some (abV x) := rfl
theorem t_abs (x : Int32) (S : TS) : tw_sizeOf x S = some (abV x) := rfl
def farV (S : TS) (b k : Nat) : Int32 := if 0 ≤ tI S 29 (6 * b + k) then abV (tI S 6 (tI S 29 (6 * b + k)).toNatClampNeg - tI S 27 (6 * b + k)) else 0
theorem n1_lt : ¬ (0 : Int32) ≤ -1 := by decide
theorem i_nn {k : Nat} (h : k < 2147483648) : (0 : Int32) ≤ Int32.ofNat k := by
  rw [show (0 : Int32) = Int32.ofNat 0 from rfl, i_le (by omega) h]
  omega
theorem i_nneg {k : Nat} (h : k < 2147483648) : Int32.ofNat k ≠ -1 := by
  intro e
  have := i_nn h
  rw [e] at this
  exact n1_lt this
theorem t_far (h : Sim M0 S0 g c b nT nH nL z A F x M S) {k : Nat} (hk : k < nH) : tw_farOf (Int32.ofNat b) (Int32.ofNat k) S = some (farV S b k) := by
  have hbb := h.bb
  have hnh := h.rd.nh
  have hnt := h.rd.nt
  have hnl := h.rd.nl
  have hb2 : inb (Int32.ofNat b) 2 = True := i_inb (by omega) (by omega)
  have hbn : (Int32.ofNat b).toNatClampNeg = b := i_toN (by omega)
  have ix_k := ix6 b k
  have n12_k : inb (Int32.ofNat (6 * b + k)) 12 = True := i_inb (by omega) (by omega)
  have nn_k : (Int32.ofNat (6 * b + k)).toNatClampNeg = 6 * b + k := i_toN (by omega)
  have n6_k : inb (Int32.ofNat k) 6 = True := i_inb (by omega) (by omega)
  have m12_k : inb (Int32.ofNat k) 12 = True := i_inb (by omega) (by omega)
  have m_k : (Int32.ofNat k).toNatClampNeg = k := i_toN (by omega)
  unfold tw_farOf farV gd bd
  simp only [ix_k, n12_k, nn_k, n6_k, m12_k, m_k, le_1, le_2, le_3, le_4, le_5, le_6, le_7, le_8, le_9, le_10, le_11, le_12, le_13, le_14, le_15, le_16, le_17, le_18, le_19, le_20, le_21, le_22, le_23, le_24, le_25, le_26, le_27, le_28, le_29, le_30, le_31, le_32, le_33, le_34, le_35, le_36, le_37, le_38, le_39, le_40, le_41, le_42, le_43, le_44, le_45, if_true, t_abs]
  rcases h.si.gB k hk with e | ⟨t, ht, e⟩
  · rw [e, if_neg n1_lt, if_neg n1_lt]
  · have m12 : inb (Int32.ofNat t) 12 = True := i_inb (by omega) (by omega)
    simp only [e, i_nn (show t < 2147483648 by omega), m12, if_true]
def NmE (M : Mem) (S : TS) : Prop := ∀ w, w < 7 → mL M 11 w = tL S 25 w
theorem r_tAt (rd : RdR M g S 0 nT nH nL) {N : Nat} (hN : 100 ≤ N) (p : Int32) : ∃ r, f_X10_at N (tlA M g) p M = some r ∧ tw_troughAt N p S = some r ∧ (r = -1 ∨ ∃ k, k < nT ∧ r = Int32.ofNat k ∧ tI S 6 k = p) := by
  have hnt := rd.nt
  have k := a_at (N := N) (M := M) (S := S) (j := 6) (q := 0) rd.tl (by omega) (Or.inl rfl) (fun t ht => rd.tP t ht) rfl (by rw [le_6]; omega) (by rw [le_6]; omega) hN (by omega) p
  obtain ⟨r, h1, r', h2, h3, h4⟩ := k
  subst h3
  refine ⟨r', h1, ?_, ?_⟩
  · unfold tw_troughAt
    rw [show tI S 0 12 = Int32.ofNat nT from rd.cT, show (0 : Int32) = Int32.ofNat 0 from rfl, h2]
    rfl
  · rcases h4 with h4 | ⟨k, h5, h6, h7⟩
    · exact Or.inl h4
    · exact Or.inr ⟨k, h5, h6, by rw [Nat.zero_add] at h7; exact h7⟩
theorem r_troughAt (h : Sim M0 S0 g c b nT nH nL z A F x M S) {N : Nat} (hN : 100 ≤ N) (p : Int32) : ∃ r, f_X10_at N (tlA M g) p M = some r ∧ tw_troughAt N p S = some r ∧ (r = -1 ∨ ∃ k, k < nT ∧ r = Int32.ofNat k ∧ tI S 6 k = p) := r_tAt h.rd hN p
theorem l64_0 : Int32.toInt64 0 = 0 := rfl
theorem li_0 : (0 : Int32).toNatClampNeg = 0 := by decide
theorem li_1 : (1 : Int32).toNatClampNeg = 1 := by decide
theorem li_2 : (2 : Int32).toNatClampNeg = 2 := by decide
theorem li_3 : (3 : Int32).toNatClampNeg = 3 := by decide
theorem li_4 : (4 : Int32).toNatClampNeg = 4 := by decide
theorem li_5 : (5 : Int32).toNatClampNeg = 5 := by decide
theorem li_6 : (6 : Int32).toNatClampNeg = 6 := by decide
theorem lb_0 : inb 0 7 = True := by decide
theorem lb_1 : inb 1 7 = True := by decide
theorem lb_2 : inb 2 7 = True := by decide
theorem lb_3 : inb 3 7 = True := by decide
theorem lb_4 : inb 4 7 = True := by decide
theorem lb_5 : inb 5 7 = True := by decide
theorem lb_6 : inb 6 7 = True := by decide
def BdI (v : Int64) : Prop := -2147483648 ≤ v.toInt ∧ v.toInt < 2147483648
theorem bdI_of (x : Int32) : BdI x.toInt64 := by
  unfold BdI
  rw [Int32.toInt_toInt64]
  have h1 := x.le_toInt
  have h2 := x.toInt_lt
  omega
theorem bdI_0 : BdI 0 := by unfold BdI; decide
def NmB (M : Mem) : Prop := ∀ w, w < 7 → BdI (mL M 11 w)
theorem nm_end (h : Sim M0 S0 g c b nT nH nL z A F x M S) {v0 v1 v2 v3 v4 v5 v6 w0 w1 w2 w3 w4 w5 w6 : Int64} (e0 : v0 = w0) (e1 : v1 = w1) (e2 : v2 = w2) (e3 : v3 = w3) (e4 : v4 = w4) (e5 : v5 = w5) (e6 : v6 = w6) (b0 : BdI v0) (b1 : BdI v1) (b2 : BdI v2) (b3 : BdI v3) (b4 : BdI v4) (b5 : BdI v5) (b6 : BdI v6) :
    NmB (sL (sL (sL (sL (sL (sL (sL M 11 0 v0) 11 1 v1) 11 2 v2) 11 3 v3) 11 4 v4) 11 5 v5) 11 6 v6) ∧ NmE (sL (sL (sL (sL (sL (sL (sL M 11 0 v0) 11 1 v1) 11 2 v2) 11 3 v3) 11 4 v4) 11 5 v5) 11 6 v6) (tsL (tsL (tsL (tsL (tsL (tsL (tsL S 25 0 w0) 25 1 w1) 25 2 w2) 25 3 w3) 25 4 w4) 25 5 w5) 25 6 w6) ∧ Sim M0 S0 g c b nT nH nL z A F x (sL (sL (sL (sL (sL (sL (sL M 11 0 v0) 11 1 v1) 11 2 v2) 11 3 v3) 11 4 v4) 11 5 v5) 11 6 v6) S ∧ Sim M0 S0 g c b nT nH nL z A F x (sL (sL (sL (sL (sL (sL (sL M 11 0 v0) 11 1 v1) 11 2 v2) 11 3 v3) 11 4 v4) 11 5 v5) 11 6 v6) (tsL (tsL (tsL (tsL (tsL (tsL (tsL S 25 0 w0) 25 1 w1) 25 2 w2) 25 3 w3) 25 4 w4) 25 5 w5) 25 6 w6) := by
  subst e0 e1 e2 e3 e4 e5 e6
  refine ⟨fun w hw => ?_, fun w hw => ?_, ?_, ?_⟩
  · have hc : w = 0 ∨ w = 1 ∨ w = 2 ∨ w = 3 ∨ w = 4 ∨ w = 5 ∨ w = 6 := by omega
    rcases hc with rfl | rfl | rfl | rfl | rfl | rfl | rfl <;> assumption
  · have hc : w = 0 ∨ w = 1 ∨ w = 2 ∨ w = 3 ∨ w = 4 ∨ w = 5 ∨ w = 6 := by omega
    rcases hc with rfl | rfl | rfl | rfl | rfl | rfl | rfl <;> rfl
  · exact sim_nmM (sim_nmM (sim_nmM (sim_nmM (sim_nmM (sim_nmM (sim_nmM h))))))
  · exact sim_nm (sim_nm (sim_nm (sim_nm (sim_nm (sim_nm (sim_nm h (by omega)) (by omega)) (by omega)) (by omega)) (by omega)) (by omega)) (by omega)
theorem r_name (h : Sim M0 S0 g c b nT nH nL z A F x M S) {N k : Nat} (hN : 100 ≤ N) (hk : k < nH) (hx : k ≠ x) :
    ev (f_X6_name N c (Int32.ofNat k) M) fun M' => ev (tw_layNames N (Int32.ofNat b) (Int32.ofNat k) S) fun S' => NmB M' ∧ NmE M' S' ∧ Sim M0 S0 g c b nT nH nL z A F x M' S ∧ Sim M0 S0 g c b nT nH nL z A F x M' S' ∧ mI M' = mI M ∧ tI S' = tI S := by
  have hbb := h.bb
  have hnh := h.rd.nh
  have hnt := h.rd.nt
  have hnl := h.rd.nl
  have hb2 : inb (Int32.ofNat b) 2 = True := i_inb (by omega) (by omega)
  have hbn : (Int32.ofNat b).toNatClampNeg = b := i_toN (by omega)
  have ix_k := ix6 b k
  have n12_k : inb (Int32.ofNat (6 * b + k)) 12 = True := i_inb (by omega) (by omega)
  have nn_k : (Int32.ofNat (6 * b + k)).toNatClampNeg = 6 * b + k := i_toN (by omega)
  have n6_k : inb (Int32.ofNat k) 6 = True := i_inb (by omega) (by omega)
  have m12_k : inb (Int32.ofNat k) 12 = True := i_inb (by omega) (by omega)
  have m_k : (Int32.ofNat k).toNatClampNeg = k := i_toN (by omega)
  obtain ⟨r, h1, h2, h3⟩ := r_troughAt h hN (tI S 27 (6 * b + k))
  have e2 := h.rd.hS k hk
  have e6 := h.si.hour
  simp only [Nat.mul_zero, Nat.zero_add] at e2
  unfold f_X6_name tw_layNames
  simp only [ev_some, ev_none, ev_be, ev_gd, ev_bd, ev_bd2, ev_bd3, ev_bd4, ev_ite, mI_sI, mI_sL, mI_sR, mL_sI, mL_sL, mL_sR, mR_sI, mR_sL, mR_sR, mT_sI, mT_sL, mT_sR, mLn_sI, mLn_sL, mLn_sR, mN_sI, mN_sL, mN_sR, tI_tsI, tI_tsL, tL_tsI, tL_tsL, h.tt.k, h.tt.r0, h.tt.r5, h.tt.r6, h.tt.r7, h.tt.r8, h.tt.r9, h.tt.r10, h.tt.r11, h.tt.r12, h.tt.r14, h.tt.r15, h.tt.r16, h.tt.r17, h.tt.k11, h.tt.n11, h.tt.k12, h.tt.q121, h.rd.k, h.rd.r0, h.rd.r1, h.rd.r2, h.rd.r3, h.rd.wk, h.rd.wn, h.rd.tl.k, h.rd.hl.k, h.rd.pl.k, h.st.k, h.st.r0, h.st.r1, h.st.r2, h.st.r3, h.st.r4, h.st.r5, h.st.rt, h.st.k1, h.st.k2, h.st.k3, h.st.k4, h.st.k5, h.st.k6, h.st.n1, h.st.n2, h.st.n3, h.st.n4, h.st.n5, h.st.n6, ix_k, n12_k, nn_k, n6_k, m12_k, m_k, le_1, le_2, le_3, le_4, le_5, le_6, le_7, le_8, le_9, le_10, le_11, le_12, le_13, le_14, le_15, le_16, le_17, le_18, le_19, le_20, le_21, le_22, le_23, le_24, le_25, le_26, le_27, le_28, le_29, le_30, le_31, le_32, le_33, le_34, le_35, le_36, le_37, le_38, le_39, le_40, le_41, le_42, le_43, le_44, le_45, true_and, and_true, forall_const, not_true_eq_false, not_false_eq_true, false_implies, ne_eq, implies_true, true_implies, ev_some, pace_sL, horse_sL, trough_sL, tpace_sL, tfar_sL, h.si.p k hk, h.si.th k hk, h.si.go k hk, h.si.hu k hk hx, ev_eq h1, ev_eq h2, ev_eq (c_pace h hk), ev_eq (t_pace (S := S) (show k < 6 by omega)), ev_eq (a_horse h.tt h.rd hk), h.rd.hk hk, li_0, li_1, li_2, li_3, li_4, li_5, li_6, lb_0, lb_1, lb_2, lb_3, lb_4, lb_5, lb_6, ev_eq (t_far h hk), hb2, hbn, c_abs]
  have eF : farV S b k = if 0 ≤ tI S 29 (6 * b + k) then abV (tI S 6 (tI S 29 (6 * b + k)).toNatClampNeg - tI S 27 (6 * b + k)) else 0 := rfl
  rcases h3 with rfl | ⟨t, ht, rfl, _⟩ <;> rcases h.si.gB k hk with eg | ⟨t', ht', eg⟩
  · rw [eg, if_neg n1_lt] at eF
    simp only [eg, n1_lt, eF, e2, e6, l64_0, true_and, and_true, forall_const, not_true_eq_false, not_false_eq_true, false_implies, ne_eq, implies_true, true_implies, ev_some]
    exact nm_end h rfl rfl rfl rfl rfl rfl rfl (by first | exact bdI_of _ | exact bdI_0) (by first | exact bdI_of _ | exact bdI_0) (by first | exact bdI_of _ | exact bdI_0) (by first | exact bdI_of _ | exact bdI_0) (by first | exact bdI_of _ | exact bdI_0) (by first | exact bdI_of _ | exact bdI_0) (by first | exact bdI_of _ | exact bdI_0)
  · have g1 := h.rd.tP t' ht'
    simp only [Nat.mul_zero, Nat.zero_add] at g1
    rw [eg, if_pos (i_nn (by omega)), i_toN (by omega)] at eF
    simp only [eg, n1_lt, eF, e2, e6, l64_0, true_and, and_true, forall_const, not_true_eq_false, not_false_eq_true, false_implies, ne_eq, implies_true, true_implies, ev_some, i_nneg (show t' < 2147483648 by omega), ev_eq (a_trough h.tt h.rd ht'), h.rd.tk ht', g1, ev_some]
    exact nm_end h rfl rfl rfl rfl rfl rfl rfl (by first | exact bdI_of _ | exact bdI_0) (by first | exact bdI_of _ | exact bdI_0) (by first | exact bdI_of _ | exact bdI_0) (by first | exact bdI_of _ | exact bdI_0) (by first | exact bdI_of _ | exact bdI_0) (by first | exact bdI_of _ | exact bdI_0) (by first | exact bdI_of _ | exact bdI_0)
  · have w1 := h.si.wa t ht
    have ix_t := ix6 b t
    have n12_t : inb (Int32.ofNat (6 * b + t)) 12 = True := i_inb (by omega) (by omega)
    have nn_t : (Int32.ofNat (6 * b + t)).toNatClampNeg = 6 * b + t := i_toN (by omega)
    have n6_t : inb (Int32.ofNat t) 6 = True := i_inb (by omega) (by omega)
    have m12_t : inb (Int32.ofNat t) 12 = True := i_inb (by omega) (by omega)
    have m_t : (Int32.ofNat t).toNatClampNeg = t := i_toN (by omega)
    rw [eg, if_neg n1_lt] at eF
    simp only [eg, n1_lt, eF, e2, e6, l64_0, true_and, and_true, forall_const, not_true_eq_false, not_false_eq_true, false_implies, ne_eq, implies_true, true_implies, ev_some, i_nneg (show t < 2147483648 by omega), i_nn (show t < 2147483648 by omega), ix_t, n12_t, nn_t, n6_t, m12_t, m_t, ev_some, ev_gd, w1]
    exact nm_end h rfl rfl rfl rfl rfl rfl rfl (by first | exact bdI_of _ | exact bdI_0) (by first | exact bdI_of _ | exact bdI_0) (by first | exact bdI_of _ | exact bdI_0) (by first | exact bdI_of _ | exact bdI_0) (by first | exact bdI_of _ | exact bdI_0) (by first | exact bdI_of _ | exact bdI_0) (by first | exact bdI_of _ | exact bdI_0)
  · have w1 := h.si.wa t ht
    have ix_t := ix6 b t
    have n12_t : inb (Int32.ofNat (6 * b + t)) 12 = True := i_inb (by omega) (by omega)
    have nn_t : (Int32.ofNat (6 * b + t)).toNatClampNeg = 6 * b + t := i_toN (by omega)
    have n6_t : inb (Int32.ofNat t) 6 = True := i_inb (by omega) (by omega)
    have m12_t : inb (Int32.ofNat t) 12 = True := i_inb (by omega) (by omega)
    have m_t : (Int32.ofNat t).toNatClampNeg = t := i_toN (by omega)
    have g1 := h.rd.tP t' ht'
    simp only [Nat.mul_zero, Nat.zero_add] at g1
    rw [eg, if_pos (i_nn (by omega)), i_toN (by omega)] at eF
    simp only [eg, n1_lt, eF, e2, e6, l64_0, true_and, and_true, forall_const, not_true_eq_false, not_false_eq_true, false_implies, ne_eq, implies_true, true_implies, ev_some, i_nneg (show t' < 2147483648 by omega), ev_eq (a_trough h.tt h.rd ht'), h.rd.tk ht', g1, i_nneg (show t < 2147483648 by omega), i_nn (show t < 2147483648 by omega), ix_t, n12_t, nn_t, n6_t, m12_t, m_t, ev_some, ev_gd, w1]
    exact nm_end h rfl rfl rfl rfl rfl rfl rfl (by first | exact bdI_of _ | exact bdI_0) (by first | exact bdI_of _ | exact bdI_0) (by first | exact bdI_of _ | exact bdI_0) (by first | exact bdI_of _ | exact bdI_0) (by first | exact bdI_of _ | exact bdI_0) (by first | exact bdI_of _ | exact bdI_0) (by first | exact bdI_of _ | exact bdI_0)
end
