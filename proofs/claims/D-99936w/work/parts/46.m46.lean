set_option maxRecDepth 100000
set_option maxHeartbeats 4000000
def f_X1_runsDry_b1 (N : Nat) (p0 : Nat) (p1 : Int32) (x2_17 : Int32) (S_18 : Mem) : Option (((Int32 × Mem) ⊕ (Int32 × Mem)) ⊕ (Int32 × Mem)) :=
if 199 < x2_17 then (
some (.inl (.inl (x2_17, S_18))))
else (
gd (mT S_18 p0 = 0) (
bd (mR S_18 p0 10) fun (a_29 : Nat) =>
gd (mT S_18 a_29 = 5) (
bd (mR S_18 a_29 5) fun (a_32 : Nat) =>
gd (mT S_18 a_32 = 100) (
gd (inb p1 (mLn S_18 a_32)) (
if mI S_18 a_32 (Int32.toNatClampNeg p1) = 0 then (
some (.inl (.inr (x2_17, S_18))))
else (
bd (mR S_18 p0 10) fun (a_37 : Nat) =>
gd (mT S_18 a_37 = 5) (
bd (f_X6_pass N a_37 0 S_18) fun (M_41 : Mem) =>
be (x2_17 + 1) fun (x2_42 : Int32) =>
some (.inr (x2_42, M_41)))))))))
def f_X1_runsDry (N : Nat) (p0 : Nat) (p1 : Int32) (M : Mem) : Option (Int32 × Mem) :=
gd (mT M p0 = 0) (
bd (f_X1_isTrough p0 p1 M) fun (r_3 : Int32) =>
if r_3 = 0 then (
some ((-1), M))
else (
bd (mR M p0 10) fun (a_5 : Nat) =>
bd (mR M p0 9) fun (a_7 : Nat) =>
gd (mT M a_5 = 5) (
bd (f_X6_become N a_5 a_7 M) fun (M_11 : Mem) =>
bx2 (lp N (fun s_26 : Int32 × Mem => f_X1_runsDry_b1 N p0 p1 s_26.1 s_26.2) (0, M_11)) (fun (x2_20 : Int32) (S_21 : Mem) =>
some ((-2), S_21)) (fun (w_45 : Int32 × Mem) => some w_45))))
def rm_f_X1_runsDry : Room := { frames := 205, cells := 0, slots := 0, locals := 4121 }
theorem ok_f_X1_runsDry {E : En} (hE : EOk E) (hN : NOk E) {N : Nat} {p0 : Nat} {p1 : Int32} {M : Mem} {r : Int32} {M' : Mem} (h : f_X1_runsDry N p0 p1 M = some (r, M')) : CM E yX1_runsDry cX1_runsDry 3 (some .int) rm_f_X1_runsDry [rf E p0, .int p1] M (some (.int r)) M' := by
  unfold f_X1_runsDry at h
  refine CM_introX (own := RX1) rfl (by decide +kernel) (Nat.le_of_ble_eq_true rfl) rfl (fun G hG hEn hI => ?_)
  obtain ⟨Q, eQ⟩ : ∃ Q, Q = QM E G (some (.int r)) M' 0 0 := ⟨_, rfl⟩
  show V E G M 0 0 3 0 [(0, rf E p0), (1, .int p1)] [] (QM E G (some (.int r)) M' 0 0)
  rw [← eQ]
  refine V_aload_n hG 0 rfl dX1_runsDry_0 ?_
  refine V_iload_n hG 1 rfl dX1_runsDry_1 ?_
  obtain ⟨g_1, h⟩ := gd_of h
  obtain ⟨r_3, hc_2, h⟩ := bd_of h
  refine V_callV hE hG (ci := 0) (As := [.int p1]) (rest := []) (ok_f_X1_isTrough hE hN hc_2) g_1 (by decide) rfl hw_X1_233 hdv_X1_isTrough ⟨Nat.le_of_ble_eq_true rfl, Nat.le_of_ble_eq_true rfl⟩ rfl rfl (Nat.le_of_ble_eq_true rfl) ⟨Nat.le_of_ble_eq_true rfl, Nat.le_of_ble_eq_true rfl⟩ dX1_runsDry_2 (V_zero rfl rfl ?_)
  refine V_if_ne hG 10 dX1_runsDry_5 (by decide) (fun c_4 => ?_) (fun c_4 => ?_)
  · have h := if_f c_4 h
    refine V_aload_n hG 0 rfl dX1_runsDry_10 ?_
    obtain ⟨a_5, hr_6, h⟩ := bd_of h
    refine gf_X1_105 hN hG g_1 hr_6 dX1_runsDry_11 ?_
    refine V_aload_n hG 0 rfl dX1_runsDry_14 ?_
    obtain ⟨a_7, hr_8, h⟩ := bd_of h
    refine gf_X1_101 hN hG g_1 hr_8 dX1_runsDry_15 ?_
    obtain ⟨g_9, h⟩ := gd_of h
    obtain ⟨M_11, hc_10, h⟩ := bd_of h
    refine V_callV hE hG (ci := 5) (As := [rf E a_7]) (rest := []) (ok_f_X6_become hE hN hc_10) g_9 (by decide) rfl hw_X1_254 hdv_X6_become ⟨Nat.le_of_ble_eq_true rfl, Nat.le_of_ble_eq_true rfl⟩ rfl rfl (Nat.le_of_ble_eq_true rfl) ⟨Nat.le_of_ble_eq_true rfl, Nat.le_of_ble_eq_true rfl⟩ dX1_runsDry_18 (V_zero rfl rfl ?_)
    refine V_iconst hG 0 rfl dX1_runsDry_21 ?_
    refine V_istore_n hG rfl [(2, .int 0), (0, rf E p0), (1, .int p1)] dX1_runsDry_22 (Nat.le_of_ble_eq_true rfl) rfl ?_
    obtain ⟨rr_23, hL_22, hl_24, hr_19⟩ := bx2_of h
    have J_16 : ∀ q_25 : Int32 × Mem, Sum.inl q_25 = rr_23 → V E G q_25.2 0 0 3 58 [(2, .int q_25.1), (0, rf E p0), (1, .int p1)] [] Q := by
      intro q_25 e9
      obtain ⟨x2_20, S_21⟩ := q_25
      have h := hl_24 x2_20 S_21 e9.symm
      show V E G S_21 0 0 3 58 [(2, .int x2_20), (0, rf E p0), (1, .int p1)] [] Q
      refine V_bipush hG (-2) (by decide) dX1_runsDry_58 ?_
      cases h
      subst eQ
      exact V_iret hG dX1_runsDry_60
    refine lp_walk (W := fun s_26 : Int32 × Mem => V E G s_26.2 0 0 3 23 [(2, .int s_26.1), (0, rf E p0), (1, .int p1)] [] Q) ?_ N (0, M_11) hL_22
    intro s_26 b_12 hb_13 hk_14 hx_15
    obtain ⟨x2_17, S_18⟩ := s_26
    have hb_13 : f_X1_runsDry_b1 N p0 p1 x2_17 S_18 = some b_12 := hb_13
    unfold f_X1_runsDry_b1 at hb_13
    show V E G S_18 0 0 3 23 [(2, .int x2_17), (0, rf E p0), (1, .int p1)] [] Q
    refine V_iload_n hG 0 rfl dX1_runsDry_23 ?_
    refine V_sipush hG 199 (by decide) dX1_runsDry_24 ?_
    refine V_icmp_gt hG 58 dX1_runsDry_27 (by decide) (fun c_27 => ?_) (fun c_27 => ?_)
    · have hb_13 := if_t c_27 hb_13
      cases hb_13
      exact J_16 _ (hx_15 _ rfl)
    · have hb_13 := if_f c_27 hb_13
      refine V_aload_n hG 1 rfl dX1_runsDry_30 ?_
      obtain ⟨g_28, hb_13⟩ := gd_of hb_13
      obtain ⟨a_29, hr_30, hb_13⟩ := bd_of hb_13
      refine gf_X1_105 hN hG g_28 hr_30 dX1_runsDry_31 ?_
      obtain ⟨g_31, hb_13⟩ := gd_of hb_13
      obtain ⟨a_32, hr_33, hb_13⟩ := bd_of hb_13
      refine gf_X1_236 hN hG g_31 hr_33 dX1_runsDry_34 ?_
      refine V_iload_n hG 2 rfl dX1_runsDry_37 ?_
      obtain ⟨g_34, hb_13⟩ := gd_of hb_13
      obtain ⟨g_35, hb_13⟩ := gd_of hb_13
      refine V_iaload hG g_34 g_35 dX1_runsDry_38 ?_
      refine V_if_ne hG 44 dX1_runsDry_39 (by decide) (fun c_36 => ?_) (fun c_36 => ?_)
      · have hb_13 := if_f c_36 hb_13
        refine V_aload_n hG 1 rfl dX1_runsDry_44 ?_
        obtain ⟨a_37, hr_38, hb_13⟩ := bd_of hb_13
        refine gf_X1_105 hN hG g_28 hr_38 dX1_runsDry_45 ?_
        refine V_iconst hG 0 rfl dX1_runsDry_48 ?_
        obtain ⟨g_39, hb_13⟩ := gd_of hb_13
        obtain ⟨M_41, hc_40, hb_13⟩ := bd_of hb_13
        refine V_callV hE hG (ci := 5) (As := [.int 0]) (rest := []) (ok_f_X6_pass hE hN hc_40) g_39 (by decide) rfl hw_X1_277 hdv_X6_pass ⟨Nat.le_of_ble_eq_true rfl, Nat.le_of_ble_eq_true rfl⟩ rfl rfl (Nat.le_of_ble_eq_true rfl) ⟨Nat.le_of_ble_eq_true rfl, Nat.le_of_ble_eq_true rfl⟩ dX1_runsDry_49 (V_zero rfl rfl ?_)
        obtain ⟨x2_42, ex2_42, hb_13⟩ := be_of hb_13
        refine V_iinc hG 0 x2_42 rfl (by rw [ex2_42]; rfl) [(2, .int x2_42), (0, rf E p0), (1, .int p1)] dX1_runsDry_52 (Nat.le_of_ble_eq_true rfl) rfl ?_
        refine V_goto hG 23 dX1_runsDry_55 (by decide) ?_
        cases hb_13
        exact hk_14 _ rfl
      · have hb_13 := if_t c_36 hb_13
        refine V_iload_n hG 0 rfl dX1_runsDry_42 ?_
        cases hb_13
        have e_43 := hx_15 _ rfl
        have h_44 : some (x2_17, S_18) = some (r, M') := hr_19 _ e_43.symm
        cases h_44
        subst eQ
        exact V_iret hG dX1_runsDry_43
  · have h := if_t c_4 h
    refine V_iconst hG (-1) rfl dX1_runsDry_8 ?_
    cases h
    subst eQ
    exact V_iret hG dX1_runsDry_9

def f_X1_sendIn_b1 (N : Nat) (p0 : Nat) (p1 : Int32) (p2 : Int32) (p3 : Int32) (x6_22 : Int32) (x5_23 : Int32) (x4_24 : Int32) (S_25 : Mem) : Option ((Int32 × Int32 × Int32 × Mem) ⊕ (Int32 × Int32 × Int32 × Mem)) :=
if 20 < x6_22 then (
some (.inl (x6_22, x5_23, x4_24, S_25)))
else (
gd (mT S_25 p0 = 0) (
bd (mR S_25 p0 10) fun (a_39 : Nat) =>
bd (mR S_25 p0 9) fun (a_41 : Nat) =>
gd (mT S_25 a_39 = 5) (
bd (f_X6_become N a_39 a_41 S_25) fun (M_45 : Mem) =>
gd (mT M_45 p0 = 0) (
bd (mR M_45 p0 10) fun (a_47 : Nat) =>
gd (mT M_45 a_47 = 5) (
bd (f_X6_goesOn N a_47 x6_22 M_45) fun (M_51 : Mem) =>
gd (mT M_51 p0 = 0) (
bd (mR M_51 p0 10) fun (a_53 : Nat) =>
gd (mT M_51 a_53 = 5) (
bd (mR M_51 a_53 2) fun (a_56 : Nat) =>
gd (mT M_51 a_56 = 100) (
gd (inb p1 (mLn M_51 a_56)) (
be (sI M_51 a_56 (Int32.toNatClampNeg p1) p2) fun (M_60 : Mem) =>
bd (mR M_60 p0 10) fun (a_64 : Nat) =>
gd (mT M_60 a_64 = 5) (
bd (f_X6_goesOn N a_64 (40 - x6_22) M_60) fun (M_68 : Mem) =>
gd (mT M_68 p0 = 0) (
bd (mR M_68 p0 10) fun (a_70 : Nat) =>
gd (mT M_68 a_70 = 5) (
bd (mR M_68 p0 9) fun (a_73 : Nat) =>
gd (mT M_68 a_73 = 5) (
be ((mI M_68 a_70 8) - (mI M_68 a_73 8)) fun (x7_76 : Int32) =>
bd2 (if x5_23 = (-1) then (
some (x7_76, x6_22))
else (
if x7_76 < x5_23 then (
some (x7_76, x6_22))
else (
some (x5_23, x4_24))) : Option (Int32 × Int32)) fun (x5_77 : Int32) (x4_78 : Int32) =>
be (x6_22 + 1) fun (x6_81 : Int32) =>
some (.inr (x6_81, x5_77, x4_78, M_68)))))))))))))))
def f_X1_sendIn (N : Nat) (p0 : Nat) (p1 : Int32) (p2 : Int32) (p3 : Int32) (M : Mem) : Option (Int32 × Mem) :=
gd (mT M p0 = 0) (
bd (f_X1_isHorse p0 p1 M) fun (r_3 : Int32) =>
if r_3 = 0 then (
some ((-1), M))
else (
bd (f_X1_isTrough p0 p2 M) fun (r_6 : Int32) =>
if r_6 = 0 then (
some ((-1), M))
else (
bd (f_X1_in (Int32.toInt64 p3) 0 1 M) fun (r_9 : Int32) =>
if r_9 = 0 then (
some ((-1), M))
else (
bd (mR M p0 9) fun (a_11 : Nat) =>
gd (mT M a_11 = 5) (
bd (f_X6_isOn a_11 p1 M) fun (r_15 : Int32) =>
if r_15 = 0 then (
some ((-2), M))
else (
bd4 (lp N (fun s_36 : Int32 × Int32 × Int32 × Mem => f_X1_sendIn_b1 N p0 p1 p2 p3 s_36.1 s_36.2.1 s_36.2.2.1 s_36.2.2.2) (0, (-1), 0, M)) fun (x6_26 : Int32) (x5_27 : Int32) (x4_28 : Int32) (S_29 : Mem) =>
be (if p3 = 0 then (
x4_28)
else (
x5_27) : Int32) fun (y_35 : Int32) =>
some (y_35, S_29)))))))
def rm_f_X1_sendIn : Room := { frames := 206, cells := 0, slots := 0, locals := 4143 }
theorem ok_f_X1_sendIn {E : En} (hE : EOk E) (hN : NOk E) {N : Nat} {p0 : Nat} {p1 : Int32} {p2 : Int32} {p3 : Int32} {M : Mem} {r : Int32} {M' : Mem} (h : f_X1_sendIn N p0 p1 p2 p3 M = some (r, M')) : CM E yX1_sendIn cX1_sendIn 8 (some .int) rm_f_X1_sendIn [rf E p0, .int p1, .int p2, .int p3] M (some (.int r)) M' := by
  unfold f_X1_sendIn at h
  refine CM_introX (own := RX1) rfl (by decide +kernel) (Nat.le_of_ble_eq_true rfl) rfl (fun G hG hEn hI => ?_)
  obtain ⟨Q, eQ⟩ : ∃ Q, Q = QM E G (some (.int r)) M' 0 0 := ⟨_, rfl⟩
  show V E G M 0 0 8 0 [(0, rf E p0), (1, .int p1), (2, .int p2), (3, .int p3)] [] (QM E G (some (.int r)) M' 0 0)
  rw [← eQ]
  refine V_aload_n hG 0 rfl dX1_sendIn_0 ?_
  refine V_iload_n hG 1 rfl dX1_sendIn_1 ?_
  obtain ⟨g_1, h⟩ := gd_of h
  obtain ⟨r_3, hc_2, h⟩ := bd_of h
  refine V_callV hE hG (ci := 0) (As := [.int p1]) (rest := []) (ok_f_X1_isHorse hE hN hc_2) g_1 (by decide) rfl hw_X1_186 hdv_X1_isHorse ⟨Nat.le_of_ble_eq_true rfl, Nat.le_of_ble_eq_true rfl⟩ rfl rfl (Nat.le_of_ble_eq_true rfl) ⟨Nat.le_of_ble_eq_true rfl, Nat.le_of_ble_eq_true rfl⟩ dX1_sendIn_2 (V_zero rfl rfl ?_)
  refine V_if_eq hG 26 dX1_sendIn_5 (by decide) (fun c_4 => ?_) (fun c_4 => ?_)
  · have h := if_t c_4 h
    refine V_iconst hG (-1) rfl dX1_sendIn_26 ?_
    cases h
    subst eQ
    exact V_iret hG dX1_sendIn_27
  · have h := if_f c_4 h
    refine V_aload_n hG 0 rfl dX1_sendIn_8 ?_
    refine V_iload_n hG 2 rfl dX1_sendIn_9 ?_
    obtain ⟨r_6, hc_5, h⟩ := bd_of h
    refine V_callV hE hG (ci := 0) (As := [.int p2]) (rest := []) (ok_f_X1_isTrough hE hN hc_5) g_1 (by decide) rfl hw_X1_233 hdv_X1_isTrough ⟨Nat.le_of_ble_eq_true rfl, Nat.le_of_ble_eq_true rfl⟩ rfl rfl (Nat.le_of_ble_eq_true rfl) ⟨Nat.le_of_ble_eq_true rfl, Nat.le_of_ble_eq_true rfl⟩ dX1_sendIn_10 (V_zero rfl rfl ?_)
    refine V_if_eq hG 26 dX1_sendIn_13 (by decide) (fun c_7 => ?_) (fun c_7 => ?_)
    · have h := if_t c_7 h
      refine V_iconst hG (-1) rfl dX1_sendIn_26 ?_
      cases h
      subst eQ
      exact V_iret hG dX1_sendIn_27
    · have h := if_f c_7 h
      refine V_iload_n hG 3 rfl dX1_sendIn_16 ?_
      refine V_i2l hG dX1_sendIn_17 ?_
      refine V_lconst hG 0 rfl dX1_sendIn_18 ?_
      refine V_lconst hG 1 rfl dX1_sendIn_19 ?_
      obtain ⟨r_9, hc_8, h⟩ := bd_of h
      refine V_callS hE hG (As := [.long (Int32.toInt64 p3), .long 0, .long 1]) (rest := []) (ok_f_X1_in hE hN hc_8) hw_X1_144 hdc_X1_in ⟨Nat.le_of_ble_eq_true rfl, Nat.le_of_ble_eq_true rfl⟩ rfl rfl (Nat.le_of_ble_eq_true rfl) ⟨Nat.le_of_ble_eq_true rfl, Nat.le_of_ble_eq_true rfl⟩ dX1_sendIn_20 (V_zero rfl rfl ?_)
      refine V_if_ne hG 28 dX1_sendIn_23 (by decide) (fun c_10 => ?_) (fun c_10 => ?_)
      · have h := if_f c_10 h
        refine V_aload_n hG 0 rfl dX1_sendIn_28 ?_
        obtain ⟨a_11, hr_12, h⟩ := bd_of h
        refine gf_X1_101 hN hG g_1 hr_12 dX1_sendIn_29 ?_
        refine V_iload_n hG 1 rfl dX1_sendIn_32 ?_
        obtain ⟨g_13, h⟩ := gd_of h
        obtain ⟨r_15, hc_14, h⟩ := bd_of h
        refine V_callV hE hG (ci := 5) (As := [.int p1]) (rest := []) (ok_f_X6_isOn hE hN hc_14) g_13 (by decide) rfl hw_X1_219 hdv_X6_isOn ⟨Nat.le_of_ble_eq_true rfl, Nat.le_of_ble_eq_true rfl⟩ rfl rfl (Nat.le_of_ble_eq_true rfl) ⟨Nat.le_of_ble_eq_true rfl, Nat.le_of_ble_eq_true rfl⟩ dX1_sendIn_33 (V_zero rfl rfl ?_)
        refine V_if_ne hG 42 dX1_sendIn_36 (by decide) (fun c_16 => ?_) (fun c_16 => ?_)
        · have h := if_f c_16 h
          refine V_iconst hG 0 rfl dX1_sendIn_42 ?_
          refine V_istore hG [(4, .int 0), (0, rf E p0), (1, .int p1), (2, .int p2), (3, .int p3)] dX1_sendIn_43 (Nat.le_of_ble_eq_true rfl) rfl ?_
          refine V_iconst hG (-1) rfl dX1_sendIn_45 ?_
          refine V_istore hG [(5, .int (-1)), (4, .int 0), (0, rf E p0), (1, .int p1), (2, .int p2), (3, .int p3)] dX1_sendIn_46 (Nat.le_of_ble_eq_true rfl) rfl ?_
          refine V_iconst hG 0 rfl dX1_sendIn_48 ?_
          refine V_istore hG [(6, .int 0), (5, .int (-1)), (4, .int 0), (0, rf E p0), (1, .int p1), (2, .int p2), (3, .int p3)] dX1_sendIn_49 (Nat.le_of_ble_eq_true rfl) rfl ?_
          obtain ⟨x6_26, x5_27, x4_28, S_29, hL_30, h⟩ := bd4_of h
          have J_21 : ∀ q_31 : Int32 × Int32 × Int32 × Mem, q_31 = (x6_26, x5_27, x4_28, S_29) → V E G q_31.2.2.2 0 0 8 147 [(6, .int q_31.1), (5, .int q_31.2.1), (4, .int q_31.2.2.1), (0, rf E p0), (1, .int p1), (2, .int p2), (3, .int p3)] [] Q := by
            intro q_31 e9
            subst q_31
            show V E G S_29 0 0 8 147 [(6, .int x6_26), (5, .int x5_27), (4, .int x4_28), (0, rf E p0), (1, .int p1), (2, .int p2), (3, .int p3)] [] Q
            refine V_iload_n hG 6 rfl dX1_sendIn_147 ?_
            obtain ⟨t_32, et_32, h⟩ := be_of h
            have J_33 : ∀ y_35 : Int32, y_35 = t_32 → V E G S_29 0 0 8 158 [(6, .int x6_26), (5, .int x5_27), (4, .int x4_28), (0, rf E p0), (1, .int p1), (2, .int p2), (3, .int p3)] [.int y_35] Q := by
              intro y_35 ey
              subst ey
              cases h
              subst eQ
              exact V_iret hG dX1_sendIn_158
            refine V_if_ne hG 156 dX1_sendIn_148 (by decide) (fun c_34 => ?_) (fun c_34 => ?_)
            · refine V_iload hG 1 rfl dX1_sendIn_156 ?_
              exact J_33 _ (by rw [et_32, if_neg c_34])
            · refine V_iload hG 2 rfl dX1_sendIn_151 ?_
              refine V_goto hG 158 dX1_sendIn_153 (by decide) ?_
              exact J_33 _ (by rw [et_32, if_pos c_34])
          refine lp_walk (W := fun s_36 : Int32 × Int32 × Int32 × Mem => V E G s_36.2.2.2 0 0 8 51 [(6, .int s_36.1), (5, .int s_36.2.1), (4, .int s_36.2.2.1), (0, rf E p0), (1, .int p1), (2, .int p2), (3, .int p3)] [] Q) ?_ N (0, (-1), 0, M) hL_30
          intro s_36 b_17 hb_18 hk_19 hx_20
          obtain ⟨x6_22, x5_23, x4_24, S_25⟩ := s_36
          have hb_18 : f_X1_sendIn_b1 N p0 p1 p2 p3 x6_22 x5_23 x4_24 S_25 = some b_17 := hb_18
          unfold f_X1_sendIn_b1 at hb_18
          show V E G S_25 0 0 8 51 [(6, .int x6_22), (5, .int x5_23), (4, .int x4_24), (0, rf E p0), (1, .int p1), (2, .int p2), (3, .int p3)] [] Q
          refine V_iload hG 0 rfl dX1_sendIn_51 ?_
          refine V_bipush hG 20 (by decide) dX1_sendIn_53 ?_
          refine V_icmp_gt hG 147 dX1_sendIn_55 (by decide) (fun c_37 => ?_) (fun c_37 => ?_)
          · have hb_18 := if_t c_37 hb_18
            cases hb_18
            exact J_21 _ (hx_20 _ rfl)
          · have hb_18 := if_f c_37 hb_18
            refine V_aload_n hG 3 rfl dX1_sendIn_58 ?_
            obtain ⟨g_38, hb_18⟩ := gd_of hb_18
            obtain ⟨a_39, hr_40, hb_18⟩ := bd_of hb_18
            refine gf_X1_105 hN hG g_38 hr_40 dX1_sendIn_59 ?_
            refine V_aload_n hG 3 rfl dX1_sendIn_62 ?_
            obtain ⟨a_41, hr_42, hb_18⟩ := bd_of hb_18
            refine gf_X1_101 hN hG g_38 hr_42 dX1_sendIn_63 ?_
            obtain ⟨g_43, hb_18⟩ := gd_of hb_18
            obtain ⟨M_45, hc_44, hb_18⟩ := bd_of hb_18
            refine V_callV hE hG (ci := 5) (As := [rf E a_41]) (rest := []) (ok_f_X6_become hE hN hc_44) g_43 (by decide) rfl hw_X1_254 hdv_X6_become ⟨Nat.le_of_ble_eq_true rfl, Nat.le_of_ble_eq_true rfl⟩ rfl rfl (Nat.le_of_ble_eq_true rfl) ⟨Nat.le_of_ble_eq_true rfl, Nat.le_of_ble_eq_true rfl⟩ dX1_sendIn_66 (V_zero rfl rfl ?_)
            refine V_aload_n hG 3 rfl dX1_sendIn_69 ?_
            obtain ⟨g_46, hb_18⟩ := gd_of hb_18
            obtain ⟨a_47, hr_48, hb_18⟩ := bd_of hb_18
            refine gf_X1_105 hN hG g_46 hr_48 dX1_sendIn_70 ?_
            refine V_iload hG 0 rfl dX1_sendIn_73 ?_
            obtain ⟨g_49, hb_18⟩ := gd_of hb_18
            obtain ⟨M_51, hc_50, hb_18⟩ := bd_of hb_18
            refine V_callV hE hG (ci := 5) (As := [.int x6_22]) (rest := []) (ok_f_X6_goesOn hE hN hc_50) g_49 (by decide) rfl hw_X1_283 hdv_X6_goesOn ⟨Nat.le_of_ble_eq_true rfl, Nat.le_of_ble_eq_true rfl⟩ rfl rfl (Nat.le_of_ble_eq_true rfl) ⟨Nat.le_of_ble_eq_true rfl, Nat.le_of_ble_eq_true rfl⟩ dX1_sendIn_75 (V_zero rfl rfl ?_)
            refine V_aload_n hG 3 rfl dX1_sendIn_78 ?_
            obtain ⟨g_52, hb_18⟩ := gd_of hb_18
            obtain ⟨a_53, hr_54, hb_18⟩ := bd_of hb_18
            refine gf_X1_105 hN hG g_52 hr_54 dX1_sendIn_79 ?_
            obtain ⟨g_55, hb_18⟩ := gd_of hb_18
            obtain ⟨a_56, hr_57, hb_18⟩ := bd_of hb_18
            refine gf_X1_209 hN hG g_55 hr_57 dX1_sendIn_82 ?_
            refine V_iload_n hG 4 rfl dX1_sendIn_85 ?_
            refine V_iload_n hG 5 rfl dX1_sendIn_86 ?_
            obtain ⟨g_58, hb_18⟩ := gd_of hb_18
            obtain ⟨g_59, hb_18⟩ := gd_of hb_18
            obtain ⟨M_60, eM_60, hb_18⟩ := be_of hb_18
            refine W_iastore hG g_58 g_59 M_60 eM_60 dX1_sendIn_87 ?_
            have g_61 : mT M_60 p0 = 0 := by rw [eM_60]; exact g_52
            have g_62 : mT M_60 a_53 = 5 := by rw [eM_60]; exact g_55
            have g_63 : mT M_60 a_56 = 100 := by rw [eM_60]; exact g_58
            refine V_aload_n hG 3 rfl dX1_sendIn_88 ?_
            obtain ⟨a_64, hr_65, hb_18⟩ := bd_of hb_18
            refine gf_X1_105 hN hG g_61 hr_65 dX1_sendIn_89 ?_
            refine V_bipush hG 40 (by decide) dX1_sendIn_92 ?_
            refine V_iload hG 0 rfl dX1_sendIn_94 ?_
            refine V_isub hG dX1_sendIn_96 ?_
            obtain ⟨g_66, hb_18⟩ := gd_of hb_18
            obtain ⟨M_68, hc_67, hb_18⟩ := bd_of hb_18
            refine V_callV hE hG (ci := 5) (As := [.int (40 - x6_22)]) (rest := []) (ok_f_X6_goesOn hE hN hc_67) g_66 (by decide) rfl hw_X1_283 hdv_X6_goesOn ⟨Nat.le_of_ble_eq_true rfl, Nat.le_of_ble_eq_true rfl⟩ rfl rfl (Nat.le_of_ble_eq_true rfl) ⟨Nat.le_of_ble_eq_true rfl, Nat.le_of_ble_eq_true rfl⟩ dX1_sendIn_97 (V_zero rfl rfl ?_)
            refine V_aload_n hG 3 rfl dX1_sendIn_100 ?_
            obtain ⟨g_69, hb_18⟩ := gd_of hb_18
            obtain ⟨a_70, hr_71, hb_18⟩ := bd_of hb_18
            refine gf_X1_105 hN hG g_69 hr_71 dX1_sendIn_101 ?_
            obtain ⟨g_72, hb_18⟩ := gd_of hb_18
            refine gf_X1_286 hN hG g_72 dX1_sendIn_104 ?_
            refine V_aload_n hG 3 rfl dX1_sendIn_107 ?_
            obtain ⟨a_73, hr_74, hb_18⟩ := bd_of hb_18
            refine gf_X1_101 hN hG g_69 hr_74 dX1_sendIn_108 ?_
            obtain ⟨g_75, hb_18⟩ := gd_of hb_18
            refine gf_X1_286 hN hG g_75 dX1_sendIn_111 ?_
            refine V_isub hG dX1_sendIn_114 ?_
            obtain ⟨x7_76, ex7_76, hb_18⟩ := be_of hb_18
            refine V_topi ex7_76 ?_
            refine V_istore hG [(7, .int x7_76), (6, .int x6_22), (5, .int x5_23), (4, .int x4_24), (0, rf E p0), (1, .int p1), (2, .int p2), (3, .int p3)] dX1_sendIn_115 (Nat.le_of_ble_eq_true rfl) rfl ?_
            refine V_iload hG 2 rfl dX1_sendIn_117 ?_
            refine V_iconst hG (-1) rfl dX1_sendIn_119 ?_
            obtain ⟨x5_77, x4_78, hj_80, hb_18⟩ := bd2_of hb_18
            have J_79 : V E G M_68 0 0 8 141 [(5, .int x5_77), (4, .int x4_78), (7, .int x7_76), (6, .int x6_22), (0, rf E p0), (1, .int p1), (2, .int p2), (3, .int p3)] [] Q := by
              obtain ⟨x6_81, ex6_81, hb_18⟩ := be_of hb_18
              refine V_iinc hG 3 x6_81 rfl (by rw [ex6_81]; rfl) [(6, .int x6_81), (5, .int x5_77), (4, .int x4_78), (7, .int x7_76), (0, rf E p0), (1, .int p1), (2, .int p2), (3, .int p3)] dX1_sendIn_141 (Nat.le_of_ble_eq_true rfl) rfl ?_
              refine V_goto hG 51 dX1_sendIn_144 (by decide) ?_
              cases hb_18
              exact V_lv [0, 1, 2, 4, 5, 6, 7] rfl (hk_19 _ rfl)
            refine V_icmp_eq hG 133 dX1_sendIn_120 (by decide) (fun c_82 => ?_) (fun c_82 => ?_)
            · have hj_80 := if_t c_82 hj_80
              refine V_iload hG 1 rfl dX1_sendIn_133 ?_
              refine V_istore hG [(4, .int x6_22), (7, .int x7_76), (6, .int x6_22), (5, .int x5_23), (0, rf E p0), (1, .int p1), (2, .int p2), (3, .int p3)] dX1_sendIn_135 (Nat.le_of_ble_eq_true rfl) rfl ?_
              refine V_iload hG 1 rfl dX1_sendIn_137 ?_
              refine V_istore hG [(5, .int x7_76), (4, .int x6_22), (7, .int x7_76), (6, .int x6_22), (0, rf E p0), (1, .int p1), (2, .int p2), (3, .int p3)] dX1_sendIn_139 (Nat.le_of_ble_eq_true rfl) rfl ?_
              cases hj_80
              exact J_79
            · have hj_80 := if_f c_82 hj_80
              refine V_iload hG 0 rfl dX1_sendIn_123 ?_
              refine V_iload hG 2 rfl dX1_sendIn_125 ?_
              refine V_icmp_lt hG 133 dX1_sendIn_127 (by decide) (fun c_83 => ?_) (fun c_83 => ?_)
              · have hj_80 := if_t c_83 hj_80
                refine V_iload hG 1 rfl dX1_sendIn_133 ?_
                refine V_istore hG [(4, .int x6_22), (7, .int x7_76), (6, .int x6_22), (5, .int x5_23), (0, rf E p0), (1, .int p1), (2, .int p2), (3, .int p3)] dX1_sendIn_135 (Nat.le_of_ble_eq_true rfl) rfl ?_
                refine V_iload hG 1 rfl dX1_sendIn_137 ?_
                refine V_istore hG [(5, .int x7_76), (4, .int x6_22), (7, .int x7_76), (6, .int x6_22), (0, rf E p0), (1, .int p1), (2, .int p2), (3, .int p3)] dX1_sendIn_139 (Nat.le_of_ble_eq_true rfl) rfl ?_
                cases hj_80
                exact J_79
              · have hj_80 := if_f c_83 hj_80
                refine V_goto hG 141 dX1_sendIn_130 (by decide) ?_
                cases hj_80
                exact V_lv [2, 3, 0, 1, 4, 5, 6, 7] rfl (J_79)
        · have h := if_t c_16 h
          refine V_bipush hG (-2) (by decide) dX1_sendIn_39 ?_
          cases h
          subst eQ
          exact V_iret hG dX1_sendIn_41
      · have h := if_t c_10 h
        refine V_iconst hG (-1) rfl dX1_sendIn_26 ?_
        cases h
        subst eQ
        exact V_iret hG dX1_sendIn_27

def f_X1_staysDry_b1 (N : Nat) (p0 : Nat) (p1 : Int32) (p2 : Int32) (M : Mem) (x7_12 : Int32) (x5_13 : Int64) (x3_14 : Int64) : Option ((Int32 × Int64 × Int64) ⊕ (Int32 × Int64 × Int64)) :=
if p1 ≤ x7_12 then (
some (.inl (x7_12, x5_13, x3_14)))
else (
gd (mT M p0 = 0) (
bd (mR M p0 6) fun (a_31 : Nat) =>
gd (mT M a_31 = 2) (
be (x3_14 * (Int32.toInt64 (100 - (mI M a_31 5)))) fun (x3_34 : Int64) =>
be (x5_13 * 100) fun (x5_35 : Int64) =>
be (x7_12 + 1) fun (x7_36 : Int32) =>
some (.inr (x7_36, x5_35, x3_34)))))
def f_X1_staysDry (N : Nat) (p0 : Nat) (p1 : Int32) (p2 : Int32) (M : Mem) : Option (Int64) :=
bd (f_X1_in (Int32.toInt64 p1) 0 6 M) fun (r_2 : Int32) =>
if r_2 = 0 then (
some (-1))
else (
bd (f_X1_in (Int32.toInt64 p2) 0 1 M) fun (r_5 : Int32) =>
if r_5 = 0 then (
some (-1))
else (
bd3 (lp N (fun s_28 : Int32 × Int64 × Int64 => f_X1_staysDry_b1 N p0 p1 p2 M s_28.1 s_28.2.1 s_28.2.2) (0, 1, 1)) fun (x7_15 : Int32) (x5_16 : Int64) (x3_17 : Int64) =>
bd (f_X1_com x3_17 x5_16 M) fun (r_21 : Int64) =>
bd (if p2 = 0 then (
gd (¬ r_21 = 0) (
some (x3_17 / r_21)))
else (
gd (¬ r_21 = 0) (
some (x5_16 / r_21))) : Option (Int64)) fun (t_22 : Int64) =>
some t_22))
def rm_f_X1_staysDry : Room := { frames := 301, cells := 0, slots := 0, locals := 6023 }
theorem ok_f_X1_staysDry {E : En} (hE : EOk E) (hN : NOk E) {N : Nat} {p0 : Nat} {p1 : Int32} {p2 : Int32} {M : Mem} {r : Int64} (h : f_X1_staysDry N p0 p1 p2 M = some r) : CM E yX1_staysDry cX1_staysDry 9 (some .long) rm_f_X1_staysDry [rf E p0, .int p1, .int p2] M (some (.long r)) M := by
  unfold f_X1_staysDry at h
  refine CM_introX (own := RX1) rfl (by decide +kernel) (Nat.le_of_ble_eq_true rfl) rfl (fun G hG hEn hI => ?_)
  obtain ⟨Q, eQ⟩ : ∃ Q, Q = QM E G (some (.long r)) M 0 0 := ⟨_, rfl⟩
  show V E G M 0 0 9 0 [(0, rf E p0), (1, .int p1), (2, .int p2)] [] (QM E G (some (.long r)) M 0 0)
  rw [← eQ]
  refine V_iload_n hG 1 rfl dX1_staysDry_0 ?_
  refine V_i2l hG dX1_staysDry_1 ?_
  refine V_lconst hG 0 rfl dX1_staysDry_2 ?_
  refine V_ldc2 hG q1314 dX1_staysDry_3 ?_
  obtain ⟨r_2, hc_1, h⟩ := bd_of h
  refine V_callS hE hG (As := [.long (Int32.toInt64 p1), .long 0, .long 6]) (rest := []) (ok_f_X1_in hE hN hc_1) hw_X1_144 hdc_X1_in ⟨Nat.le_of_ble_eq_true rfl, Nat.le_of_ble_eq_true rfl⟩ rfl rfl (Nat.le_of_ble_eq_true rfl) ⟨Nat.le_of_ble_eq_true rfl, Nat.le_of_ble_eq_true rfl⟩ dX1_staysDry_6 (V_zero rfl rfl ?_)
  refine V_if_eq hG 22 dX1_staysDry_9 (by decide) (fun c_3 => ?_) (fun c_3 => ?_)
  · have h := if_t c_3 h
    refine V_ldc2 hG q1315 dX1_staysDry_22 ?_
    cases h
    subst eQ
    exact V_lret hG dX1_staysDry_25
  · have h := if_f c_3 h
    refine V_iload_n hG 2 rfl dX1_staysDry_12 ?_
    refine V_i2l hG dX1_staysDry_13 ?_
    refine V_lconst hG 0 rfl dX1_staysDry_14 ?_
    refine V_lconst hG 1 rfl dX1_staysDry_15 ?_
    obtain ⟨r_5, hc_4, h⟩ := bd_of h
    refine V_callS hE hG (As := [.long (Int32.toInt64 p2), .long 0, .long 1]) (rest := []) (ok_f_X1_in hE hN hc_4) hw_X1_144 hdc_X1_in ⟨Nat.le_of_ble_eq_true rfl, Nat.le_of_ble_eq_true rfl⟩ rfl rfl (Nat.le_of_ble_eq_true rfl) ⟨Nat.le_of_ble_eq_true rfl, Nat.le_of_ble_eq_true rfl⟩ dX1_staysDry_16 (V_zero rfl rfl ?_)
    refine V_if_ne hG 26 dX1_staysDry_19 (by decide) (fun c_6 => ?_) (fun c_6 => ?_)
    · have h := if_f c_6 h
      refine V_lconst hG 1 rfl dX1_staysDry_26 ?_
      refine V_lstore_n hG rfl [(3, .long 1), (0, rf E p0), (1, .int p1), (2, .int p2)] dX1_staysDry_27 (Nat.le_of_ble_eq_true rfl) rfl ?_
      refine V_lconst hG 1 rfl dX1_staysDry_28 ?_
      refine V_lstore hG [(5, .long 1), (3, .long 1), (0, rf E p0), (1, .int p1), (2, .int p2)] dX1_staysDry_29 (Nat.le_of_ble_eq_true rfl) rfl ?_
      refine V_iconst hG 0 rfl dX1_staysDry_31 ?_
      refine V_istore hG [(7, .int 0), (5, .long 1), (3, .long 1), (0, rf E p0), (1, .int p1), (2, .int p2)] dX1_staysDry_32 (Nat.le_of_ble_eq_true rfl) rfl ?_
      obtain ⟨x7_15, x5_16, x3_17, hL_18, h⟩ := bd3_of h
      have J_11 : ∀ q_19 : Int32 × Int64 × Int64, q_19 = (x7_15, x5_16, x3_17) → V E G M 0 0 9 68 [(7, .int q_19.1), (5, .long q_19.2.1), (3, .long q_19.2.2), (0, rf E p0), (1, .int p1), (2, .int p2)] [] Q := by
        intro q_19 e9
        subst q_19
        show V E G M 0 0 9 68 [(7, .int x7_15), (5, .long x5_16), (3, .long x3_17), (0, rf E p0), (1, .int p1), (2, .int p2)] [] Q
        refine V_lload_n hG 2 rfl dX1_staysDry_68 ?_
        refine V_lload hG 1 rfl dX1_staysDry_69 ?_
        obtain ⟨r_21, hc_20, h⟩ := bd_of h
        refine V_callS hE hG (As := [.long x3_17, .long x5_16]) (rest := []) (ok_f_X1_com hE hN hc_20) hw_X1_346 hdc_X1_common ⟨Nat.le_of_ble_eq_true rfl, Nat.le_of_ble_eq_true rfl⟩ rfl rfl (Nat.le_of_ble_eq_true rfl) ⟨Nat.le_of_ble_eq_true rfl, Nat.le_of_ble_eq_true rfl⟩ dX1_staysDry_71 (V_zero rfl rfl ?_)
        refine V_lstore hG [(7, .long r_21), (5, .long x5_16), (3, .long x3_17), (0, rf E p0), (1, .int p1), (2, .int p2)] dX1_staysDry_74 (Nat.le_of_ble_eq_true rfl) rfl ?_
        refine V_iload_n hG 5 rfl dX1_staysDry_76 ?_
        obtain ⟨t_22, hj_24, h⟩ := bd_of h
        have J_23 : V E G M 0 0 9 92 [(7, .long r_21), (5, .long x5_16), (3, .long x3_17), (0, rf E p0), (1, .int p1), (2, .int p2)] [.long t_22] Q := by
          cases h
          subst eQ
          exact V_lret hG dX1_staysDry_92
        refine V_if_ne hG 87 dX1_staysDry_77 (by decide) (fun c_25 => ?_) (fun c_25 => ?_)
        · have hj_24 := if_f c_25 hj_24
          refine V_lload hG 1 rfl dX1_staysDry_87 ?_
          refine V_lload hG 0 rfl dX1_staysDry_89 ?_
          obtain ⟨g_26, hj_24⟩ := gd_of hj_24
          refine V_ldiv hG g_26 dX1_staysDry_91 ?_
          cases hj_24
          exact J_23
        · have hj_24 := if_t c_25 hj_24
          refine V_lload_n hG 2 rfl dX1_staysDry_80 ?_
          refine V_lload hG 0 rfl dX1_staysDry_81 ?_
          obtain ⟨g_27, hj_24⟩ := gd_of hj_24
          refine V_ldiv hG g_27 dX1_staysDry_83 ?_
          refine V_goto hG 92 dX1_staysDry_84 (by decide) ?_
          cases hj_24
          exact J_23
      refine lp_walk (W := fun s_28 : Int32 × Int64 × Int64 => V E G M 0 0 9 34 [(7, .int s_28.1), (5, .long s_28.2.1), (3, .long s_28.2.2), (0, rf E p0), (1, .int p1), (2, .int p2)] [] Q) ?_ N (0, 1, 1) hL_18
      intro s_28 b_7 hb_8 hk_9 hx_10
      obtain ⟨x7_12, x5_13, x3_14⟩ := s_28
      have hb_8 : f_X1_staysDry_b1 N p0 p1 p2 M x7_12 x5_13 x3_14 = some b_7 := hb_8
      unfold f_X1_staysDry_b1 at hb_8
      show V E G M 0 0 9 34 [(7, .int x7_12), (5, .long x5_13), (3, .long x3_14), (0, rf E p0), (1, .int p1), (2, .int p2)] [] Q
      refine V_iload hG 0 rfl dX1_staysDry_34 ?_
      refine V_iload_n hG 4 rfl dX1_staysDry_36 ?_
      refine V_icmp_ge hG 68 dX1_staysDry_37 (by decide) (fun c_29 => ?_) (fun c_29 => ?_)
      · have hb_8 := if_t c_29 hb_8
        cases hb_8
        exact J_11 _ (hx_10 _ rfl)
      · have hb_8 := if_f c_29 hb_8
        refine V_lload_n hG 2 rfl dX1_staysDry_40 ?_
        refine V_bipush hG 100 (by decide) dX1_staysDry_41 ?_
        refine V_aload_n hG 3 rfl dX1_staysDry_43 ?_
        obtain ⟨g_30, hb_8⟩ := gd_of hb_8
        obtain ⟨a_31, hr_32, hb_8⟩ := bd_of hb_8
        refine gf_X1_13 hN hG g_30 hr_32 dX1_staysDry_44 ?_
        obtain ⟨g_33, hb_8⟩ := gd_of hb_8
        refine gf_X1_353 hN hG g_33 dX1_staysDry_47 ?_
        refine V_isub hG dX1_staysDry_50 ?_
        refine V_i2l hG dX1_staysDry_51 ?_
        refine V_lmul hG dX1_staysDry_52 ?_
        obtain ⟨x3_34, ex3_34, hb_8⟩ := be_of hb_8
        refine V_topl ex3_34 ?_
        refine V_lstore_n hG rfl [(3, .long x3_34), (7, .int x7_12), (5, .long x5_13), (0, rf E p0), (1, .int p1), (2, .int p2)] dX1_staysDry_53 (Nat.le_of_ble_eq_true rfl) rfl ?_
        refine V_lload hG 2 rfl dX1_staysDry_54 ?_
        refine V_ldc2 hG q1316 dX1_staysDry_56 ?_
        refine V_lmul hG dX1_staysDry_59 ?_
        obtain ⟨x5_35, ex5_35, hb_8⟩ := be_of hb_8
        refine V_topl ex5_35 ?_
        refine V_lstore hG [(5, .long x5_35), (3, .long x3_34), (7, .int x7_12), (0, rf E p0), (1, .int p1), (2, .int p2)] dX1_staysDry_60 (Nat.le_of_ble_eq_true rfl) rfl ?_
        obtain ⟨x7_36, ex7_36, hb_8⟩ := be_of hb_8
        refine V_iinc hG 2 x7_36 rfl (by rw [ex7_36]; rfl) [(7, .int x7_36), (5, .long x5_35), (3, .long x3_34), (0, rf E p0), (1, .int p1), (2, .int p2)] dX1_staysDry_62 (Nat.le_of_ble_eq_true rfl) rfl ?_
        refine V_goto hG 34 dX1_staysDry_65 (by decide) ?_
        cases hb_8
        exact hk_9 _ rfl
    · have h := if_t c_6 h
      refine V_ldc2 hG q1315 dX1_staysDry_22 ?_
      cases h
      subst eQ
      exact V_lret hG dX1_staysDry_25

def f_X1_thirsts_b4 (N : Nat) (x2_39 : Int32) (p0 : Nat) (p1 : Int32) (x4_47 : Int32) (x3_48 : Int32) (S_49 : Mem) : Option ((Int32 × Int32 × Mem) ⊕ (Int32 × Int32 × Mem)) :=
if 10 ≤ x4_47 then (
some (.inl (x4_47, x3_48, S_49)))
else (
gd (mT S_49 p0 = 0) (
bd2 (f_X1_isThirst N p0 p1 (10 * x4_47) x2_39 S_49) fun (r_60 : Int32) (M_59 : Mem) =>
be (if r_60 = 0 then (
0)
else (
1 <<< (x4_47 &&& 31)) : Int32) fun (y_64 : Int32) =>
be (x3_48 ||| y_64) fun (x3_65 : Int32) =>
be (x4_47 + 1) fun (x4_66 : Int32) =>
some (.inr (x4_66, x3_65, M_59))))
def f_X1_thirsts_b3 (N : Nat) (p0 : Nat) (p1 : Int32) (S_28 : Mem) (x4_36 : Int32) (x2_37 : Int32) : Option ((Int32 × Int32) ⊕ (Int32 × Int32)) :=
gd (mT S_28 p0 = 0) (
bd (f_X1_knownMany p0 S_28) fun (r_70 : Int32) =>
if r_70 ≤ x4_36 then (
some (.inl (x4_36, x2_37)))
else (
bd (mR S_28 p0 17) fun (a_72 : Nat) =>
gd (mT S_28 a_72 = 102) (
gd (inb x4_36 (mLn S_28 a_72)) (
bd (if mI S_28 a_72 (Int32.toNatClampNeg x4_36) = 0 then (
bd (mR S_28 p0 16) fun (a_81 : Nat) =>
gd (mT S_28 a_81 = 3) (
bd (f_J2_get a_81 x4_36 S_28) fun (r_85 : Nat) =>
gd (mT S_28 r_85 = 14 ∨ mT S_28 r_85 = 15) (
bd (fd_hours r_85 S_28) fun (r_89 : Int32) =>
bd (f_J8_max x2_37 r_89 S_28) fun (r_91 : Int32) =>
some r_91)))
else (
some x2_37) : Option (Int32)) fun (x2_76 : Int32) =>
be (x4_36 + 1) fun (x4_79 : Int32) =>
some (.inr (x4_79, x2_76))))))
def f_X1_thirsts_b2 (N : Nat) (p0 : Nat) (p1 : Int32) (x2_25 : Int32) (S_26 : Mem) : Option ((Int32 × Mem) ⊕ (Int32 × Mem)) :=
if x2_25 < 0 then (
some (.inl (x2_25, S_26)))
else (
gd (mT S_26 p0 = 0) (
bd (mR S_26 p0 17) fun (a_95 : Nat) =>
gd (mT S_26 a_95 = 102) (
gd (inb x2_25 (mLn S_26 a_95)) (
bd (if mI S_26 a_95 (Int32.toNatClampNeg x2_25) = 0 then (
bd (mR S_26 p0 16) fun (a_104 : Nat) =>
gd (mT S_26 a_104 = 3) (
bd (f_J2_get a_104 x2_25 S_26) fun (r_108 : Nat) =>
gd (mT S_26 r_108 = 14 ∨ mT S_26 r_108 = 15) (
bd (fd_struck r_108 S_26) fun (r_112 : Int32) =>
if r_112 = (-1) then (
some S_26)
else (
bd (mR S_26 p0 17) fun (a_114 : Nat) =>
bd (mR S_26 p0 16) fun (a_116 : Nat) =>
gd (mT S_26 a_116 = 3) (
bd (f_J2_get a_116 x2_25 S_26) fun (r_120 : Nat) =>
gd (mT S_26 r_120 = 14 ∨ mT S_26 r_120 = 15) (
bd (fd_struck r_120 S_26) fun (r_124 : Int32) =>
gd (mT S_26 a_114 = 102) (
gd (inb r_124 (mLn S_26 a_114)) (
be (sI S_26 a_114 (Int32.toNatClampNeg r_124) 1) fun (M_127 : Mem) =>
some M_127))))))))
else (
some S_26) : Option (Mem)) fun (M_99 : Mem) =>
be (x2_25 + (-1)) fun (x2_102 : Int32) =>
some (.inr (x2_102, M_99))))))
def f_X1_thirsts_b1 (N : Nat) (p0 : Nat) (p1 : Int32) (x2_10 : Int32) (S_11 : Mem) : Option ((Int32 × Mem) ⊕ (Int32 × Mem)) :=
gd (mT S_11 p0 = 0) (
bd (f_X1_knownMany p0 S_11) fun (r_138 : Int32) =>
if r_138 ≤ x2_10 then (
some (.inl (x2_10, S_11)))
else (
bd (mR S_11 p0 17) fun (a_140 : Nat) =>
gd (mT S_11 a_140 = 102) (
gd (inb x2_10 (mLn S_11 a_140)) (
be (sI S_11 a_140 (Int32.toNatClampNeg x2_10) 0) fun (M_144 : Mem) =>
be (x2_10 + 1) fun (x2_147 : Int32) =>
some (.inr (x2_147, M_144))))))
def f_X1_thirsts (N : Nat) (p0 : Nat) (p1 : Int32) (M : Mem) : Option (Int32 × Mem) :=
gd (mT M p0 = 0) (
bd (f_X1_isHorse p0 p1 M) fun (r_3 : Int32) =>
if r_3 = 0 then (
some ((-1), M))
else (
bd2 (lp N (fun s_135 : Int32 × Mem => f_X1_thirsts_b1 N p0 p1 s_135.1 s_135.2) (0, M)) fun (x2_12 : Int32) (S_13 : Mem) =>
gd (mT S_13 p0 = 0) (
bd (f_X1_knownMany p0 S_13) fun (r_18 : Int32) =>
be (r_18 - 1) fun (x2_19 : Int32) =>
bd2 (lp N (fun s_92 : Int32 × Mem => f_X1_thirsts_b2 N p0 p1 s_92.1 s_92.2) (x2_19, S_13)) fun (x2_27 : Int32) (S_28 : Mem) =>
bd2 (lp N (fun s_67 : Int32 × Int32 => f_X1_thirsts_b3 N p0 p1 S_28 s_67.1 s_67.2) (0, 0)) fun (x4_38 : Int32) (x2_39 : Int32) =>
bd3 (lp N (fun s_55 : Int32 × Int32 × Mem => f_X1_thirsts_b4 N x2_39 p0 p1 s_55.1 s_55.2.1 s_55.2.2) (0, 0, S_28)) fun (x4_50 : Int32) (x3_51 : Int32) (S_52 : Mem) =>
some (x3_51, S_52))))
def rm_f_X1_thirsts : Room := { frames := 206, cells := 0, slots := 0, locals := 4146 }
theorem ok_f_X1_thirsts {E : En} (hE : EOk E) (hN : NOk E) {N : Nat} {p0 : Nat} {p1 : Int32} {M : Mem} {r : Int32} {M' : Mem} (h : f_X1_thirsts N p0 p1 M = some (r, M')) : CM E yX1_thirsts cX1_thirsts 5 (some .int) rm_f_X1_thirsts [rf E p0, .int p1] M (some (.int r)) M' := by
  unfold f_X1_thirsts at h
  refine CM_introX (own := RX1) rfl (by decide +kernel) (Nat.le_of_ble_eq_true rfl) rfl (fun G hG hEn hI => ?_)
  obtain ⟨Q, eQ⟩ : ∃ Q, Q = QM E G (some (.int r)) M' 0 0 := ⟨_, rfl⟩
  show V E G M 0 0 5 0 [(0, rf E p0), (1, .int p1)] [] (QM E G (some (.int r)) M' 0 0)
  rw [← eQ]
  refine V_aload_n hG 0 rfl dX1_thirsts_0 ?_
  refine V_iload_n hG 1 rfl dX1_thirsts_1 ?_
  obtain ⟨g_1, h⟩ := gd_of h
  obtain ⟨r_3, hc_2, h⟩ := bd_of h
  refine V_callV hE hG (ci := 0) (As := [.int p1]) (rest := []) (ok_f_X1_isHorse hE hN hc_2) g_1 (by decide) rfl hw_X1_186 hdv_X1_isHorse ⟨Nat.le_of_ble_eq_true rfl, Nat.le_of_ble_eq_true rfl⟩ rfl rfl (Nat.le_of_ble_eq_true rfl) ⟨Nat.le_of_ble_eq_true rfl, Nat.le_of_ble_eq_true rfl⟩ dX1_thirsts_2 (V_zero rfl rfl ?_)
  refine V_if_ne hG 10 dX1_thirsts_5 (by decide) (fun c_4 => ?_) (fun c_4 => ?_)
  · have h := if_f c_4 h
    refine V_iconst hG 0 rfl dX1_thirsts_10 ?_
    refine V_istore_n hG rfl [(2, .int 0), (0, rf E p0), (1, .int p1)] dX1_thirsts_11 (Nat.le_of_ble_eq_true rfl) rfl ?_
    obtain ⟨x2_12, S_13, hL_14, h⟩ := bd2_of h
    have J_9 : ∀ q_15 : Int32 × Mem, q_15 = (x2_12, S_13) → V E G q_15.2 0 0 5 33 [(2, .int q_15.1), (0, rf E p0), (1, .int p1)] [] Q := by
      intro q_15 e9
      subst q_15
      show V E G S_13 0 0 5 33 [(2, .int x2_12), (0, rf E p0), (1, .int p1)] [] Q
      refine V_aload_n hG 1 rfl dX1_thirsts_33 ?_
      obtain ⟨g_16, h⟩ := gd_of h
      obtain ⟨r_18, hc_17, h⟩ := bd_of h
      refine V_callV hE hG (ci := 0) (As := []) (rest := []) (ok_f_X1_knownMany hE hN hc_17) g_16 (by decide) rfl hw_X1_381 hdv_X1_knownMany ⟨Nat.le_of_ble_eq_true rfl, Nat.le_of_ble_eq_true rfl⟩ rfl rfl (Nat.le_of_ble_eq_true rfl) ⟨Nat.le_of_ble_eq_true rfl, Nat.le_of_ble_eq_true rfl⟩ dX1_thirsts_34 (V_zero rfl rfl ?_)
      refine V_iconst hG 1 rfl dX1_thirsts_37 ?_
      refine V_isub hG dX1_thirsts_38 ?_
      obtain ⟨x2_19, ex2_19, h⟩ := be_of h
      refine V_topi ex2_19 ?_
      refine V_istore_n hG rfl [(2, .int x2_19), (0, rf E p0), (1, .int p1)] dX1_thirsts_39 (Nat.le_of_ble_eq_true rfl) rfl ?_
      obtain ⟨x2_27, S_28, hL_29, h⟩ := bd2_of h
      have J_24 : ∀ q_30 : Int32 × Mem, q_30 = (x2_27, S_28) → V E G q_30.2 0 0 5 97 [(2, .int q_30.1), (0, rf E p0), (1, .int p1)] [] Q := by
        intro q_30 e9
        subst q_30
        show V E G S_28 0 0 5 97 [(2, .int x2_27), (0, rf E p0), (1, .int p1)] [] Q
        refine V_iconst hG 0 rfl dX1_thirsts_97 ?_
        refine V_istore_n hG rfl [(2, .int 0), (0, rf E p0), (1, .int p1)] dX1_thirsts_98 (Nat.le_of_ble_eq_true rfl) rfl ?_
        refine V_iconst hG 0 rfl dX1_thirsts_99 ?_
        refine V_istore_n hG rfl [(3, .int 0), (2, .int 0), (0, rf E p0), (1, .int p1)] dX1_thirsts_100 (Nat.le_of_ble_eq_true rfl) rfl ?_
        refine V_iconst hG 0 rfl dX1_thirsts_101 ?_
        refine V_istore hG [(4, .int 0), (3, .int 0), (2, .int 0), (0, rf E p0), (1, .int p1)] dX1_thirsts_102 (Nat.le_of_ble_eq_true rfl) rfl ?_
        obtain ⟨x4_38, x2_39, hL_40, h⟩ := bd2_of h
        have J_35 : ∀ q_41 : Int32 × Int32, q_41 = (x4_38, x2_39) → V E G S_28 0 0 5 149 [(4, .int q_41.1), (3, .int 0), (2, .int q_41.2), (0, rf E p0), (1, .int p1)] [] Q := by
          intro q_41 e9
          subst q_41
          show V E G S_28 0 0 5 149 [(4, .int x4_38), (3, .int 0), (2, .int x2_39), (0, rf E p0), (1, .int p1)] [] Q
          refine V_iconst hG 0 rfl dX1_thirsts_149 ?_
          refine V_istore hG [(4, .int 0), (3, .int 0), (2, .int x2_39), (0, rf E p0), (1, .int p1)] dX1_thirsts_150 (Nat.le_of_ble_eq_true rfl) rfl ?_
          obtain ⟨x4_50, x3_51, S_52, hL_53, h⟩ := bd3_of h
          have J_46 : ∀ q_54 : Int32 × Int32 × Mem, q_54 = (x4_50, x3_51, S_52) → V E G q_54.2.2 0 0 5 190 [(4, .int q_54.1), (3, .int q_54.2.1), (2, .int x2_39), (0, rf E p0), (1, .int p1)] [] Q := by
            intro q_54 e9
            subst q_54
            show V E G S_52 0 0 5 190 [(4, .int x4_50), (3, .int x3_51), (2, .int x2_39), (0, rf E p0), (1, .int p1)] [] Q
            refine V_iload_n hG 1 rfl dX1_thirsts_190 ?_
            cases h
            subst eQ
            exact V_iret hG dX1_thirsts_191
          refine lp_walk (W := fun s_55 : Int32 × Int32 × Mem => V E G s_55.2.2 0 0 5 152 [(4, .int s_55.1), (3, .int s_55.2.1), (2, .int x2_39), (0, rf E p0), (1, .int p1)] [] Q) ?_ N (0, 0, S_28) hL_53
          intro s_55 b_42 hb_43 hk_44 hx_45
          obtain ⟨x4_47, x3_48, S_49⟩ := s_55
          have hb_43 : f_X1_thirsts_b4 N x2_39 p0 p1 x4_47 x3_48 S_49 = some b_42 := hb_43
          unfold f_X1_thirsts_b4 at hb_43
          show V E G S_49 0 0 5 152 [(4, .int x4_47), (3, .int x3_48), (2, .int x2_39), (0, rf E p0), (1, .int p1)] [] Q
          refine V_iload hG 0 rfl dX1_thirsts_152 ?_
          refine V_bipush hG 10 (by decide) dX1_thirsts_154 ?_
          refine V_icmp_ge hG 190 dX1_thirsts_156 (by decide) (fun c_56 => ?_) (fun c_56 => ?_)
          · have hb_43 := if_t c_56 hb_43
            cases hb_43
            exact J_46 _ (hx_45 _ rfl)
          · have hb_43 := if_f c_56 hb_43
            refine V_iload_n hG 1 rfl dX1_thirsts_159 ?_
            refine V_aload_n hG 3 rfl dX1_thirsts_160 ?_
            refine V_iload_n hG 4 rfl dX1_thirsts_161 ?_
            refine V_bipush hG 10 (by decide) dX1_thirsts_162 ?_
            refine V_iload hG 0 rfl dX1_thirsts_164 ?_
            refine V_imul hG dX1_thirsts_166 ?_
            refine V_iload_n hG 2 rfl dX1_thirsts_167 ?_
            obtain ⟨g_57, hb_43⟩ := gd_of hb_43
            obtain ⟨r_60, M_59, hc_58, hb_43⟩ := bd2_of hb_43
            refine V_callV hE hG (ci := 0) (As := [.int p1, .int (10 * x4_47), .int x2_39]) (rest := [.int x3_48]) (ok_f_X1_isThirst hE hN hc_58) g_57 (by decide) rfl hw_X1_396 hdv_X1_isThirst ⟨Nat.le_of_ble_eq_true rfl, Nat.le_of_ble_eq_true rfl⟩ rfl rfl (Nat.le_of_ble_eq_true rfl) ⟨Nat.le_of_ble_eq_true rfl, Nat.le_of_ble_eq_true rfl⟩ dX1_thirsts_168 (V_zero rfl rfl ?_)
            obtain ⟨t_61, et_61, hb_43⟩ := be_of hb_43
            have J_62 : ∀ y_64 : Int32, y_64 = t_61 → V E G M_59 0 0 5 182 [(4, .int x4_47), (3, .int x3_48), (2, .int x2_39), (0, rf E p0), (1, .int p1)] [.int y_64, .int x3_48] Q := by
              intro y_64 ey
              subst ey
              refine V_ior hG dX1_thirsts_182 ?_
              obtain ⟨x3_65, ex3_65, hb_43⟩ := be_of hb_43
              refine V_topi ex3_65 ?_
              refine V_istore_n hG rfl [(3, .int x3_65), (4, .int x4_47), (2, .int x2_39), (0, rf E p0), (1, .int p1)] dX1_thirsts_183 (Nat.le_of_ble_eq_true rfl) rfl ?_
              obtain ⟨x4_66, ex4_66, hb_43⟩ := be_of hb_43
              refine V_iinc hG 1 x4_66 rfl (by rw [ex4_66]; rfl) [(4, .int x4_66), (3, .int x3_65), (2, .int x2_39), (0, rf E p0), (1, .int p1)] dX1_thirsts_184 (Nat.le_of_ble_eq_true rfl) rfl ?_
              refine V_goto hG 152 dX1_thirsts_187 (by decide) ?_
              cases hb_43
              exact hk_44 _ rfl
            refine V_if_eq hG 181 dX1_thirsts_171 (by decide) (fun c_63 => ?_) (fun c_63 => ?_)
            · refine V_iconst hG 0 rfl dX1_thirsts_181 ?_
              exact J_62 _ (by rw [et_61, if_pos c_63])
            · refine V_iconst hG 1 rfl dX1_thirsts_174 ?_
              refine V_iload hG 0 rfl dX1_thirsts_175 ?_
              refine V_ishl hG dX1_thirsts_177 ?_
              refine V_goto hG 182 dX1_thirsts_178 (by decide) ?_
              exact J_62 _ (by rw [et_61, if_neg c_63])
        refine lp_walk (W := fun s_67 : Int32 × Int32 => V E G S_28 0 0 5 104 [(4, .int s_67.1), (3, .int 0), (2, .int s_67.2), (0, rf E p0), (1, .int p1)] [] Q) ?_ N (0, 0) hL_40
        intro s_67 b_31 hb_32 hk_33 hx_34
        obtain ⟨x4_36, x2_37⟩ := s_67
        have hb_32 : f_X1_thirsts_b3 N p0 p1 S_28 x4_36 x2_37 = some b_31 := hb_32
        unfold f_X1_thirsts_b3 at hb_32
        show V E G S_28 0 0 5 104 [(4, .int x4_36), (3, .int 0), (2, .int x2_37), (0, rf E p0), (1, .int p1)] [] Q
        refine V_iload hG 0 rfl dX1_thirsts_104 ?_
        refine V_aload_n hG 3 rfl dX1_thirsts_106 ?_
        obtain ⟨g_68, hb_32⟩ := gd_of hb_32
        obtain ⟨r_70, hc_69, hb_32⟩ := bd_of hb_32
        refine V_callV hE hG (ci := 0) (As := []) (rest := [.int x4_36]) (ok_f_X1_knownMany hE hN hc_69) g_68 (by decide) rfl hw_X1_381 hdv_X1_knownMany ⟨Nat.le_of_ble_eq_true rfl, Nat.le_of_ble_eq_true rfl⟩ rfl rfl (Nat.le_of_ble_eq_true rfl) ⟨Nat.le_of_ble_eq_true rfl, Nat.le_of_ble_eq_true rfl⟩ dX1_thirsts_107 (V_zero rfl rfl ?_)
        refine V_icmp_ge hG 149 dX1_thirsts_110 (by decide) (fun c_71 => ?_) (fun c_71 => ?_)
        · have hb_32 := if_t c_71 hb_32
          cases hb_32
          exact J_35 _ (hx_34 _ rfl)
        · have hb_32 := if_f c_71 hb_32
          refine V_aload_n hG 3 rfl dX1_thirsts_113 ?_
          obtain ⟨a_72, hr_73, hb_32⟩ := bd_of hb_32
          refine gf_X1_128 hN hG g_68 hr_73 dX1_thirsts_114 ?_
          refine V_iload hG 0 rfl dX1_thirsts_117 ?_
          obtain ⟨g_74, hb_32⟩ := gd_of hb_32
          obtain ⟨g_75, hb_32⟩ := gd_of hb_32
          refine V_zaload hG g_74 g_75 dX1_thirsts_119 ?_
          obtain ⟨x2_76, hj_78, hb_32⟩ := bd_of hb_32
          have J_77 : V E G S_28 0 0 5 143 [(4, .int x4_36), (3, .int 0), (2, .int x2_76), (0, rf E p0), (1, .int p1)] [] Q := by
            obtain ⟨x4_79, ex4_79, hb_32⟩ := be_of hb_32
            refine V_iinc hG 0 x4_79 rfl (by rw [ex4_79]; rfl) [(4, .int x4_79), (3, .int 0), (2, .int x2_76), (0, rf E p0), (1, .int p1)] dX1_thirsts_143 (Nat.le_of_ble_eq_true rfl) rfl ?_
            refine V_goto hG 104 dX1_thirsts_146 (by decide) ?_
            cases hb_32
            exact hk_33 _ rfl
          refine V_if_ne hG 143 dX1_thirsts_120 (by decide) (fun c_80 => ?_) (fun c_80 => ?_)
          · have hj_78 := if_f c_80 hj_78
            cases hj_78
            exact J_77
          · have hj_78 := if_t c_80 hj_78
            refine V_iload_n hG 2 rfl dX1_thirsts_123 ?_
            refine V_aload_n hG 3 rfl dX1_thirsts_124 ?_
            obtain ⟨a_81, hr_82, hj_78⟩ := bd_of hj_78
            refine gf_X1_125 hN hG g_68 hr_82 dX1_thirsts_125 ?_
            refine V_iload hG 0 rfl dX1_thirsts_128 ?_
            obtain ⟨g_83, hj_78⟩ := gd_of hj_78
            obtain ⟨r_85, hc_84, hj_78⟩ := bd_of hj_78
            refine V_callV hE hG (ci := 3) (As := [.int x4_36]) (rest := [.int x2_37]) (ok_f_J2_get hE hN hc_84) g_83 (by decide) rfl hw_X1_29 hdv_J2_get ⟨Nat.le_of_ble_eq_true rfl, Nat.le_of_ble_eq_true rfl⟩ rfl rfl (Nat.le_of_ble_eq_true rfl) ⟨Nat.le_of_ble_eq_true rfl, Nat.le_of_ble_eq_true rfl⟩ dX1_thirsts_130 (V_zero rfl rfl ?_)
            obtain ⟨g_86, hj_78⟩ := gd_of hj_78
            refine ck_X1_384 hN hG g_86 dX1_thirsts_133 ?_
            obtain ⟨r_89, hc_87, hj_78⟩ := bd_of hj_78
            refine dl_X1_386 hE hG hN hc_87 ⟨Nat.le_of_ble_eq_true rfl, Nat.le_of_ble_eq_true rfl⟩ (Nat.le_of_ble_eq_true rfl) ⟨Nat.le_of_ble_eq_true rfl, Nat.le_of_ble_eq_true rfl⟩ dX1_thirsts_136 ?_
            obtain ⟨r_91, hc_90, hj_78⟩ := bd_of hj_78
            refine V_callS hE hG (As := [.int x2_37, .int r_89]) (rest := []) (ok_f_J8_max hE hN hc_90) hw_X1_330 hdc_J8_max ⟨Nat.le_of_ble_eq_true rfl, Nat.le_of_ble_eq_true rfl⟩ rfl rfl (Nat.le_of_ble_eq_true rfl) ⟨Nat.le_of_ble_eq_true rfl, Nat.le_of_ble_eq_true rfl⟩ dX1_thirsts_139 (V_zero rfl rfl ?_)
            refine V_istore_n hG rfl [(2, .int r_91), (4, .int x4_36), (3, .int 0), (0, rf E p0), (1, .int p1)] dX1_thirsts_142 (Nat.le_of_ble_eq_true rfl) rfl ?_
            cases hj_78
            exact V_lv [1, 2, 0, 3, 4] rfl (J_77)
      refine lp_walk (W := fun s_92 : Int32 × Mem => V E G s_92.2 0 0 5 40 [(2, .int s_92.1), (0, rf E p0), (1, .int p1)] [] Q) ?_ N (x2_19, S_13) hL_29
      intro s_92 b_20 hb_21 hk_22 hx_23
      obtain ⟨x2_25, S_26⟩ := s_92
      have hb_21 : f_X1_thirsts_b2 N p0 p1 x2_25 S_26 = some b_20 := hb_21
      unfold f_X1_thirsts_b2 at hb_21
      show V E G S_26 0 0 5 40 [(2, .int x2_25), (0, rf E p0), (1, .int p1)] [] Q
      refine V_iload_n hG 0 rfl dX1_thirsts_40 ?_
      refine V_if_lt hG 97 dX1_thirsts_41 (by decide) (fun c_93 => ?_) (fun c_93 => ?_)
      · have hb_21 := if_t c_93 hb_21
        cases hb_21
        exact J_24 _ (hx_23 _ rfl)
      · have hb_21 := if_f c_93 hb_21
        refine V_aload_n hG 1 rfl dX1_thirsts_44 ?_
        obtain ⟨g_94, hb_21⟩ := gd_of hb_21
        obtain ⟨a_95, hr_96, hb_21⟩ := bd_of hb_21
        refine gf_X1_128 hN hG g_94 hr_96 dX1_thirsts_45 ?_
        refine V_iload_n hG 0 rfl dX1_thirsts_48 ?_
        obtain ⟨g_97, hb_21⟩ := gd_of hb_21
        obtain ⟨g_98, hb_21⟩ := gd_of hb_21
        refine V_zaload hG g_97 g_98 dX1_thirsts_49 ?_
        obtain ⟨M_99, hj_101, hb_21⟩ := bd_of hb_21
        have J_100 : V E G M_99 0 0 5 91 [(2, .int x2_25), (0, rf E p0), (1, .int p1)] [] Q := by
          obtain ⟨x2_102, ex2_102, hb_21⟩ := be_of hb_21
          refine V_iinc hG 0 x2_102 rfl (by rw [ex2_102]; rfl) [(2, .int x2_102), (0, rf E p0), (1, .int p1)] dX1_thirsts_91 (Nat.le_of_ble_eq_true rfl) rfl ?_
          refine V_goto hG 40 dX1_thirsts_94 (by decide) ?_
          cases hb_21
          exact hk_22 _ rfl
        refine V_if_ne hG 91 dX1_thirsts_50 (by decide) (fun c_103 => ?_) (fun c_103 => ?_)
        · have hj_101 := if_f c_103 hj_101
          cases hj_101
          exact J_100
        · have hj_101 := if_t c_103 hj_101
          refine V_aload_n hG 1 rfl dX1_thirsts_53 ?_
          obtain ⟨a_104, hr_105, hj_101⟩ := bd_of hj_101
          refine gf_X1_125 hN hG g_94 hr_105 dX1_thirsts_54 ?_
          refine V_iload_n hG 0 rfl dX1_thirsts_57 ?_
          obtain ⟨g_106, hj_101⟩ := gd_of hj_101
          obtain ⟨r_108, hc_107, hj_101⟩ := bd_of hj_101
          refine V_callV hE hG (ci := 3) (As := [.int x2_25]) (rest := []) (ok_f_J2_get hE hN hc_107) g_106 (by decide) rfl hw_X1_29 hdv_J2_get ⟨Nat.le_of_ble_eq_true rfl, Nat.le_of_ble_eq_true rfl⟩ rfl rfl (Nat.le_of_ble_eq_true rfl) ⟨Nat.le_of_ble_eq_true rfl, Nat.le_of_ble_eq_true rfl⟩ dX1_thirsts_58 (V_zero rfl rfl ?_)
          obtain ⟨g_109, hj_101⟩ := gd_of hj_101
          refine ck_X1_384 hN hG g_109 dX1_thirsts_61 ?_
          obtain ⟨r_112, hc_110, hj_101⟩ := bd_of hj_101
          refine dl_X1_393 hE hG hN hc_110 ⟨Nat.le_of_ble_eq_true rfl, Nat.le_of_ble_eq_true rfl⟩ (Nat.le_of_ble_eq_true rfl) ⟨Nat.le_of_ble_eq_true rfl, Nat.le_of_ble_eq_true rfl⟩ dX1_thirsts_64 ?_
          refine V_iconst hG (-1) rfl dX1_thirsts_67 ?_
          refine V_icmp_eq hG 91 dX1_thirsts_68 (by decide) (fun c_113 => ?_) (fun c_113 => ?_)
          · have hj_101 := if_t c_113 hj_101
            cases hj_101
            exact J_100
          · have hj_101 := if_f c_113 hj_101
            refine V_aload_n hG 1 rfl dX1_thirsts_71 ?_
            obtain ⟨a_114, hr_115, hj_101⟩ := bd_of hj_101
            refine gf_X1_128 hN hG g_94 hr_115 dX1_thirsts_72 ?_
            refine V_aload_n hG 1 rfl dX1_thirsts_75 ?_
            obtain ⟨a_116, hr_117, hj_101⟩ := bd_of hj_101
            refine gf_X1_125 hN hG g_94 hr_117 dX1_thirsts_76 ?_
            refine V_iload_n hG 0 rfl dX1_thirsts_79 ?_
            obtain ⟨g_118, hj_101⟩ := gd_of hj_101
            obtain ⟨r_120, hc_119, hj_101⟩ := bd_of hj_101
            refine V_callV hE hG (ci := 3) (As := [.int x2_25]) (rest := [rf E a_114]) (ok_f_J2_get hE hN hc_119) g_118 (by decide) rfl hw_X1_29 hdv_J2_get ⟨Nat.le_of_ble_eq_true rfl, Nat.le_of_ble_eq_true rfl⟩ rfl rfl (Nat.le_of_ble_eq_true rfl) ⟨Nat.le_of_ble_eq_true rfl, Nat.le_of_ble_eq_true rfl⟩ dX1_thirsts_80 (V_zero rfl rfl ?_)
            obtain ⟨g_121, hj_101⟩ := gd_of hj_101
            refine ck_X1_384 hN hG g_121 dX1_thirsts_83 ?_
            obtain ⟨r_124, hc_122, hj_101⟩ := bd_of hj_101
            refine dl_X1_393 hE hG hN hc_122 ⟨Nat.le_of_ble_eq_true rfl, Nat.le_of_ble_eq_true rfl⟩ (Nat.le_of_ble_eq_true rfl) ⟨Nat.le_of_ble_eq_true rfl, Nat.le_of_ble_eq_true rfl⟩ dX1_thirsts_86 ?_
            refine V_iconst hG 1 rfl dX1_thirsts_89 ?_
            obtain ⟨g_125, hj_101⟩ := gd_of hj_101
            obtain ⟨g_126, hj_101⟩ := gd_of hj_101
            obtain ⟨M_127, eM_127, hj_101⟩ := be_of hj_101
            refine W_zastore hG g_125 g_126 (Or.inr rfl) M_127 eM_127 dX1_thirsts_90 ?_
            have g_128 : mT M_127 p0 = 0 := by rw [eM_127]; exact g_94
            have g_129 : mT M_127 a_95 = 102 := by rw [eM_127]; exact g_97
            have g_130 : mT M_127 a_104 = 3 := by rw [eM_127]; exact g_106
            have g_131 : mT M_127 r_108 = 14 ∨ mT M_127 r_108 = 15 := by rw [eM_127]; exact g_109
            have g_132 : mT M_127 a_116 = 3 := by rw [eM_127]; exact g_118
            have g_133 : mT M_127 r_120 = 14 ∨ mT M_127 r_120 = 15 := by rw [eM_127]; exact g_121
            have g_134 : mT M_127 a_114 = 102 := by rw [eM_127]; exact g_125
            cases hj_101
            exact J_100
    refine lp_walk (W := fun s_135 : Int32 × Mem => V E G s_135.2 0 0 5 12 [(2, .int s_135.1), (0, rf E p0), (1, .int p1)] [] Q) ?_ N (0, M) hL_14
    intro s_135 b_5 hb_6 hk_7 hx_8
    obtain ⟨x2_10, S_11⟩ := s_135
    have hb_6 : f_X1_thirsts_b1 N p0 p1 x2_10 S_11 = some b_5 := hb_6
    unfold f_X1_thirsts_b1 at hb_6
    show V E G S_11 0 0 5 12 [(2, .int x2_10), (0, rf E p0), (1, .int p1)] [] Q
    refine V_iload_n hG 0 rfl dX1_thirsts_12 ?_
    refine V_aload_n hG 1 rfl dX1_thirsts_13 ?_
    obtain ⟨g_136, hb_6⟩ := gd_of hb_6
    obtain ⟨r_138, hc_137, hb_6⟩ := bd_of hb_6
    refine V_callV hE hG (ci := 0) (As := []) (rest := [.int x2_10]) (ok_f_X1_knownMany hE hN hc_137) g_136 (by decide) rfl hw_X1_381 hdv_X1_knownMany ⟨Nat.le_of_ble_eq_true rfl, Nat.le_of_ble_eq_true rfl⟩ rfl rfl (Nat.le_of_ble_eq_true rfl) ⟨Nat.le_of_ble_eq_true rfl, Nat.le_of_ble_eq_true rfl⟩ dX1_thirsts_14 (V_zero rfl rfl ?_)
    refine V_icmp_ge hG 33 dX1_thirsts_17 (by decide) (fun c_139 => ?_) (fun c_139 => ?_)
    · have hb_6 := if_t c_139 hb_6
      cases hb_6
      exact J_9 _ (hx_8 _ rfl)
    · have hb_6 := if_f c_139 hb_6
      refine V_aload_n hG 1 rfl dX1_thirsts_20 ?_
      obtain ⟨a_140, hr_141, hb_6⟩ := bd_of hb_6
      refine gf_X1_128 hN hG g_136 hr_141 dX1_thirsts_21 ?_
      refine V_iload_n hG 0 rfl dX1_thirsts_24 ?_
      refine V_iconst hG 0 rfl dX1_thirsts_25 ?_
      obtain ⟨g_142, hb_6⟩ := gd_of hb_6
      obtain ⟨g_143, hb_6⟩ := gd_of hb_6
      obtain ⟨M_144, eM_144, hb_6⟩ := be_of hb_6
      refine W_zastore hG g_142 g_143 (Or.inl rfl) M_144 eM_144 dX1_thirsts_26 ?_
      have g_145 : mT M_144 p0 = 0 := by rw [eM_144]; exact g_136
      have g_146 : mT M_144 a_140 = 102 := by rw [eM_144]; exact g_142
      obtain ⟨x2_147, ex2_147, hb_6⟩ := be_of hb_6
      refine V_iinc hG 0 x2_147 rfl (by rw [ex2_147]; rfl) [(2, .int x2_147), (0, rf E p0), (1, .int p1)] dX1_thirsts_27 (Nat.le_of_ble_eq_true rfl) rfl ?_
      refine V_goto hG 12 dX1_thirsts_30 (by decide) ?_
      cases hb_6
      exact hk_7 _ rfl
  · have h := if_t c_4 h
    refine V_iconst hG (-1) rfl dX1_thirsts_8 ?_
    cases h
    subst eQ
    exact V_iret hG dX1_thirsts_9

def f_X1_tried_b1 (N : Nat) (t_1 : Int32) (p0 : Nat) (p1 : Int32) (p2 : Int32) (p3 : Int32) (x5_35 : Int32) (S_36 : Mem) : Option ((Int32 × Mem) ⊕ (Int32 × Mem)) :=
gd (mT S_36 p0 = 0) (
bd (f_X1_troughs p0 S_36) fun (r_57 : Int32) =>
if r_57 ≤ x5_35 then (
some (.inl (x5_35, S_36)))
else (
if p1 = 3 then (
bd (mR S_36 p0 10) fun (a_60 : Nat) =>
gd (mT S_36 a_60 = 5) (
bd (mR S_36 a_60 5) fun (a_63 : Nat) =>
gd (mT S_36 a_63 = 100) (
gd (inb x5_35 (mLn S_36 a_63)) (
be (sI S_36 a_63 (Int32.toNatClampNeg x5_35) 99) fun (M_67 : Mem) =>
be (x5_35 + 1) fun (x5_71 : Int32) =>
some (.inr (x5_71, M_67))))))
else (
some (.inl (x5_35, S_36)))))
def f_X1_tried (N : Nat) (p0 : Nat) (p1 : Int32) (p2 : Int32) (p3 : Int32) (M : Mem) : Option (Int32 × Mem) :=
bd (if p1 = 2 then (
gd (mT M p0 = 0) (
bd (f_X1_isHorse p0 p2 M) fun (r_79 : Int32) =>
some r_79))
else (
bd (f_X1_in (Int32.toInt64 p1) 0 4 M) fun (r_74 : Int32) =>
if r_74 = 0 then (
some 0)
else (
if p2 = 0 then (
some 1)
else (
some 0))) : Option (Int32)) fun (t_1 : Int32) =>
if t_1 = 0 then (
some ((-1), M))
else (
bd (f_X1_in (Int32.toInt64 p3) 0 200 M) fun (r_6 : Int32) =>
if r_6 = 0 then (
some ((-1), M))
else (
gd (mT M p0 = 0) (
bd (mR M p0 10) fun (a_9 : Nat) =>
bd (mR M p0 9) fun (a_11 : Nat) =>
gd (mT M a_9 = 5) (
bd (f_X6_become N a_9 a_11 M) fun (M_15 : Mem) =>
gd (mT M_15 p0 = 0) (
bd (mR M_15 p0 10) fun (a_17 : Nat) =>
gd (mT M_15 a_17 = 5) (
be (sI M_15 a_17 12 p1) fun (M_20 : Mem) =>
bd (mR M_20 p0 10) fun (a_23 : Nat) =>
gd (mT M_20 a_23 = 5) (
be (sI M_20 a_23 13 p2) fun (M_26 : Mem) =>
bd2 (lp N (fun s_54 : Int32 × Mem => f_X1_tried_b1 N t_1 p0 p1 p2 p3 s_54.1 s_54.2) (0, M_26)) fun (x5_37 : Int32) (S_38 : Mem) =>
gd (mT S_38 p0 = 0) (
bd (mR S_38 p0 10) fun (a_42 : Nat) =>
gd (mT S_38 a_42 = 5) (
bd (f_X6_goesOn N a_42 p3 S_38) fun (M_46 : Mem) =>
gd (mT M_46 p0 = 0) (
bd (mR M_46 p0 10) fun (a_48 : Nat) =>
gd (mT M_46 a_48 = 5) (
bd (mR M_46 p0 9) fun (a_51 : Nat) =>
gd (mT M_46 a_51 = 5) (
some ((mI M_46 a_48 8) - (mI M_46 a_51 8), M_46)))))))))))))
def rm_f_X1_tried : Room := { frames := 206, cells := 0, slots := 0, locals := 4143 }
theorem ok_f_X1_tried {E : En} (hE : EOk E) (hN : NOk E) {N : Nat} {p0 : Nat} {p1 : Int32} {p2 : Int32} {p3 : Int32} {M : Mem} {r : Int32} {M' : Mem} (h : f_X1_tried N p0 p1 p2 p3 M = some (r, M')) : CM E yX1_tried cX1_tried 6 (some .int) rm_f_X1_tried [rf E p0, .int p1, .int p2, .int p3] M (some (.int r)) M' := by
  unfold f_X1_tried at h
  refine CM_introX (own := RX1) rfl (by decide +kernel) (Nat.le_of_ble_eq_true rfl) rfl (fun G hG hEn hI => ?_)
  obtain ⟨Q, eQ⟩ : ∃ Q, Q = QM E G (some (.int r)) M' 0 0 := ⟨_, rfl⟩
  show V E G M 0 0 6 0 [(0, rf E p0), (1, .int p1), (2, .int p2), (3, .int p3)] [] (QM E G (some (.int r)) M' 0 0)
  rw [← eQ]
  refine V_iload_n hG 1 rfl dX1_tried_0 ?_
  refine V_iconst hG 2 rfl dX1_tried_1 ?_
  obtain ⟨t_1, hj_3, h⟩ := bd_of h
  have J_2 : V E G M 0 0 6 34 [(0, rf E p0), (1, .int p1), (2, .int p2), (3, .int p3)] [.int t_1] Q := by
    refine V_istore hG [(4, .int t_1), (0, rf E p0), (1, .int p1), (2, .int p2), (3, .int p3)] dX1_tried_34 (Nat.le_of_ble_eq_true rfl) rfl ?_
    refine V_iload hG 0 rfl dX1_tried_36 ?_
    refine V_if_eq hG 53 dX1_tried_38 (by decide) (fun c_4 => ?_) (fun c_4 => ?_)
    · have h := if_t c_4 h
      refine V_iconst hG (-1) rfl dX1_tried_53 ?_
      cases h
      subst eQ
      exact V_iret hG dX1_tried_54
    · have h := if_f c_4 h
      refine V_iload_n hG 4 rfl dX1_tried_41 ?_
      refine V_i2l hG dX1_tried_42 ?_
      refine V_lconst hG 0 rfl dX1_tried_43 ?_
      refine V_ldc2 hG q1118 dX1_tried_44 ?_
      obtain ⟨r_6, hc_5, h⟩ := bd_of h
      refine V_callS hE hG (As := [.long (Int32.toInt64 p3), .long 0, .long 200]) (rest := []) (ok_f_X1_in hE hN hc_5) hw_X1_144 hdc_X1_in ⟨Nat.le_of_ble_eq_true rfl, Nat.le_of_ble_eq_true rfl⟩ rfl rfl (Nat.le_of_ble_eq_true rfl) ⟨Nat.le_of_ble_eq_true rfl, Nat.le_of_ble_eq_true rfl⟩ dX1_tried_47 (V_zero rfl rfl ?_)
      refine V_if_ne hG 55 dX1_tried_50 (by decide) (fun c_7 => ?_) (fun c_7 => ?_)
      · have h := if_f c_7 h
        refine V_aload_n hG 1 rfl dX1_tried_55 ?_
        obtain ⟨g_8, h⟩ := gd_of h
        obtain ⟨a_9, hr_10, h⟩ := bd_of h
        refine gf_X1_105 hN hG g_8 hr_10 dX1_tried_56 ?_
        refine V_aload_n hG 1 rfl dX1_tried_59 ?_
        obtain ⟨a_11, hr_12, h⟩ := bd_of h
        refine gf_X1_101 hN hG g_8 hr_12 dX1_tried_60 ?_
        obtain ⟨g_13, h⟩ := gd_of h
        obtain ⟨M_15, hc_14, h⟩ := bd_of h
        refine V_callV hE hG (ci := 5) (As := [rf E a_11]) (rest := []) (ok_f_X6_become hE hN hc_14) g_13 (by decide) rfl hw_X1_254 hdv_X6_become ⟨Nat.le_of_ble_eq_true rfl, Nat.le_of_ble_eq_true rfl⟩ rfl rfl (Nat.le_of_ble_eq_true rfl) ⟨Nat.le_of_ble_eq_true rfl, Nat.le_of_ble_eq_true rfl⟩ dX1_tried_63 (V_zero rfl rfl ?_)
        refine V_aload_n hG 1 rfl dX1_tried_66 ?_
        obtain ⟨g_16, h⟩ := gd_of h
        obtain ⟨a_17, hr_18, h⟩ := bd_of h
        refine gf_X1_105 hN hG g_16 hr_18 dX1_tried_67 ?_
        refine V_iload_n hG 2 rfl dX1_tried_70 ?_
        obtain ⟨g_19, h⟩ := gd_of h
        obtain ⟨M_20, eM_20, h⟩ := be_of h
        refine pf_X1_403 hN hG g_19 eM_20 dX1_tried_71 ?_
        have g_21 : mT M_20 p0 = 0 := by rw [eM_20]; exact g_16
        have g_22 : mT M_20 a_17 = 5 := by rw [eM_20]; exact g_19
        refine V_aload_n hG 1 rfl dX1_tried_74 ?_
        obtain ⟨a_23, hr_24, h⟩ := bd_of h
        refine gf_X1_105 hN hG g_21 hr_24 dX1_tried_75 ?_
        refine V_iload_n hG 3 rfl dX1_tried_78 ?_
        obtain ⟨g_25, h⟩ := gd_of h
        obtain ⟨M_26, eM_26, h⟩ := be_of h
        refine pf_X1_406 hN hG g_25 eM_26 dX1_tried_79 ?_
        have g_27 : mT M_26 p0 = 0 := by rw [eM_26]; exact g_21
        have g_28 : mT M_26 a_17 = 5 := by rw [eM_26]; exact g_22
        have g_29 : mT M_26 a_23 = 5 := by rw [eM_26]; exact g_25
        refine V_iconst hG 0 rfl dX1_tried_82 ?_
        refine V_istore hG [(5, .int 0), (4, .int t_1), (0, rf E p0), (1, .int p1), (2, .int p2), (3, .int p3)] dX1_tried_83 (Nat.le_of_ble_eq_true rfl) rfl ?_
        obtain ⟨x5_37, S_38, hL_39, h⟩ := bd2_of h
        have J_34 : ∀ q_40 : Int32 × Mem, q_40 = (x5_37, S_38) → V E G q_40.2 0 0 6 117 [(5, .int q_40.1), (4, .int t_1), (0, rf E p0), (1, .int p1), (2, .int p2), (3, .int p3)] [] Q := by
          intro q_40 e9
          subst q_40
          show V E G S_38 0 0 6 117 [(5, .int x5_37), (4, .int t_1), (0, rf E p0), (1, .int p1), (2, .int p2), (3, .int p3)] [] Q
          refine V_aload_n hG 2 rfl dX1_tried_117 ?_
          obtain ⟨g_41, h⟩ := gd_of h
          obtain ⟨a_42, hr_43, h⟩ := bd_of h
          refine gf_X1_105 hN hG g_41 hr_43 dX1_tried_118 ?_
          refine V_iload_n hG 5 rfl dX1_tried_121 ?_
          obtain ⟨g_44, h⟩ := gd_of h
          obtain ⟨M_46, hc_45, h⟩ := bd_of h
          refine V_callV hE hG (ci := 5) (As := [.int p3]) (rest := []) (ok_f_X6_goesOn hE hN hc_45) g_44 (by decide) rfl hw_X1_283 hdv_X6_goesOn ⟨Nat.le_of_ble_eq_true rfl, Nat.le_of_ble_eq_true rfl⟩ rfl rfl (Nat.le_of_ble_eq_true rfl) ⟨Nat.le_of_ble_eq_true rfl, Nat.le_of_ble_eq_true rfl⟩ dX1_tried_122 (V_zero rfl rfl ?_)
          refine V_aload_n hG 2 rfl dX1_tried_125 ?_
          obtain ⟨g_47, h⟩ := gd_of h
          obtain ⟨a_48, hr_49, h⟩ := bd_of h
          refine gf_X1_105 hN hG g_47 hr_49 dX1_tried_126 ?_
          obtain ⟨g_50, h⟩ := gd_of h
          refine gf_X1_286 hN hG g_50 dX1_tried_129 ?_
          refine V_aload_n hG 2 rfl dX1_tried_132 ?_
          obtain ⟨a_51, hr_52, h⟩ := bd_of h
          refine gf_X1_101 hN hG g_47 hr_52 dX1_tried_133 ?_
          obtain ⟨g_53, h⟩ := gd_of h
          refine gf_X1_286 hN hG g_53 dX1_tried_136 ?_
          refine V_isub hG dX1_tried_139 ?_
          cases h
          subst eQ
          exact V_iret hG dX1_tried_140
        refine lp_walk (W := fun s_54 : Int32 × Mem => V E G s_54.2 0 0 6 85 [(5, .int s_54.1), (4, .int t_1), (0, rf E p0), (1, .int p1), (2, .int p2), (3, .int p3)] [] Q) ?_ N (0, M_26) hL_39
        intro s_54 b_30 hb_31 hk_32 hx_33
        obtain ⟨x5_35, S_36⟩ := s_54
        have hb_31 : f_X1_tried_b1 N t_1 p0 p1 p2 p3 x5_35 S_36 = some b_30 := hb_31
        unfold f_X1_tried_b1 at hb_31
        show V E G S_36 0 0 6 85 [(5, .int x5_35), (4, .int t_1), (0, rf E p0), (1, .int p1), (2, .int p2), (3, .int p3)] [] Q
        refine V_iload hG 0 rfl dX1_tried_85 ?_
        refine V_aload_n hG 2 rfl dX1_tried_87 ?_
        obtain ⟨g_55, hb_31⟩ := gd_of hb_31
        obtain ⟨r_57, hc_56, hb_31⟩ := bd_of hb_31
        refine V_callV hE hG (ci := 0) (As := []) (rest := [.int x5_35]) (ok_f_X1_troughs hE hN hc_56) g_55 (by decide) rfl hw_X1_182 hdv_X1_troughs ⟨Nat.le_of_ble_eq_true rfl, Nat.le_of_ble_eq_true rfl⟩ rfl rfl (Nat.le_of_ble_eq_true rfl) ⟨Nat.le_of_ble_eq_true rfl, Nat.le_of_ble_eq_true rfl⟩ dX1_tried_88 (V_zero rfl rfl ?_)
        refine V_icmp_ge hG 117 dX1_tried_91 (by decide) (fun c_58 => ?_) (fun c_58 => ?_)
        · have hb_31 := if_t c_58 hb_31
          cases hb_31
          exact J_34 _ (hx_33 _ rfl)
        · have hb_31 := if_f c_58 hb_31
          refine V_iload_n hG 3 rfl dX1_tried_94 ?_
          refine V_iconst hG 3 rfl dX1_tried_95 ?_
          refine V_icmp_ne hG 117 dX1_tried_96 (by decide) (fun c_59 => ?_) (fun c_59 => ?_)
          · have hb_31 := if_f c_59 hb_31
            cases hb_31
            exact J_34 _ (hx_33 _ rfl)
          · have hb_31 := if_t c_59 hb_31
            refine V_aload_n hG 2 rfl dX1_tried_99 ?_
            obtain ⟨a_60, hr_61, hb_31⟩ := bd_of hb_31
            refine gf_X1_105 hN hG g_55 hr_61 dX1_tried_100 ?_
            obtain ⟨g_62, hb_31⟩ := gd_of hb_31
            obtain ⟨a_63, hr_64, hb_31⟩ := bd_of hb_31
            refine gf_X1_236 hN hG g_62 hr_64 dX1_tried_103 ?_
            refine V_iload hG 0 rfl dX1_tried_106 ?_
            refine V_bipush hG 99 (by decide) dX1_tried_108 ?_
            obtain ⟨g_65, hb_31⟩ := gd_of hb_31
            obtain ⟨g_66, hb_31⟩ := gd_of hb_31
            obtain ⟨M_67, eM_67, hb_31⟩ := be_of hb_31
            refine W_iastore hG g_65 g_66 M_67 eM_67 dX1_tried_110 ?_
            have g_68 : mT M_67 p0 = 0 := by rw [eM_67]; exact g_55
            have g_69 : mT M_67 a_60 = 5 := by rw [eM_67]; exact g_62
            have g_70 : mT M_67 a_63 = 100 := by rw [eM_67]; exact g_65
            obtain ⟨x5_71, ex5_71, hb_31⟩ := be_of hb_31
            refine V_iinc hG 0 x5_71 rfl (by rw [ex5_71]; rfl) [(5, .int x5_71), (4, .int t_1), (0, rf E p0), (1, .int p1), (2, .int p2), (3, .int p3)] dX1_tried_111 (Nat.le_of_ble_eq_true rfl) rfl ?_
            refine V_goto hG 85 dX1_tried_114 (by decide) ?_
            cases hb_31
            exact hk_32 _ rfl
      · have h := if_t c_7 h
        refine V_iconst hG (-1) rfl dX1_tried_53 ?_
        cases h
        subst eQ
        exact V_iret hG dX1_tried_54
  refine V_icmp_ne hG 13 dX1_tried_2 (by decide) (fun c_72 => ?_) (fun c_72 => ?_)
  · have hj_3 := if_f c_72 hj_3
    refine V_iload_n hG 1 rfl dX1_tried_13 ?_
    refine V_i2l hG dX1_tried_14 ?_
    refine V_lconst hG 0 rfl dX1_tried_15 ?_
    refine V_ldc2 hG q1194 dX1_tried_16 ?_
    obtain ⟨r_74, hc_73, hj_3⟩ := bd_of hj_3
    refine V_callS hE hG (As := [.long (Int32.toInt64 p1), .long 0, .long 4]) (rest := []) (ok_f_X1_in hE hN hc_73) hw_X1_144 hdc_X1_in ⟨Nat.le_of_ble_eq_true rfl, Nat.le_of_ble_eq_true rfl⟩ rfl rfl (Nat.le_of_ble_eq_true rfl) ⟨Nat.le_of_ble_eq_true rfl, Nat.le_of_ble_eq_true rfl⟩ dX1_tried_19 (V_zero rfl rfl ?_)
    refine V_if_eq hG 33 dX1_tried_22 (by decide) (fun c_75 => ?_) (fun c_75 => ?_)
    · have hj_3 := if_t c_75 hj_3
      refine V_iconst hG 0 rfl dX1_tried_33 ?_
      cases hj_3
      exact J_2
    · have hj_3 := if_f c_75 hj_3
      refine V_iload_n hG 2 rfl dX1_tried_25 ?_
      refine V_if_ne hG 33 dX1_tried_26 (by decide) (fun c_76 => ?_) (fun c_76 => ?_)
      · have hj_3 := if_f c_76 hj_3
        refine V_iconst hG 0 rfl dX1_tried_33 ?_
        cases hj_3
        exact J_2
      · have hj_3 := if_t c_76 hj_3
        refine V_iconst hG 1 rfl dX1_tried_29 ?_
        refine V_goto hG 34 dX1_tried_30 (by decide) ?_
        cases hj_3
        exact J_2
  · have hj_3 := if_t c_72 hj_3
    refine V_aload_n hG 0 rfl dX1_tried_5 ?_
    refine V_iload_n hG 2 rfl dX1_tried_6 ?_
    obtain ⟨g_77, hj_3⟩ := gd_of hj_3
    obtain ⟨r_79, hc_78, hj_3⟩ := bd_of hj_3
    refine V_callV hE hG (ci := 0) (As := [.int p2]) (rest := []) (ok_f_X1_isHorse hE hN hc_78) g_77 (by decide) rfl hw_X1_186 hdv_X1_isHorse ⟨Nat.le_of_ble_eq_true rfl, Nat.le_of_ble_eq_true rfl⟩ rfl rfl (Nat.le_of_ble_eq_true rfl) ⟨Nat.le_of_ble_eq_true rfl, Nat.le_of_ble_eq_true rfl⟩ dX1_tried_7 (V_zero rfl rfl ?_)
    refine V_goto hG 34 dX1_tried_10 (by decide) ?_
    cases hj_3
    exact J_2
