set_option maxRecDepth 100000
set_option maxHeartbeats 4000000
def f_X1_drinkers_b1 (N : Nat) (p0 : Nat) (p1 : Int32) (M : Mem) (x3_6 : Int32) (x2_7 : Int32) : Option ((Int32 × Int32) ⊕ (Int32 × Int32)) :=
gd (mT M p0 = 0) (
bd (f_X1_horses p0 M) fun (r_15 : Int32) =>
if r_15 ≤ x3_6 then (
some (.inl (x3_6, x2_7)))
else (
bd (mR M p0 9) fun (a_17 : Nat) =>
gd (mT M a_17 = 5) (
bd (f_X6_isOn a_17 x3_6 M) fun (r_21 : Int32) =>
bd (if r_21 = 0 then (
some 0)
else (
bd (mR M p0 9) fun (a_28 : Nat) =>
gd (mT M a_28 = 5) (
bd (mR M a_28 0) fun (a_31 : Nat) =>
gd (mT M a_31 = 100) (
gd (inb x3_6 (mLn M a_31)) (
bd (f_X1_trough p0 p1 M) fun (r_36 : Nat) =>
gd (mT M r_36 = 7) (
if mI M a_31 (Int32.toNatClampNeg x3_6) = mI M r_36 0 then (
some (1 <<< (x3_6 &&& 31)))
else (
some 0)))))) : Option (Int32)) fun (t_22 : Int32) =>
be (x2_7 ||| t_22) fun (x2_25 : Int32) =>
be (x3_6 + 1) fun (x3_26 : Int32) =>
some (.inr (x3_26, x2_25)))))
def f_X1_drinkers (N : Nat) (p0 : Nat) (p1 : Int32) (M : Mem) : Option (Int32) :=
bd2 (lp N (fun s_12 : Int32 × Int32 => f_X1_drinkers_b1 N p0 p1 M s_12.1 s_12.2) (0, 0)) fun (x3_8 : Int32) (x2_9 : Int32) =>
some x2_9
def rm_f_X1_drinkers : Room := { frames := 4, cells := 0, slots := 0, locals := 85 }
theorem ok_f_X1_drinkers {E : En} (hE : EOk E) (hN : NOk E) {N : Nat} {p0 : Nat} {p1 : Int32} {M : Mem} {r : Int32} (h : f_X1_drinkers N p0 p1 M = some r) : CM E yX1_drinkers cX1_drinkers 4 (some .int) rm_f_X1_drinkers [rf E p0, .int p1] M (some (.int r)) M := by
  unfold f_X1_drinkers at h
  refine CM_introX (own := RX1) rfl (by decide +kernel) (Nat.le_of_ble_eq_true rfl) rfl (fun G hG hEn hI => ?_)
  obtain ⟨Q, eQ⟩ : ∃ Q, Q = QM E G (some (.int r)) M 0 0 := ⟨_, rfl⟩
  show V E G M 0 0 4 0 [(0, rf E p0), (1, .int p1)] [] (QM E G (some (.int r)) M 0 0)
  rw [← eQ]
  refine V_iconst hG 0 rfl dX1_drinkers_0 ?_
  refine V_istore_n hG rfl [(2, .int 0), (0, rf E p0), (1, .int p1)] dX1_drinkers_1 (Nat.le_of_ble_eq_true rfl) rfl ?_
  refine V_iconst hG 0 rfl dX1_drinkers_2 ?_
  refine V_istore_n hG rfl [(3, .int 0), (2, .int 0), (0, rf E p0), (1, .int p1)] dX1_drinkers_3 (Nat.le_of_ble_eq_true rfl) rfl ?_
  obtain ⟨x3_8, x2_9, hL_10, h⟩ := bd2_of h
  have J_5 : ∀ q_11 : Int32 × Int32, q_11 = (x3_8, x2_9) → V E G M 0 0 4 59 [(3, .int q_11.1), (2, .int q_11.2), (0, rf E p0), (1, .int p1)] [] Q := by
    intro q_11 e9
    subst q_11
    show V E G M 0 0 4 59 [(3, .int x3_8), (2, .int x2_9), (0, rf E p0), (1, .int p1)] [] Q
    refine V_iload_n hG 1 rfl dX1_drinkers_59 ?_
    cases h
    subst eQ
    exact V_iret hG dX1_drinkers_60
  refine lp_walk (W := fun s_12 : Int32 × Int32 => V E G M 0 0 4 4 [(3, .int s_12.1), (2, .int s_12.2), (0, rf E p0), (1, .int p1)] [] Q) ?_ N (0, 0) hL_10
  intro s_12 b_1 hb_2 hk_3 hx_4
  obtain ⟨x3_6, x2_7⟩ := s_12
  have hb_2 : f_X1_drinkers_b1 N p0 p1 M x3_6 x2_7 = some b_1 := hb_2
  unfold f_X1_drinkers_b1 at hb_2
  show V E G M 0 0 4 4 [(3, .int x3_6), (2, .int x2_7), (0, rf E p0), (1, .int p1)] [] Q
  refine V_iload_n hG 0 rfl dX1_drinkers_4 ?_
  refine V_aload_n hG 2 rfl dX1_drinkers_5 ?_
  obtain ⟨g_13, hb_2⟩ := gd_of hb_2
  obtain ⟨r_15, hc_14, hb_2⟩ := bd_of hb_2
  refine V_callV hE hG (ci := 0) (As := []) (rest := [.int x3_6]) (ok_f_X1_horses hE hN hc_14) g_13 (by decide) rfl hw_X1_184 hdv_X1_horses ⟨Nat.le_of_ble_eq_true rfl, Nat.le_of_ble_eq_true rfl⟩ rfl rfl (Nat.le_of_ble_eq_true rfl) ⟨Nat.le_of_ble_eq_true rfl, Nat.le_of_ble_eq_true rfl⟩ dX1_drinkers_6 (V_zero rfl rfl ?_)
  refine V_icmp_ge hG 59 dX1_drinkers_9 (by decide) (fun c_16 => ?_) (fun c_16 => ?_)
  · have hb_2 := if_t c_16 hb_2
    cases hb_2
    exact J_5 _ (hx_4 _ rfl)
  · have hb_2 := if_f c_16 hb_2
    refine V_iload_n hG 1 rfl dX1_drinkers_12 ?_
    refine V_aload_n hG 2 rfl dX1_drinkers_13 ?_
    obtain ⟨a_17, hr_18, hb_2⟩ := bd_of hb_2
    refine gf_X1_101 hN hG g_13 hr_18 dX1_drinkers_14 ?_
    refine V_iload_n hG 0 rfl dX1_drinkers_17 ?_
    obtain ⟨g_19, hb_2⟩ := gd_of hb_2
    obtain ⟨r_21, hc_20, hb_2⟩ := bd_of hb_2
    refine V_callV hE hG (ci := 5) (As := [.int x3_6]) (rest := [.int x2_7]) (ok_f_X6_isOn hE hN hc_20) g_19 (by decide) rfl hw_X1_219 hdv_X6_isOn ⟨Nat.le_of_ble_eq_true rfl, Nat.le_of_ble_eq_true rfl⟩ rfl rfl (Nat.le_of_ble_eq_true rfl) ⟨Nat.le_of_ble_eq_true rfl, Nat.le_of_ble_eq_true rfl⟩ dX1_drinkers_18 (V_zero rfl rfl ?_)
    obtain ⟨t_22, hj_24, hb_2⟩ := bd_of hb_2
    have J_23 : V E G M 0 0 4 51 [(3, .int x3_6), (2, .int x2_7), (0, rf E p0), (1, .int p1)] [.int t_22, .int x2_7] Q := by
      refine V_ior hG dX1_drinkers_51 ?_
      obtain ⟨x2_25, ex2_25, hb_2⟩ := be_of hb_2
      refine V_topi ex2_25 ?_
      refine V_istore_n hG rfl [(2, .int x2_25), (3, .int x3_6), (0, rf E p0), (1, .int p1)] dX1_drinkers_52 (Nat.le_of_ble_eq_true rfl) rfl ?_
      obtain ⟨x3_26, ex3_26, hb_2⟩ := be_of hb_2
      refine V_iinc hG 1 x3_26 rfl (by rw [ex3_26]; rfl) [(3, .int x3_26), (2, .int x2_25), (0, rf E p0), (1, .int p1)] dX1_drinkers_53 (Nat.le_of_ble_eq_true rfl) rfl ?_
      refine V_goto hG 4 dX1_drinkers_56 (by decide) ?_
      cases hb_2
      exact hk_3 _ rfl
    refine V_if_eq hG 50 dX1_drinkers_21 (by decide) (fun c_27 => ?_) (fun c_27 => ?_)
    · have hj_24 := if_t c_27 hj_24
      refine V_iconst hG 0 rfl dX1_drinkers_50 ?_
      cases hj_24
      exact J_23
    · have hj_24 := if_f c_27 hj_24
      refine V_aload_n hG 2 rfl dX1_drinkers_24 ?_
      obtain ⟨a_28, hr_29, hj_24⟩ := bd_of hj_24
      refine gf_X1_101 hN hG g_13 hr_29 dX1_drinkers_25 ?_
      obtain ⟨g_30, hj_24⟩ := gd_of hj_24
      obtain ⟨a_31, hr_32, hj_24⟩ := bd_of hj_24
      refine gf_X1_200 hN hG g_30 hr_32 dX1_drinkers_28 ?_
      refine V_iload_n hG 0 rfl dX1_drinkers_31 ?_
      obtain ⟨g_33, hj_24⟩ := gd_of hj_24
      obtain ⟨g_34, hj_24⟩ := gd_of hj_24
      refine V_iaload hG g_33 g_34 dX1_drinkers_32 ?_
      refine V_aload_n hG 2 rfl dX1_drinkers_33 ?_
      refine V_iload_n hG 3 rfl dX1_drinkers_34 ?_
      obtain ⟨r_36, hc_35, hj_24⟩ := bd_of hj_24
      refine V_callV hE hG (ci := 0) (As := [.int p1]) (rest := [.int (mI M a_31 (Int32.toNatClampNeg x3_6)), .int x2_7]) (ok_f_X1_trough hE hN hc_35) g_13 (by decide) rfl hw_X1_228 hdv_X1_trough ⟨Nat.le_of_ble_eq_true rfl, Nat.le_of_ble_eq_true rfl⟩ rfl rfl (Nat.le_of_ble_eq_true rfl) ⟨Nat.le_of_ble_eq_true rfl, Nat.le_of_ble_eq_true rfl⟩ dX1_drinkers_35 (V_zero rfl rfl ?_)
      obtain ⟨g_37, hj_24⟩ := gd_of hj_24
      refine gf_X1_232 hN hG g_37 dX1_drinkers_38 ?_
      refine V_icmp_ne hG 50 dX1_drinkers_41 (by decide) (fun c_38 => ?_) (fun c_38 => ?_)
      · have hj_24 := if_f c_38 hj_24
        refine V_iconst hG 0 rfl dX1_drinkers_50 ?_
        cases hj_24
        exact J_23
      · have hj_24 := if_t c_38 hj_24
        refine V_iconst hG 1 rfl dX1_drinkers_44 ?_
        refine V_iload_n hG 0 rfl dX1_drinkers_45 ?_
        refine V_ishl hG dX1_drinkers_46 ?_
        refine V_goto hG 51 dX1_drinkers_47 (by decide) ?_
        cases hj_24
        exact J_23

def f_X1_enemies_b1 (N : Nat) (p0 : Nat) (p1 : Int32) (M : Mem) (x3_10 : Int32) (x2_11 : Int32) : Option ((Int32 × Int32) ⊕ (Int32 × Int32)) :=
gd (mT M p0 = 0) (
bd (f_X1_horses p0 M) fun (r_19 : Int32) =>
if r_19 ≤ x3_10 then (
some (.inl (x3_10, x2_11)))
else (
bd (mR M p0 9) fun (a_21 : Nat) =>
gd (mT M a_21 = 5) (
bd (f_X6_isOn a_21 p1 M) fun (r_25 : Int32) =>
bd (if r_25 = 0 then (
some 0)
else (
bd (mR M p0 9) fun (a_32 : Nat) =>
gd (mT M a_32 = 5) (
bd (f_X6_isOn a_32 x3_10 M) fun (r_36 : Int32) =>
if r_36 = 0 then (
some 0)
else (
bd (mR M p0 9) fun (a_38 : Nat) =>
gd (mT M a_38 = 5) (
bd (mR M a_38 0) fun (a_41 : Nat) =>
gd (mT M a_41 = 100) (
gd (inb x3_10 (mLn M a_41)) (
bd (mR M p0 9) fun (a_45 : Nat) =>
gd (mT M a_45 = 5) (
bd (mR M a_45 0) fun (a_48 : Nat) =>
gd (mT M a_48 = 100) (
gd (inb p1 (mLn M a_48)) (
if mI M a_41 (Int32.toNatClampNeg x3_10) = mI M a_48 (Int32.toNatClampNeg p1) then (
bd (f_X1_horse p0 x3_10 M) fun (r_54 : Nat) =>
gd (mT M r_54 = 8) (
bd (f_X1_horse p0 p1 M) fun (r_57 : Nat) =>
gd (mT M r_57 = 8) (
if mI M r_54 2 = mI M r_57 2 then (
some 0)
else (
some (1 <<< (x3_10 &&& 31))))))
else (
some 0)))))))))) : Option (Int32)) fun (t_26 : Int32) =>
be (x2_11 ||| t_26) fun (x2_29 : Int32) =>
be (x3_10 + 1) fun (x3_30 : Int32) =>
some (.inr (x3_30, x2_29)))))
def f_X1_enemies (N : Nat) (p0 : Nat) (p1 : Int32) (M : Mem) : Option (Int32) :=
gd (mT M p0 = 0) (
bd (f_X1_isHorse p0 p1 M) fun (r_3 : Int32) =>
if r_3 = 0 then (
some (-1))
else (
bd2 (lp N (fun s_16 : Int32 × Int32 => f_X1_enemies_b1 N p0 p1 M s_16.1 s_16.2) (0, 0)) fun (x3_12 : Int32) (x2_13 : Int32) =>
some x2_13))
def rm_f_X1_enemies : Room := { frames := 4, cells := 0, slots := 0, locals := 85 }
theorem ok_f_X1_enemies {E : En} (hE : EOk E) (hN : NOk E) {N : Nat} {p0 : Nat} {p1 : Int32} {M : Mem} {r : Int32} (h : f_X1_enemies N p0 p1 M = some r) : CM E yX1_enemies cX1_enemies 4 (some .int) rm_f_X1_enemies [rf E p0, .int p1] M (some (.int r)) M := by
  unfold f_X1_enemies at h
  refine CM_introX (own := RX1) rfl (by decide +kernel) (Nat.le_of_ble_eq_true rfl) rfl (fun G hG hEn hI => ?_)
  obtain ⟨Q, eQ⟩ : ∃ Q, Q = QM E G (some (.int r)) M 0 0 := ⟨_, rfl⟩
  show V E G M 0 0 4 0 [(0, rf E p0), (1, .int p1)] [] (QM E G (some (.int r)) M 0 0)
  rw [← eQ]
  refine V_aload_n hG 0 rfl dX1_enemies_0 ?_
  refine V_iload_n hG 1 rfl dX1_enemies_1 ?_
  obtain ⟨g_1, h⟩ := gd_of h
  obtain ⟨r_3, hc_2, h⟩ := bd_of h
  refine V_callV hE hG (ci := 0) (As := [.int p1]) (rest := []) (ok_f_X1_isHorse hE hN hc_2) g_1 (by decide) rfl hw_X1_186 hdv_X1_isHorse ⟨Nat.le_of_ble_eq_true rfl, Nat.le_of_ble_eq_true rfl⟩ rfl rfl (Nat.le_of_ble_eq_true rfl) ⟨Nat.le_of_ble_eq_true rfl, Nat.le_of_ble_eq_true rfl⟩ dX1_enemies_2 (V_zero rfl rfl ?_)
  refine V_if_ne hG 10 dX1_enemies_5 (by decide) (fun c_4 => ?_) (fun c_4 => ?_)
  · have h := if_f c_4 h
    refine V_iconst hG 0 rfl dX1_enemies_10 ?_
    refine V_istore_n hG rfl [(2, .int 0), (0, rf E p0), (1, .int p1)] dX1_enemies_11 (Nat.le_of_ble_eq_true rfl) rfl ?_
    refine V_iconst hG 0 rfl dX1_enemies_12 ?_
    refine V_istore_n hG rfl [(3, .int 0), (2, .int 0), (0, rf E p0), (1, .int p1)] dX1_enemies_13 (Nat.le_of_ble_eq_true rfl) rfl ?_
    obtain ⟨x3_12, x2_13, hL_14, h⟩ := bd2_of h
    have J_9 : ∀ q_15 : Int32 × Int32, q_15 = (x3_12, x2_13) → V E G M 0 0 4 100 [(3, .int q_15.1), (2, .int q_15.2), (0, rf E p0), (1, .int p1)] [] Q := by
      intro q_15 e9
      subst q_15
      show V E G M 0 0 4 100 [(3, .int x3_12), (2, .int x2_13), (0, rf E p0), (1, .int p1)] [] Q
      refine V_iload_n hG 1 rfl dX1_enemies_100 ?_
      cases h
      subst eQ
      exact V_iret hG dX1_enemies_101
    refine lp_walk (W := fun s_16 : Int32 × Int32 => V E G M 0 0 4 14 [(3, .int s_16.1), (2, .int s_16.2), (0, rf E p0), (1, .int p1)] [] Q) ?_ N (0, 0) hL_14
    intro s_16 b_5 hb_6 hk_7 hx_8
    obtain ⟨x3_10, x2_11⟩ := s_16
    have hb_6 : f_X1_enemies_b1 N p0 p1 M x3_10 x2_11 = some b_5 := hb_6
    unfold f_X1_enemies_b1 at hb_6
    show V E G M 0 0 4 14 [(3, .int x3_10), (2, .int x2_11), (0, rf E p0), (1, .int p1)] [] Q
    refine V_iload_n hG 0 rfl dX1_enemies_14 ?_
    refine V_aload_n hG 2 rfl dX1_enemies_15 ?_
    obtain ⟨g_17, hb_6⟩ := gd_of hb_6
    obtain ⟨r_19, hc_18, hb_6⟩ := bd_of hb_6
    refine V_callV hE hG (ci := 0) (As := []) (rest := [.int x3_10]) (ok_f_X1_horses hE hN hc_18) g_17 (by decide) rfl hw_X1_184 hdv_X1_horses ⟨Nat.le_of_ble_eq_true rfl, Nat.le_of_ble_eq_true rfl⟩ rfl rfl (Nat.le_of_ble_eq_true rfl) ⟨Nat.le_of_ble_eq_true rfl, Nat.le_of_ble_eq_true rfl⟩ dX1_enemies_16 (V_zero rfl rfl ?_)
    refine V_icmp_ge hG 100 dX1_enemies_19 (by decide) (fun c_20 => ?_) (fun c_20 => ?_)
    · have hb_6 := if_t c_20 hb_6
      cases hb_6
      exact J_9 _ (hx_8 _ rfl)
    · have hb_6 := if_f c_20 hb_6
      refine V_iload_n hG 1 rfl dX1_enemies_22 ?_
      refine V_aload_n hG 2 rfl dX1_enemies_23 ?_
      obtain ⟨a_21, hr_22, hb_6⟩ := bd_of hb_6
      refine gf_X1_101 hN hG g_17 hr_22 dX1_enemies_24 ?_
      refine V_iload_n hG 3 rfl dX1_enemies_27 ?_
      obtain ⟨g_23, hb_6⟩ := gd_of hb_6
      obtain ⟨r_25, hc_24, hb_6⟩ := bd_of hb_6
      refine V_callV hE hG (ci := 5) (As := [.int p1]) (rest := [.int x2_11]) (ok_f_X6_isOn hE hN hc_24) g_23 (by decide) rfl hw_X1_219 hdv_X6_isOn ⟨Nat.le_of_ble_eq_true rfl, Nat.le_of_ble_eq_true rfl⟩ rfl rfl (Nat.le_of_ble_eq_true rfl) ⟨Nat.le_of_ble_eq_true rfl, Nat.le_of_ble_eq_true rfl⟩ dX1_enemies_28 (V_zero rfl rfl ?_)
      obtain ⟨t_26, hj_28, hb_6⟩ := bd_of hb_6
      have J_27 : V E G M 0 0 4 92 [(3, .int x3_10), (2, .int x2_11), (0, rf E p0), (1, .int p1)] [.int t_26, .int x2_11] Q := by
        refine V_ior hG dX1_enemies_92 ?_
        obtain ⟨x2_29, ex2_29, hb_6⟩ := be_of hb_6
        refine V_topi ex2_29 ?_
        refine V_istore_n hG rfl [(2, .int x2_29), (3, .int x3_10), (0, rf E p0), (1, .int p1)] dX1_enemies_93 (Nat.le_of_ble_eq_true rfl) rfl ?_
        obtain ⟨x3_30, ex3_30, hb_6⟩ := be_of hb_6
        refine V_iinc hG 1 x3_30 rfl (by rw [ex3_30]; rfl) [(3, .int x3_30), (2, .int x2_29), (0, rf E p0), (1, .int p1)] dX1_enemies_94 (Nat.le_of_ble_eq_true rfl) rfl ?_
        refine V_goto hG 14 dX1_enemies_97 (by decide) ?_
        cases hb_6
        exact hk_7 _ rfl
      refine V_if_eq hG 91 dX1_enemies_31 (by decide) (fun c_31 => ?_) (fun c_31 => ?_)
      · have hj_28 := if_t c_31 hj_28
        refine V_iconst hG 0 rfl dX1_enemies_91 ?_
        cases hj_28
        exact J_27
      · have hj_28 := if_f c_31 hj_28
        refine V_aload_n hG 2 rfl dX1_enemies_34 ?_
        obtain ⟨a_32, hr_33, hj_28⟩ := bd_of hj_28
        refine gf_X1_101 hN hG g_17 hr_33 dX1_enemies_35 ?_
        refine V_iload_n hG 0 rfl dX1_enemies_38 ?_
        obtain ⟨g_34, hj_28⟩ := gd_of hj_28
        obtain ⟨r_36, hc_35, hj_28⟩ := bd_of hj_28
        refine V_callV hE hG (ci := 5) (As := [.int x3_10]) (rest := [.int x2_11]) (ok_f_X6_isOn hE hN hc_35) g_34 (by decide) rfl hw_X1_219 hdv_X6_isOn ⟨Nat.le_of_ble_eq_true rfl, Nat.le_of_ble_eq_true rfl⟩ rfl rfl (Nat.le_of_ble_eq_true rfl) ⟨Nat.le_of_ble_eq_true rfl, Nat.le_of_ble_eq_true rfl⟩ dX1_enemies_39 (V_zero rfl rfl ?_)
        refine V_if_eq hG 91 dX1_enemies_42 (by decide) (fun c_37 => ?_) (fun c_37 => ?_)
        · have hj_28 := if_t c_37 hj_28
          refine V_iconst hG 0 rfl dX1_enemies_91 ?_
          cases hj_28
          exact J_27
        · have hj_28 := if_f c_37 hj_28
          refine V_aload_n hG 2 rfl dX1_enemies_45 ?_
          obtain ⟨a_38, hr_39, hj_28⟩ := bd_of hj_28
          refine gf_X1_101 hN hG g_17 hr_39 dX1_enemies_46 ?_
          obtain ⟨g_40, hj_28⟩ := gd_of hj_28
          obtain ⟨a_41, hr_42, hj_28⟩ := bd_of hj_28
          refine gf_X1_200 hN hG g_40 hr_42 dX1_enemies_49 ?_
          refine V_iload_n hG 0 rfl dX1_enemies_52 ?_
          obtain ⟨g_43, hj_28⟩ := gd_of hj_28
          obtain ⟨g_44, hj_28⟩ := gd_of hj_28
          refine V_iaload hG g_43 g_44 dX1_enemies_53 ?_
          refine V_aload_n hG 2 rfl dX1_enemies_54 ?_
          obtain ⟨a_45, hr_46, hj_28⟩ := bd_of hj_28
          refine gf_X1_101 hN hG g_17 hr_46 dX1_enemies_55 ?_
          obtain ⟨g_47, hj_28⟩ := gd_of hj_28
          obtain ⟨a_48, hr_49, hj_28⟩ := bd_of hj_28
          refine gf_X1_200 hN hG g_47 hr_49 dX1_enemies_58 ?_
          refine V_iload_n hG 3 rfl dX1_enemies_61 ?_
          obtain ⟨g_50, hj_28⟩ := gd_of hj_28
          obtain ⟨g_51, hj_28⟩ := gd_of hj_28
          refine V_iaload hG g_50 g_51 dX1_enemies_62 ?_
          refine V_icmp_ne hG 91 dX1_enemies_63 (by decide) (fun c_52 => ?_) (fun c_52 => ?_)
          · have hj_28 := if_f c_52 hj_28
            refine V_iconst hG 0 rfl dX1_enemies_91 ?_
            cases hj_28
            exact J_27
          · have hj_28 := if_t c_52 hj_28
            refine V_aload_n hG 2 rfl dX1_enemies_66 ?_
            refine V_iload_n hG 0 rfl dX1_enemies_67 ?_
            obtain ⟨r_54, hc_53, hj_28⟩ := bd_of hj_28
            refine V_callV hE hG (ci := 0) (As := [.int x3_10]) (rest := [.int x2_11]) (ok_f_X1_horse hE hN hc_53) g_17 (by decide) rfl hw_X1_193 hdv_X1_horse ⟨Nat.le_of_ble_eq_true rfl, Nat.le_of_ble_eq_true rfl⟩ rfl rfl (Nat.le_of_ble_eq_true rfl) ⟨Nat.le_of_ble_eq_true rfl, Nat.le_of_ble_eq_true rfl⟩ dX1_enemies_68 (V_zero rfl rfl ?_)
            obtain ⟨g_55, hj_28⟩ := gd_of hj_28
            refine gf_X1_197 hN hG g_55 dX1_enemies_71 ?_
            refine V_aload_n hG 2 rfl dX1_enemies_74 ?_
            refine V_iload_n hG 3 rfl dX1_enemies_75 ?_
            obtain ⟨r_57, hc_56, hj_28⟩ := bd_of hj_28
            refine V_callV hE hG (ci := 0) (As := [.int p1]) (rest := [.int (mI M r_54 2), .int x2_11]) (ok_f_X1_horse hE hN hc_56) g_17 (by decide) rfl hw_X1_193 hdv_X1_horse ⟨Nat.le_of_ble_eq_true rfl, Nat.le_of_ble_eq_true rfl⟩ rfl rfl (Nat.le_of_ble_eq_true rfl) ⟨Nat.le_of_ble_eq_true rfl, Nat.le_of_ble_eq_true rfl⟩ dX1_enemies_76 (V_zero rfl rfl ?_)
            obtain ⟨g_58, hj_28⟩ := gd_of hj_28
            refine gf_X1_197 hN hG g_58 dX1_enemies_79 ?_
            refine V_icmp_eq hG 91 dX1_enemies_82 (by decide) (fun c_59 => ?_) (fun c_59 => ?_)
            · have hj_28 := if_t c_59 hj_28
              refine V_iconst hG 0 rfl dX1_enemies_91 ?_
              cases hj_28
              exact J_27
            · have hj_28 := if_f c_59 hj_28
              refine V_iconst hG 1 rfl dX1_enemies_85 ?_
              refine V_iload_n hG 0 rfl dX1_enemies_86 ?_
              refine V_ishl hG dX1_enemies_87 ?_
              refine V_goto hG 92 dX1_enemies_88 (by decide) ?_
              cases hj_28
              exact J_27
  · have h := if_t c_4 h
    refine V_iconst hG (-1) rfl dX1_enemies_8 ?_
    cases h
    subst eQ
    exact V_iret hG dX1_enemies_9

def f_X1_fault (p0 : Nat) (p1 : Int32) (M : Mem) : Option (Int32) :=
bd (if p1 = 0 then (
gd (mT M p0 = 0) (
some (mI M p0 2)))
else (
if p1 = 1 then (
gd (mT M p0 = 0) (
some (mI M p0 3)))
else (
some (-1))) : Option (Int32)) fun (t_1 : Int32) =>
some t_1
def rm_f_X1_fault : Room := { frames := 0, cells := 0, slots := 0, locals := 0 }
theorem ok_f_X1_fault {E : En} (hE : EOk E) (hN : NOk E) {p0 : Nat} {p1 : Int32} {M : Mem} {r : Int32} (h : f_X1_fault p0 p1 M = some r) : CM E yX1_fault cX1_fault 2 (some .int) rm_f_X1_fault [rf E p0, .int p1] M (some (.int r)) M := by
  unfold f_X1_fault at h
  refine CM_introX (own := RX1) rfl (by decide +kernel) (Nat.le_of_ble_eq_true rfl) rfl (fun G hG hEn hI => ?_)
  obtain ⟨Q, eQ⟩ : ∃ Q, Q = QM E G (some (.int r)) M 0 0 := ⟨_, rfl⟩
  show V E G M 0 0 2 0 [(0, rf E p0), (1, .int p1)] [] (QM E G (some (.int r)) M 0 0)
  rw [← eQ]
  refine V_iload_n hG 1 rfl dX1_fault_0 ?_
  obtain ⟨t_1, hj_3, h⟩ := bd_of h
  have J_2 : V E G M 0 0 2 24 [(0, rf E p0), (1, .int p1)] [.int t_1] Q := by
    cases h
    subst eQ
    exact V_iret hG dX1_fault_24
  refine V_if_ne hG 11 dX1_fault_1 (by decide) (fun c_4 => ?_) (fun c_4 => ?_)
  · have hj_3 := if_f c_4 hj_3
    refine V_iload_n hG 1 rfl dX1_fault_11 ?_
    refine V_iconst hG 1 rfl dX1_fault_12 ?_
    refine V_icmp_ne hG 23 dX1_fault_13 (by decide) (fun c_5 => ?_) (fun c_5 => ?_)
    · have hj_3 := if_f c_5 hj_3
      refine V_iconst hG (-1) rfl dX1_fault_23 ?_
      cases hj_3
      exact J_2
    · have hj_3 := if_t c_5 hj_3
      refine V_aload_n hG 0 rfl dX1_fault_16 ?_
      obtain ⟨g_6, hj_3⟩ := gd_of hj_3
      refine gf_X1_77 hN hG g_6 dX1_fault_17 ?_
      refine V_goto hG 24 dX1_fault_20 (by decide) ?_
      cases hj_3
      exact J_2
  · have hj_3 := if_t c_4 hj_3
    refine V_aload_n hG 0 rfl dX1_fault_4 ?_
    obtain ⟨g_7, hj_3⟩ := gd_of hj_3
    refine gf_X1_148 hN hG g_7 dX1_fault_5 ?_
    refine V_goto hG 24 dX1_fault_8 (by decide) ?_
    cases hj_3
    exact J_2

def f_X1_put_b1 (N : Nat) (p0 : Nat) (p1 : Int32) (x2_6 : Int32) (S_7 : Mem) : Option ((Int32 × Mem) ⊕ (Int32 × Mem)) :=
if x2_6 < 0 then (
some (.inl (x2_6, S_7)))
else (
gd (mT S_7 p0 = 0) (
bd (mR S_7 p0 0) fun (a_15 : Nat) =>
be (sI S_7 p0 1 ((mI S_7 p0 1) + 1)) fun (M_17 : Mem) =>
gd (mT M_17 a_15 = 101) (
gd (inb (mI S_7 p0 1) (mLn M_17 a_15)) (
be (sI M_17 a_15 (Int32.toNatClampNeg (mI S_7 p0 1)) (Int8.toInt32 (Int32.toInt8 (Int8.toInt32 (Int32.toInt8 (p1 >>> (x2_6 &&& 31))))))) fun (M_21 : Mem) =>
be (x2_6 + (-8)) fun (x2_24 : Int32) =>
some (.inr (x2_24, M_21))))))
def f_X1_put (N : Nat) (p0 : Nat) (p1 : Int32) (M : Mem) : Option (Mem) :=
bd2 (lp N (fun s_12 : Int32 × Mem => f_X1_put_b1 N p0 p1 s_12.1 s_12.2) (24, M)) fun (x2_8 : Int32) (S_9 : Mem) =>
some S_9
def rm_f_X1_put : Room := { frames := 0, cells := 0, slots := 0, locals := 0 }
theorem ok_f_X1_put {E : En} (hE : EOk E) (hN : NOk E) {N : Nat} {p0 : Nat} {p1 : Int32} {M : Mem}  {M' : Mem} (h : f_X1_put N p0 p1 M = some M') : CM E yX1_put cX1_put 3 none rm_f_X1_put [rf E p0, .int p1] M none M' := by
  unfold f_X1_put at h
  refine CM_introX (own := RX1) rfl (by decide +kernel) (Nat.le_of_ble_eq_true rfl) rfl (fun G hG hEn hI => ?_)
  obtain ⟨Q, eQ⟩ : ∃ Q, Q = QM E G none M' 0 0 := ⟨_, rfl⟩
  show V E G M 0 0 3 0 [(0, rf E p0), (1, .int p1)] [] (QM E G none M' 0 0)
  rw [← eQ]
  refine V_bipush hG 24 (by decide) dX1_put_0 ?_
  refine V_istore_n hG rfl [(2, .int 24), (0, rf E p0), (1, .int p1)] dX1_put_2 (Nat.le_of_ble_eq_true rfl) rfl ?_
  obtain ⟨x2_8, S_9, hL_10, h⟩ := bd2_of h
  have J_5 : ∀ q_11 : Int32 × Mem, q_11 = (x2_8, S_9) → V E G q_11.2 0 0 3 33 [(2, .int q_11.1), (0, rf E p0), (1, .int p1)] [] Q := by
    intro q_11 e9
    subst q_11
    show V E G S_9 0 0 3 33 [(2, .int x2_8), (0, rf E p0), (1, .int p1)] [] Q
    cases h
    subst eQ
    exact V_vret hG dX1_put_33
  refine lp_walk (W := fun s_12 : Int32 × Mem => V E G s_12.2 0 0 3 3 [(2, .int s_12.1), (0, rf E p0), (1, .int p1)] [] Q) ?_ N (24, M) hL_10
  intro s_12 b_1 hb_2 hk_3 hx_4
  obtain ⟨x2_6, S_7⟩ := s_12
  have hb_2 : f_X1_put_b1 N p0 p1 x2_6 S_7 = some b_1 := hb_2
  unfold f_X1_put_b1 at hb_2
  show V E G S_7 0 0 3 3 [(2, .int x2_6), (0, rf E p0), (1, .int p1)] [] Q
  refine V_iload_n hG 0 rfl dX1_put_3 ?_
  refine V_if_lt hG 33 dX1_put_4 (by decide) (fun c_13 => ?_) (fun c_13 => ?_)
  · have hb_2 := if_t c_13 hb_2
    cases hb_2
    exact J_5 _ (hx_4 _ rfl)
  · have hb_2 := if_f c_13 hb_2
    refine V_aload_n hG 1 rfl dX1_put_7 ?_
    obtain ⟨g_14, hb_2⟩ := gd_of hb_2
    obtain ⟨a_15, hr_16, hb_2⟩ := bd_of hb_2
    refine gf_X1_73 hN hG g_14 hr_16 dX1_put_8 ?_
    refine V_aload_n hG 1 rfl dX1_put_11 ?_
    refine V_dup hG rfl dX1_put_12 ?_
    refine gf_X1_138 hN hG g_14 dX1_put_13 ?_
    refine V_dup_x1 hG rfl rfl dX1_put_16 ?_
    refine V_iconst hG 1 rfl dX1_put_17 ?_
    refine V_iadd hG dX1_put_18 ?_
    obtain ⟨M_17, eM_17, hb_2⟩ := be_of hb_2
    refine pf_X1_138 hN hG g_14 eM_17 dX1_put_19 ?_
    have g_18 : mT M_17 p0 = 0 := by rw [eM_17]; exact g_14
    refine V_iload_n hG 2 rfl dX1_put_22 ?_
    refine V_iload_n hG 0 rfl dX1_put_23 ?_
    refine V_ishr hG dX1_put_24 ?_
    refine V_i2b hG dX1_put_25 ?_
    obtain ⟨g_19, hb_2⟩ := gd_of hb_2
    obtain ⟨g_20, hb_2⟩ := gd_of hb_2
    obtain ⟨M_21, eM_21, hb_2⟩ := be_of hb_2
    refine W_bastore hG g_19 g_20 M_21 eM_21 dX1_put_26 ?_
    have g_22 : mT M_21 p0 = 0 := by rw [eM_21]; exact g_18
    have g_23 : mT M_21 a_15 = 101 := by rw [eM_21]; exact g_19
    obtain ⟨x2_24, ex2_24, hb_2⟩ := be_of hb_2
    refine V_iinc hG 0 x2_24 rfl (by rw [ex2_24]; rfl) [(2, .int x2_24), (0, rf E p0), (1, .int p1)] dX1_put_27 (Nat.le_of_ble_eq_true rfl) rfl ?_
    refine V_goto hG 3 dX1_put_30 (by decide) ?_
    cases hb_2
    exact hk_3 _ rfl

def f_X1_feed (N : Nat) (p0 : Nat) (p1 : Int32) (p2 : Int32) (p3 : Int32) (p4 : Int32) (p5 : Int32) (M : Mem) : Option (Int32 × Mem) :=
gd (mT M p0 = 0) (
if (mI M p0 1) + 20 ≤ 700 then (
bd (f_X1_put N p0 p1 M) fun (M_4 : Mem) =>
gd (mT M_4 p0 = 0) (
bd (f_X1_put N p0 p2 M_4) fun (M_7 : Mem) =>
gd (mT M_7 p0 = 0) (
bd (f_X1_put N p0 p3 M_7) fun (M_10 : Mem) =>
gd (mT M_10 p0 = 0) (
bd (f_X1_put N p0 p4 M_10) fun (M_13 : Mem) =>
gd (mT M_13 p0 = 0) (
bd (f_X1_put N p0 p5 M_13) fun (M_16 : Mem) =>
gd (mT M_16 p0 = 0) (
some (mI M_16 p0 1, M_16)))))))
else (
some ((-1), M)))
def rm_f_X1_feed : Room := { frames := 1, cells := 0, slots := 0, locals := 22 }
theorem ok_f_X1_feed {E : En} (hE : EOk E) (hN : NOk E) {N : Nat} {p0 : Nat} {p1 : Int32} {p2 : Int32} {p3 : Int32} {p4 : Int32} {p5 : Int32} {M : Mem} {r : Int32} {M' : Mem} (h : f_X1_feed N p0 p1 p2 p3 p4 p5 M = some (r, M')) : CM E yX1_feed cX1_feed 6 (some .int) rm_f_X1_feed [rf E p0, .int p1, .int p2, .int p3, .int p4, .int p5] M (some (.int r)) M' := by
  unfold f_X1_feed at h
  refine CM_introX (own := RX1) rfl (by decide +kernel) (Nat.le_of_ble_eq_true rfl) rfl (fun G hG hEn hI => ?_)
  obtain ⟨Q, eQ⟩ : ∃ Q, Q = QM E G (some (.int r)) M' 0 0 := ⟨_, rfl⟩
  show V E G M 0 0 6 0 [(0, rf E p0), (1, .int p1), (2, .int p2), (3, .int p3), (4, .int p4), (5, .int p5)] [] (QM E G (some (.int r)) M' 0 0)
  rw [← eQ]
  refine V_aload_n hG 0 rfl dX1_feed_0 ?_
  obtain ⟨g_1, h⟩ := gd_of h
  refine gf_X1_138 hN hG g_1 dX1_feed_1 ?_
  refine V_bipush hG 20 (by decide) dX1_feed_4 ?_
  refine V_iadd hG dX1_feed_6 ?_
  refine V_sipush hG 700 (by decide) dX1_feed_7 ?_
  refine V_icmp_le hG 15 dX1_feed_10 (by decide) (fun c_2 => ?_) (fun c_2 => ?_)
  · have h := if_t c_2 h
    refine V_aload_n hG 0 rfl dX1_feed_15 ?_
    refine V_iload_n hG 1 rfl dX1_feed_16 ?_
    obtain ⟨M_4, hc_3, h⟩ := bd_of h
    refine V_callV hE hG (ci := 0) (As := [.int p1]) (rest := []) (ok_f_X1_put hE hN hc_3) g_1 (by decide) rfl hw_X1_141 hdv_X1_put ⟨Nat.le_of_ble_eq_true rfl, Nat.le_of_ble_eq_true rfl⟩ rfl rfl (Nat.le_of_ble_eq_true rfl) ⟨Nat.le_of_ble_eq_true rfl, Nat.le_of_ble_eq_true rfl⟩ dX1_feed_17 (V_zero rfl rfl ?_)
    refine V_aload_n hG 0 rfl dX1_feed_20 ?_
    refine V_iload_n hG 2 rfl dX1_feed_21 ?_
    obtain ⟨g_5, h⟩ := gd_of h
    obtain ⟨M_7, hc_6, h⟩ := bd_of h
    refine V_callV hE hG (ci := 0) (As := [.int p2]) (rest := []) (ok_f_X1_put hE hN hc_6) g_5 (by decide) rfl hw_X1_141 hdv_X1_put ⟨Nat.le_of_ble_eq_true rfl, Nat.le_of_ble_eq_true rfl⟩ rfl rfl (Nat.le_of_ble_eq_true rfl) ⟨Nat.le_of_ble_eq_true rfl, Nat.le_of_ble_eq_true rfl⟩ dX1_feed_22 (V_zero rfl rfl ?_)
    refine V_aload_n hG 0 rfl dX1_feed_25 ?_
    refine V_iload_n hG 3 rfl dX1_feed_26 ?_
    obtain ⟨g_8, h⟩ := gd_of h
    obtain ⟨M_10, hc_9, h⟩ := bd_of h
    refine V_callV hE hG (ci := 0) (As := [.int p3]) (rest := []) (ok_f_X1_put hE hN hc_9) g_8 (by decide) rfl hw_X1_141 hdv_X1_put ⟨Nat.le_of_ble_eq_true rfl, Nat.le_of_ble_eq_true rfl⟩ rfl rfl (Nat.le_of_ble_eq_true rfl) ⟨Nat.le_of_ble_eq_true rfl, Nat.le_of_ble_eq_true rfl⟩ dX1_feed_27 (V_zero rfl rfl ?_)
    refine V_aload_n hG 0 rfl dX1_feed_30 ?_
    refine V_iload hG 4 rfl dX1_feed_31 ?_
    obtain ⟨g_11, h⟩ := gd_of h
    obtain ⟨M_13, hc_12, h⟩ := bd_of h
    refine V_callV hE hG (ci := 0) (As := [.int p4]) (rest := []) (ok_f_X1_put hE hN hc_12) g_11 (by decide) rfl hw_X1_141 hdv_X1_put ⟨Nat.le_of_ble_eq_true rfl, Nat.le_of_ble_eq_true rfl⟩ rfl rfl (Nat.le_of_ble_eq_true rfl) ⟨Nat.le_of_ble_eq_true rfl, Nat.le_of_ble_eq_true rfl⟩ dX1_feed_33 (V_zero rfl rfl ?_)
    refine V_aload_n hG 0 rfl dX1_feed_36 ?_
    refine V_iload hG 5 rfl dX1_feed_37 ?_
    obtain ⟨g_14, h⟩ := gd_of h
    obtain ⟨M_16, hc_15, h⟩ := bd_of h
    refine V_callV hE hG (ci := 0) (As := [.int p5]) (rest := []) (ok_f_X1_put hE hN hc_15) g_14 (by decide) rfl hw_X1_141 hdv_X1_put ⟨Nat.le_of_ble_eq_true rfl, Nat.le_of_ble_eq_true rfl⟩ rfl rfl (Nat.le_of_ble_eq_true rfl) ⟨Nat.le_of_ble_eq_true rfl, Nat.le_of_ble_eq_true rfl⟩ dX1_feed_39 (V_zero rfl rfl ?_)
    refine V_aload_n hG 0 rfl dX1_feed_42 ?_
    obtain ⟨g_17, h⟩ := gd_of h
    refine gf_X1_138 hN hG g_17 dX1_feed_43 ?_
    cases h
    subst eQ
    exact V_iret hG dX1_feed_46
  · have h := if_f c_2 h
    refine V_iconst hG (-1) rfl dX1_feed_13 ?_
    cases h
    subst eQ
    exact V_iret hG dX1_feed_14

def f_X6_init (LC LZ : Nat) (p0 : Nat) (p1 : Nat) (M : Mem) : Option (Mem) :=
gd (mT M p0 = 5) (
be (sR M p0 17 (some p1)) fun (M_2 : Mem) =>
gd (mN M_2 + 1 ≤ LC ∧ mZ M_2 + 6 ≤ LZ) (
be (nw M_2 100 6) fun (M_5 : Mem) =>
gd (mT M_5 p0 = 5) (
be (sR M_5 p0 0 (some (mN M_2))) fun (M_7 : Mem) =>
gd (mN M_7 + 1 ≤ LC ∧ mZ M_7 + 6 ≤ LZ) (
be (nw M_7 100 6) fun (M_10 : Mem) =>
gd (mT M_10 p0 = 5) (
be (sR M_10 p0 1 (some (mN M_7))) fun (M_12 : Mem) =>
gd (mN M_12 + 1 ≤ LC ∧ mZ M_12 + 6 ≤ LZ) (
be (nw M_12 100 6) fun (M_15 : Mem) =>
gd (mT M_15 p0 = 5) (
be (sR M_15 p0 2 (some (mN M_12))) fun (M_17 : Mem) =>
gd (mN M_17 + 1 ≤ LC ∧ mZ M_17 + 6 ≤ LZ) (
be (nw M_17 100 6) fun (M_20 : Mem) =>
gd (mT M_20 p0 = 5) (
be (sR M_20 p0 3 (some (mN M_17))) fun (M_22 : Mem) =>
gd (mN M_22 + 1 ≤ LC ∧ mZ M_22 + 6 ≤ LZ) (
be (nw M_22 100 6) fun (M_25 : Mem) =>
gd (mT M_25 p0 = 5) (
be (sR M_25 p0 4 (some (mN M_22))) fun (M_27 : Mem) =>
gd (mN M_27 + 1 ≤ LC ∧ mZ M_27 + 6 ≤ LZ) (
be (nw M_27 100 6) fun (M_30 : Mem) =>
gd (mT M_30 p0 = 5) (
be (sR M_30 p0 5 (some (mN M_27))) fun (M_32 : Mem) =>
gd (mN M_32 ≤ LC ∧ mZ M_32 ≤ LZ) (
some M_32))))))))))))))
def rm_f_X6_init (LC LZ : Nat) (M : Mem) : Room := { frames := 1, cells := LC - mN M, slots := LZ - mZ M, locals := 40 }
theorem ok_f_X6_init {E : En} (hE : EOk E) (hN : NOk E) {LC LZ : Nat} {p0 : Nat} {p1 : Nat} {M : Mem}  {M' : Mem} (h : f_X6_init LC LZ p0 p1 M = some M') : CM E yX6_init cX6_init 2 none (rm_f_X6_init LC LZ M) [rf E p0, rf E p1] M none M' := by
  unfold f_X6_init at h
  refine CM_introX (own := RX6) rfl (by decide +kernel) (Nat.le_of_ble_eq_true rfl) rfl (fun G hG hEn hI => ?_)
  obtain ⟨Q, eQ⟩ : ∃ Q, Q = QM E G none M' (LC - mN M) (LZ - mZ M) := ⟨_, rfl⟩
  show V E G M 0 0 2 0 [(0, rf E p0), (1, rf E p1)] [] (QM E G none M' (LC - mN M) (LZ - mZ M))
  rw [← eQ]
  refine V_aload_n hG 0 rfl dX6_init_0 ?_
  refine V_aload_n hG 1 rfl dX6_init_1 ?_
  obtain ⟨g_1, h⟩ := gd_of h
  obtain ⟨M_2, eM_2, h⟩ := be_of h
  refine pf_X6_3 hN hG (hI rfl) g_1 eM_2 dX6_init_2 ?_
  have g_3 : mT M_2 p0 = 5 := by rw [eM_2]; exact g_1
  refine V_aload_n hG 0 rfl dX6_init_5 ?_
  refine V_objInit hG q310 q_oi q_oc (Nat.le_of_ble_eq_true rfl) (Nat.le_of_ble_eq_true rfl) dX6_init_6 ?_
  refine V_aload_n hG 0 rfl dX6_init_9 ?_
  refine V_bipush hG 6 (by decide) dX6_init_10 ?_
  obtain ⟨g_4, h⟩ := gd_of h
  obtain ⟨M_5, eM_5, h⟩ := be_of h
  refine A_newa0 hG hEn rfl rfl (by decide) eM_5 g_4 dX6_init_12 ?_
  obtain ⟨g_6, h⟩ := gd_of h
  obtain ⟨M_7, eM_7, h⟩ := be_of h
  refine pf_X6_15 hN hG (hI rfl) g_6 eM_7 dX6_init_14 ?_
  have g_8 : mT M_7 p0 = 5 := by rw [eM_7]; exact g_6
  refine V_aload_n hG 0 rfl dX6_init_17 ?_
  refine V_bipush hG 6 (by decide) dX6_init_18 ?_
  obtain ⟨g_9, h⟩ := gd_of h
  obtain ⟨M_10, eM_10, h⟩ := be_of h
  refine A_newa0 hG hEn rfl rfl (by decide) eM_10 g_9 dX6_init_20 ?_
  obtain ⟨g_11, h⟩ := gd_of h
  obtain ⟨M_12, eM_12, h⟩ := be_of h
  refine pf_X6_19 hN hG (hI rfl) g_11 eM_12 dX6_init_22 ?_
  have g_13 : mT M_12 p0 = 5 := by rw [eM_12]; exact g_11
  refine V_aload_n hG 0 rfl dX6_init_25 ?_
  refine V_bipush hG 6 (by decide) dX6_init_26 ?_
  obtain ⟨g_14, h⟩ := gd_of h
  obtain ⟨M_15, eM_15, h⟩ := be_of h
  refine A_newa0 hG hEn rfl rfl (by decide) eM_15 g_14 dX6_init_28 ?_
  obtain ⟨g_16, h⟩ := gd_of h
  obtain ⟨M_17, eM_17, h⟩ := be_of h
  refine pf_X6_22 hN hG (hI rfl) g_16 eM_17 dX6_init_30 ?_
  have g_18 : mT M_17 p0 = 5 := by rw [eM_17]; exact g_16
  refine V_aload_n hG 0 rfl dX6_init_33 ?_
  refine V_bipush hG 6 (by decide) dX6_init_34 ?_
  obtain ⟨g_19, h⟩ := gd_of h
  obtain ⟨M_20, eM_20, h⟩ := be_of h
  refine A_newa0 hG hEn rfl rfl (by decide) eM_20 g_19 dX6_init_36 ?_
  obtain ⟨g_21, h⟩ := gd_of h
  obtain ⟨M_22, eM_22, h⟩ := be_of h
  refine pf_X6_25 hN hG (hI rfl) g_21 eM_22 dX6_init_38 ?_
  have g_23 : mT M_22 p0 = 5 := by rw [eM_22]; exact g_21
  refine V_aload_n hG 0 rfl dX6_init_41 ?_
  refine V_bipush hG 6 (by decide) dX6_init_42 ?_
  obtain ⟨g_24, h⟩ := gd_of h
  obtain ⟨M_25, eM_25, h⟩ := be_of h
  refine A_newa0 hG hEn rfl rfl (by decide) eM_25 g_24 dX6_init_44 ?_
  obtain ⟨g_26, h⟩ := gd_of h
  obtain ⟨M_27, eM_27, h⟩ := be_of h
  refine pf_X6_28 hN hG (hI rfl) g_26 eM_27 dX6_init_46 ?_
  have g_28 : mT M_27 p0 = 5 := by rw [eM_27]; exact g_26
  refine V_aload_n hG 0 rfl dX6_init_49 ?_
  refine V_bipush hG 6 (by decide) dX6_init_50 ?_
  obtain ⟨g_29, h⟩ := gd_of h
  obtain ⟨M_30, eM_30, h⟩ := be_of h
  refine A_newa0 hG hEn rfl rfl (by decide) eM_30 g_29 dX6_init_52 ?_
  obtain ⟨g_31, h⟩ := gd_of h
  obtain ⟨M_32, eM_32, h⟩ := be_of h
  refine pf_X6_31 hN hG (hI rfl) g_31 eM_32 dX6_init_54 ?_
  have g_33 : mT M_32 p0 = 5 := by rw [eM_32]; exact g_31
  obtain ⟨g_34, h⟩ := gd_of h
  refine V_narrow hEn (fun n1 n2 n3 => V_widen (k := LC - mN M) (n := LZ - mZ M) (by omega) (by omega) ?_)
  cases h
  subst eQ
  exact V_vret hG dX6_init_57

def f_X1_keepNow_b1 (N : Nat) (LC LZ : Nat) (M : Mem) (a_49 : Nat) (p0 : Nat) (x2_56 : Int32) (S_57 : Mem) : Option ((Int32 × Mem) ⊕ (Int32 × Mem)) :=
if 20 ≤ x2_56 then (
some (.inl (x2_56, S_57)))
else (
gd (mT S_57 p0 = 0) (
bd (mR S_57 p0 12) fun (a_79 : Nat) =>
bd (mR S_57 p0 12) fun (a_81 : Nat) =>
gd (mT S_57 a_81 = 106) (
gd (inb x2_56 (mLn S_57 a_81)) (
bd (mR S_57 a_81 (Int32.toNatClampNeg x2_56)) fun (a_85 : Nat) =>
gd (mT S_57 a_79 = 106) (
gd (inb (x2_56 - 1) (mLn S_57 a_79)) (
gd (mT S_57 a_85 = 5) (
be (sR S_57 a_79 (Int32.toNatClampNeg (x2_56 - 1)) (some a_85)) fun (M_90 : Mem) =>
be (x2_56 + 1) fun (x2_95 : Int32) =>
some (.inr (x2_95, M_90)))))))))
def f_X1_keepNow (N : Nat) (LC LZ : Nat) (p0 : Nat) (M : Mem) : Option (Mem) :=
gd (mT M p0 = 0) (
bd (if mI M p0 4 = 20 then (
bd (mR M p0 12) fun (a_45 : Nat) =>
gd (mT M a_45 = 106) (
gd (inb 0 (mLn M a_45)) (
bd (mR M a_45 (Int32.toNatClampNeg 0)) fun (a_49 : Nat) =>
bd2 (lp N (fun s_76 : Int32 × Mem => f_X1_keepNow_b1 N LC LZ M a_49 p0 s_76.1 s_76.2) (1, M)) fun (x2_58 : Int32) (S_59 : Mem) =>
gd (mT S_59 p0 = 0) (
bd (mR S_59 p0 12) fun (a_63 : Nat) =>
gd (mT S_59 a_63 = 106) (
gd (inb 19 (mLn S_59 a_63)) (
gd (mT S_59 a_49 = 5) (
be (sR S_59 a_63 (Int32.toNatClampNeg 19) (some a_49)) fun (M_68 : Mem) =>
be (sI M_68 p0 4 ((mI M_68 p0 4) - 1)) fun (M_72 : Mem) =>
some M_72)))))))
else (
some M) : Option (Mem)) fun (M_2 : Mem) =>
gd (mT M_2 p0 = 0) (
bd (mR M_2 p0 12) fun (a_6 : Nat) =>
gd (mT M_2 a_6 = 106) (
gd (inb (mI M_2 p0 4) (mLn M_2 a_6)) (
bd (if mR M_2 a_6 (Int32.toNatClampNeg (mI M_2 p0 4)) = none then (
bd (mR M_2 p0 12) fun (a_31 : Nat) =>
gd (mN M_2 + 1 ≤ LC ∧ mZ M_2 + 18 ≤ LZ) (
be (nw M_2 5 18) fun (M_34 : Mem) =>
gd (mN M_34 ≤ LC ∧ mZ M_34 ≤ LZ) (
bd (f_X6_init LC LZ (mN M_2) p0 M_34) fun (M_37 : Mem) =>
gd (mT M_37 a_31 = 106) (
gd (inb (mI M_2 p0 4) (mLn M_37 a_31)) (
gd (mT M_37 (mN M_2) = 5) (
be (sR M_37 a_31 (Int32.toNatClampNeg (mI M_2 p0 4)) (some (mN M_2))) fun (M_41 : Mem) =>
some M_41))))))
else (
some M_2) : Option (Mem)) fun (M_10 : Mem) =>
gd (mT M_10 p0 = 0) (
bd (mR M_10 p0 12) fun (a_14 : Nat) =>
gd (mT M_10 a_14 = 106) (
gd (inb (mI M_10 p0 4) (mLn M_10 a_14)) (
bd (mR M_10 a_14 (Int32.toNatClampNeg (mI M_10 p0 4))) fun (a_18 : Nat) =>
bd (mR M_10 p0 9) fun (a_20 : Nat) =>
gd (mT M_10 a_18 = 5) (
gd (mN M_10 ≤ LC ∧ mZ M_10 ≤ LZ) (
bd (f_X6_become N a_18 a_20 M_10) fun (M_25 : Mem) =>
gd (mT M_25 p0 = 0) (
be (sI M_25 p0 4 ((mI M_25 p0 4) + 1)) fun (M_27 : Mem) =>
gd (mN M_27 ≤ LC ∧ mZ M_27 ≤ LZ) (
some M_27)))))))))))
def rm_f_X1_keepNow (LC LZ : Nat) (M : Mem) : Room := { frames := 2, cells := LC - mN M, slots := LZ - mZ M, locals := 61 }
theorem ok_f_X1_keepNow {E : En} (hE : EOk E) (hN : NOk E) {N : Nat} {LC LZ : Nat} {p0 : Nat} {M : Mem}  {M' : Mem} (h : f_X1_keepNow N LC LZ p0 M = some M') : CM E yX1_keepNow cX1_keepNow 3 none (rm_f_X1_keepNow LC LZ M) [rf E p0] M none M' := by
  unfold f_X1_keepNow at h
  refine CM_introX (own := RX1) rfl (by decide +kernel) (Nat.le_of_ble_eq_true rfl) rfl (fun G hG hEn hI => ?_)
  obtain ⟨Q, eQ⟩ : ∃ Q, Q = QM E G none M' (LC - mN M) (LZ - mZ M) := ⟨_, rfl⟩
  show V E G M 0 0 3 0 [(0, rf E p0)] [] (QM E G none M' (LC - mN M) (LZ - mZ M))
  rw [← eQ]
  refine V_aload_n hG 0 rfl dX1_keepNow_0 ?_
  obtain ⟨g_1, h⟩ := gd_of h
  refine gf_X1_163 hN hG g_1 dX1_keepNow_1 ?_
  refine V_bipush hG 20 (by decide) dX1_keepNow_4 ?_
  obtain ⟨M_2, hj_4, h⟩ := bd_of h
  have J_3 : V E G M_2 (mN M_2 - mN M) (mZ M_2 - mZ M) 3 62 [(0, rf E p0)] [] Q := by
    refine V_aload_n hG 0 rfl dX1_keepNow_62 ?_
    obtain ⟨g_5, h⟩ := gd_of h
    obtain ⟨a_6, hr_7, h⟩ := bd_of h
    refine gf_X1_111 hN hG g_5 hr_7 dX1_keepNow_63 ?_
    refine V_aload_n hG 0 rfl dX1_keepNow_66 ?_
    refine gf_X1_163 hN hG g_5 dX1_keepNow_67 ?_
    obtain ⟨g_8, h⟩ := gd_of h
    obtain ⟨g_9, h⟩ := gd_of h
    refine W_aaloadQ6 hG g_8 g_9 dX1_keepNow_70 ?_
    obtain ⟨M_10, hj_12, h⟩ := bd_of h
    have J_11 : V E G M_10 (mN M_10 - mN M) (mZ M_10 - mZ M) 3 91 [(0, rf E p0)] [] Q := by
      refine V_aload_n hG 0 rfl dX1_keepNow_91 ?_
      obtain ⟨g_13, h⟩ := gd_of h
      obtain ⟨a_14, hr_15, h⟩ := bd_of h
      refine gf_X1_111 hN hG g_13 hr_15 dX1_keepNow_92 ?_
      refine V_aload_n hG 0 rfl dX1_keepNow_95 ?_
      refine gf_X1_163 hN hG g_13 dX1_keepNow_96 ?_
      obtain ⟨g_16, h⟩ := gd_of h
      obtain ⟨g_17, h⟩ := gd_of h
      obtain ⟨a_18, hr_19, h⟩ := bd_of h
      refine W_aaload6 hG g_16 g_17 hr_19 dX1_keepNow_99 ?_
      refine V_aload_n hG 0 rfl dX1_keepNow_100 ?_
      obtain ⟨a_20, hr_21, h⟩ := bd_of h
      refine gf_X1_101 hN hG g_13 hr_21 dX1_keepNow_101 ?_
      obtain ⟨g_22, h⟩ := gd_of h
      obtain ⟨g_23, h⟩ := gd_of h
      refine V_narrow hEn (fun n1 n2 n3 => ?_)
      obtain ⟨M_25, hc_24, h⟩ := bd_of h
      refine V_callV hE hG (ci := 5) (As := [rf E a_20]) (rest := []) (ok_f_X6_become hE hN hc_24) g_22 (by decide) rfl hw_X1_254 hdv_X6_become ⟨Nat.le_of_ble_eq_true rfl, Nat.le_of_ble_eq_true rfl⟩ rfl rfl (Nat.le_of_ble_eq_true rfl) ⟨by show _ + 0 ≤ LC - mN M; omega, by show _ + 0 ≤ LZ - mZ M; omega⟩ dX1_keepNow_104 ?_
      refine V_aload_n hG 0 rfl dX1_keepNow_107 ?_
      refine V_dup hG rfl dX1_keepNow_108 ?_
      obtain ⟨g_26, h⟩ := gd_of h
      refine gf_X1_163 hN hG g_26 dX1_keepNow_109 ?_
      refine V_iconst hG 1 rfl dX1_keepNow_112 ?_
      refine V_iadd hG dX1_keepNow_113 ?_
      obtain ⟨M_27, eM_27, h⟩ := be_of h
      refine pf_X1_163 hN hG g_26 eM_27 dX1_keepNow_114 ?_
      have g_28 : mT M_27 p0 = 0 := by rw [eM_27]; exact g_26
      obtain ⟨g_29, h⟩ := gd_of h
      refine V_narrow hEn (fun n1 n2 n3 => V_widen (k := LC - mN M) (n := LZ - mZ M) (by omega) (by omega) ?_)
      cases h
      subst eQ
      exact V_vret hG dX1_keepNow_117
    refine W_ifnonnull hG 91 dX1_keepNow_71 (by decide) (fun c_30 => ?_) (fun c_30 => ?_)
    · have hj_12 := if_t c_30 hj_12
      refine V_aload_n hG 0 rfl dX1_keepNow_74 ?_
      obtain ⟨a_31, hr_32, hj_12⟩ := bd_of hj_12
      refine gf_X1_111 hN hG g_5 hr_32 dX1_keepNow_75 ?_
      refine V_aload_n hG 0 rfl dX1_keepNow_78 ?_
      refine gf_X1_163 hN hG g_5 dX1_keepNow_79 ?_
      obtain ⟨g_33, hj_12⟩ := gd_of hj_12
      obtain ⟨M_34, eM_34, hj_12⟩ := be_of hj_12
      refine nw_X1_98 hG hEn rfl rfl eM_34 g_33 dX1_keepNow_82 ?_
      refine V_dup hG rfl dX1_keepNow_85 ?_
      refine V_aload_n hG 0 rfl dX1_keepNow_86 ?_
      obtain ⟨g_35, hj_12⟩ := gd_of hj_12
      refine V_narrow hEn (fun n1 n2 n3 => ?_)
      obtain ⟨M_37, hc_36, hj_12⟩ := bd_of hj_12
      refine W_callIN hE hG hN (rt := none) (As := [rf E p0]) (rest := [rf E (mN M_2), .int (mI M_2 p0 4), rf E a_31]) (ok_f_X6_init hE hN hc_36) q307 (lw_meth q309) q131 q308 rfl hdc_X6_init ⟨Nat.le_of_ble_eq_true rfl, Nat.le_of_ble_eq_true rfl⟩ rfl rfl (Nat.le_of_ble_eq_true rfl) ⟨by show _ + (LC - mN M_34) ≤ LC - mN M; omega, by show _ + (LZ - mZ M_34) ≤ LZ - mZ M; omega⟩ dX1_keepNow_87 ?_
      obtain ⟨g_38, hj_12⟩ := gd_of hj_12
      obtain ⟨g_39, hj_12⟩ := gd_of hj_12
      obtain ⟨g_40, hj_12⟩ := gd_of hj_12
      obtain ⟨M_41, eM_41, hj_12⟩ := be_of hj_12
      refine as_6 hN hG g_38 g_39 g_40 eM_41 dX1_keepNow_90 ?_
      have g_42 : mT M_41 a_31 = 106 := by rw [eM_41]; exact g_38
      have g_43 : mT M_41 (mN M_2) = 5 := by rw [eM_41]; exact g_40
      cases hj_12
      exact V_narrow hEn (fun _ _ _ => J_11)
    · have hj_12 := if_f c_30 hj_12
      cases hj_12
      exact V_narrow hEn (fun _ _ _ => J_11)
  refine V_icmp_ne hG 62 dX1_keepNow_6 (by decide) (fun c_44 => ?_) (fun c_44 => ?_)
  · have hj_4 := if_f c_44 hj_4
    cases hj_4
    exact V_narrow hEn (fun _ _ _ => J_3)
  · have hj_4 := if_t c_44 hj_4
    refine V_aload_n hG 0 rfl dX1_keepNow_9 ?_
    obtain ⟨a_45, hr_46, hj_4⟩ := bd_of hj_4
    refine gf_X1_111 hN hG g_1 hr_46 dX1_keepNow_10 ?_
    refine V_iconst hG 0 rfl dX1_keepNow_13 ?_
    obtain ⟨g_47, hj_4⟩ := gd_of hj_4
    obtain ⟨g_48, hj_4⟩ := gd_of hj_4
    obtain ⟨a_49, hr_50, hj_4⟩ := bd_of hj_4
    refine W_aaload6 hG g_47 g_48 hr_50 dX1_keepNow_14 ?_
    refine V_astore_n hG rfl [(1, rf E a_49), (0, rf E p0)] dX1_keepNow_15 (Nat.le_of_ble_eq_true rfl) rfl ?_
    refine V_iconst hG 1 rfl dX1_keepNow_16 ?_
    refine V_istore_n hG rfl [(2, .int 1), (1, rf E a_49), (0, rf E p0)] dX1_keepNow_17 (Nat.le_of_ble_eq_true rfl) rfl ?_
    obtain ⟨x2_58, S_59, hL_60, hj_4⟩ := bd2_of hj_4
    have J_55 : ∀ q_61 : Int32 × Mem, q_61 = (x2_58, S_59) → V E G q_61.2 (mN q_61.2 - mN M) (mZ q_61.2 - mZ M) 3 44 [(2, .int q_61.1), (1, rf E a_49), (0, rf E p0)] [] Q := by
      intro q_61 e9
      subst q_61
      show V E G S_59 (mN S_59 - mN M) (mZ S_59 - mZ M) 3 44 [(2, .int x2_58), (1, rf E a_49), (0, rf E p0)] [] Q
      refine V_aload_n hG 2 rfl dX1_keepNow_44 ?_
      obtain ⟨g_62, hj_4⟩ := gd_of hj_4
      obtain ⟨a_63, hr_64, hj_4⟩ := bd_of hj_4
      refine gf_X1_111 hN hG g_62 hr_64 dX1_keepNow_45 ?_
      refine V_bipush hG 19 (by decide) dX1_keepNow_48 ?_
      refine V_aload_n hG 1 rfl dX1_keepNow_50 ?_
      obtain ⟨g_65, hj_4⟩ := gd_of hj_4
      obtain ⟨g_66, hj_4⟩ := gd_of hj_4
      obtain ⟨g_67, hj_4⟩ := gd_of hj_4
      obtain ⟨M_68, eM_68, hj_4⟩ := be_of hj_4
      refine as_6 hN hG g_65 g_66 g_67 eM_68 dX1_keepNow_51 ?_
      have g_69 : mT M_68 p0 = 0 := by rw [eM_68]; exact g_62
      have g_70 : mT M_68 a_63 = 106 := by rw [eM_68]; exact g_65
      have g_71 : mT M_68 a_49 = 5 := by rw [eM_68]; exact g_67
      refine V_aload_n hG 2 rfl dX1_keepNow_52 ?_
      refine V_dup hG rfl dX1_keepNow_53 ?_
      refine gf_X1_163 hN hG g_69 dX1_keepNow_54 ?_
      refine V_iconst hG 1 rfl dX1_keepNow_57 ?_
      refine V_isub hG dX1_keepNow_58 ?_
      obtain ⟨M_72, eM_72, hj_4⟩ := be_of hj_4
      refine pf_X1_163 hN hG g_69 eM_72 dX1_keepNow_59 ?_
      have g_73 : mT M_72 p0 = 0 := by rw [eM_72]; exact g_69
      have g_74 : mT M_72 a_63 = 106 := by rw [eM_72]; exact g_70
      have g_75 : mT M_72 a_49 = 5 := by rw [eM_72]; exact g_71
      cases hj_4
      exact V_narrow hEn (fun _ _ _ => V_lv [2] rfl (J_3))
    refine V_narrow hEn (fun _ _ _ => ?_)
    refine lp_walk (W := fun s_76 : Int32 × Mem => V E G s_76.2 (mN s_76.2 - mN M) (mZ s_76.2 - mZ M) 3 18 [(2, .int s_76.1), (1, rf E a_49), (0, rf E p0)] [] Q) ?_ N (1, M) hL_60
    intro s_76 b_51 hb_52 hk_53 hx_54
    obtain ⟨x2_56, S_57⟩ := s_76
    have hb_52 : f_X1_keepNow_b1 N LC LZ M a_49 p0 x2_56 S_57 = some b_51 := hb_52
    unfold f_X1_keepNow_b1 at hb_52
    show V E G S_57 (mN S_57 - mN M) (mZ S_57 - mZ M) 3 18 [(2, .int x2_56), (1, rf E a_49), (0, rf E p0)] [] Q
    refine V_iload_n hG 0 rfl dX1_keepNow_18 ?_
    refine V_bipush hG 20 (by decide) dX1_keepNow_19 ?_
    refine V_icmp_ge hG 44 dX1_keepNow_21 (by decide) (fun c_77 => ?_) (fun c_77 => ?_)
    · have hb_52 := if_t c_77 hb_52
      cases hb_52
      exact V_narrow hEn (fun _ _ _ => J_55 _ (hx_54 _ rfl))
    · have hb_52 := if_f c_77 hb_52
      refine V_aload_n hG 2 rfl dX1_keepNow_24 ?_
      obtain ⟨g_78, hb_52⟩ := gd_of hb_52
      obtain ⟨a_79, hr_80, hb_52⟩ := bd_of hb_52
      refine gf_X1_111 hN hG g_78 hr_80 dX1_keepNow_25 ?_
      refine V_iload_n hG 0 rfl dX1_keepNow_28 ?_
      refine V_iconst hG 1 rfl dX1_keepNow_29 ?_
      refine V_isub hG dX1_keepNow_30 ?_
      refine V_aload_n hG 2 rfl dX1_keepNow_31 ?_
      obtain ⟨a_81, hr_82, hb_52⟩ := bd_of hb_52
      refine gf_X1_111 hN hG g_78 hr_82 dX1_keepNow_32 ?_
      refine V_iload_n hG 0 rfl dX1_keepNow_35 ?_
      obtain ⟨g_83, hb_52⟩ := gd_of hb_52
      obtain ⟨g_84, hb_52⟩ := gd_of hb_52
      obtain ⟨a_85, hr_86, hb_52⟩ := bd_of hb_52
      refine W_aaload6 hG g_83 g_84 hr_86 dX1_keepNow_36 ?_
      obtain ⟨g_87, hb_52⟩ := gd_of hb_52
      obtain ⟨g_88, hb_52⟩ := gd_of hb_52
      obtain ⟨g_89, hb_52⟩ := gd_of hb_52
      obtain ⟨M_90, eM_90, hb_52⟩ := be_of hb_52
      refine as_6 hN hG g_87 g_88 g_89 eM_90 dX1_keepNow_37 ?_
      have g_91 : mT M_90 p0 = 0 := by rw [eM_90]; exact g_78
      have g_92 : mT M_90 a_81 = 106 := by rw [eM_90]; exact g_83
      have g_93 : mT M_90 a_79 = 106 := by rw [eM_90]; exact g_87
      have g_94 : mT M_90 a_85 = 5 := by rw [eM_90]; exact g_89
      obtain ⟨x2_95, ex2_95, hb_52⟩ := be_of hb_52
      refine V_iinc hG 0 x2_95 rfl (by rw [ex2_95]; rfl) [(2, .int x2_95), (1, rf E a_49), (0, rf E p0)] dX1_keepNow_38 (Nat.le_of_ble_eq_true rfl) rfl ?_
      refine V_goto hG 18 dX1_keepNow_41 (by decide) ?_
      cases hb_52
      exact V_narrow hEn (fun _ _ _ => hk_53 _ rfl)

def f_X1_fill (N : Nat) (LC LZ : Nat) (p0 : Nat) (p1 : Int32) (p2 : Int32) (M : Mem) : Option (Int32 × Mem) :=
gd (mT M p0 = 0) (
gd (mN M ≤ LC ∧ mZ M ≤ LZ) (
bd (f_X1_isTrough p0 p1 M) fun (r_4 : Int32) =>
if r_4 = 0 then (
gd (mN M ≤ LC ∧ mZ M ≤ LZ) (
some ((-1), M)))
else (
gd (mN M ≤ LC ∧ mZ M ≤ LZ) (
bd (f_X1_in (Int32.toInt64 p2) 1 99 M) fun (r_9 : Int32) =>
if r_9 = 0 then (
gd (mN M ≤ LC ∧ mZ M ≤ LZ) (
some ((-1), M)))
else (
gd (mN M ≤ LC ∧ mZ M ≤ LZ) (
bd (f_X1_keepNow N LC LZ p0 M) fun (M_13 : Mem) =>
gd (mT M_13 p0 = 0) (
bd (mR M_13 p0 9) fun (a_15 : Nat) =>
gd (mT M_13 a_15 = 5) (
bd (mR M_13 a_15 5) fun (a_18 : Nat) =>
bd (mR M_13 p0 9) fun (a_20 : Nat) =>
gd (mT M_13 a_20 = 5) (
bd (mR M_13 a_20 5) fun (a_23 : Nat) =>
gd (mT M_13 a_23 = 100) (
gd (inb p1 (mLn M_13 a_23)) (
gd (mN M_13 ≤ LC ∧ mZ M_13 ≤ LZ) (
bd (f_J8_min 99 ((mI M_13 a_23 (Int32.toNatClampNeg p1)) + p2) M_13) fun (r_29 : Int32) =>
gd (mT M_13 a_18 = 100) (
gd (inb p1 (mLn M_13 a_18)) (
be (sI M_13 a_18 (Int32.toNatClampNeg p1) r_29) fun (M_32 : Mem) =>
bd (mR M_32 p0 9) fun (a_38 : Nat) =>
gd (mT M_32 a_38 = 5) (
bd (mR M_32 a_38 5) fun (a_41 : Nat) =>
gd (mT M_32 a_41 = 100) (
gd (inb p1 (mLn M_32 a_41)) (
gd (mN M_32 ≤ LC ∧ mZ M_32 ≤ LZ) (
some (mI M_32 a_41 (Int32.toNatClampNeg p1), M_32)))))))))))))))))))
def rm_f_X1_fill (LC LZ : Nat) (M : Mem) : Room := { frames := 3, cells := LC - mN M, slots := LZ - mZ M, locals := 83 }
theorem ok_f_X1_fill {E : En} (hE : EOk E) (hN : NOk E) {N : Nat} {LC LZ : Nat} {p0 : Nat} {p1 : Int32} {p2 : Int32} {M : Mem} {r : Int32} {M' : Mem} (h : f_X1_fill N LC LZ p0 p1 p2 M = some (r, M')) : CM E yX1_fill cX1_fill 3 (some .int) (rm_f_X1_fill LC LZ M) [rf E p0, .int p1, .int p2] M (some (.int r)) M' := by
  unfold f_X1_fill at h
  refine CM_introX (own := RX1) rfl (by decide +kernel) (Nat.le_of_ble_eq_true rfl) rfl (fun G hG hEn hI => ?_)
  obtain ⟨Q, eQ⟩ : ∃ Q, Q = QM E G (some (.int r)) M' (LC - mN M) (LZ - mZ M) := ⟨_, rfl⟩
  show V E G M 0 0 3 0 [(0, rf E p0), (1, .int p1), (2, .int p2)] [] (QM E G (some (.int r)) M' (LC - mN M) (LZ - mZ M))
  rw [← eQ]
  refine V_aload_n hG 0 rfl dX1_fill_0 ?_
  refine V_iload_n hG 1 rfl dX1_fill_1 ?_
  obtain ⟨g_1, h⟩ := gd_of h
  obtain ⟨g_2, h⟩ := gd_of h
  refine V_narrow hEn (fun n1 n2 n3 => ?_)
  obtain ⟨r_4, hc_3, h⟩ := bd_of h
  refine V_callV hE hG (ci := 0) (As := [.int p1]) (rest := []) (ok_f_X1_isTrough hE hN hc_3) g_1 (by decide) rfl hw_X1_233 hdv_X1_isTrough ⟨Nat.le_of_ble_eq_true rfl, Nat.le_of_ble_eq_true rfl⟩ rfl rfl (Nat.le_of_ble_eq_true rfl) ⟨by show _ + 0 ≤ LC - mN M; omega, by show _ + 0 ≤ LZ - mZ M; omega⟩ dX1_fill_2 ?_
  refine V_if_eq hG 20 dX1_fill_5 (by decide) (fun c_5 => ?_) (fun c_5 => ?_)
  · have h := if_t c_5 h
    refine V_iconst hG (-1) rfl dX1_fill_20 ?_
    obtain ⟨g_6, h⟩ := gd_of h
    refine V_narrow hEn (fun n1 n2 n3 => V_widen (k := LC - mN M) (n := LZ - mZ M) (by omega) (by omega) ?_)
    cases h
    subst eQ
    exact V_iret hG dX1_fill_21
  · have h := if_f c_5 h
    refine V_iload_n hG 2 rfl dX1_fill_8 ?_
    refine V_i2l hG dX1_fill_9 ?_
    refine V_lconst hG 1 rfl dX1_fill_10 ?_
    refine V_ldc2 hG q1108 dX1_fill_11 ?_
    obtain ⟨g_7, h⟩ := gd_of h
    refine V_narrow hEn (fun n1 n2 n3 => ?_)
    obtain ⟨r_9, hc_8, h⟩ := bd_of h
    refine V_callS hE hG (As := [.long (Int32.toInt64 p2), .long 1, .long 99]) (rest := []) (ok_f_X1_in hE hN hc_8) hw_X1_144 hdc_X1_in ⟨Nat.le_of_ble_eq_true rfl, Nat.le_of_ble_eq_true rfl⟩ rfl rfl (Nat.le_of_ble_eq_true rfl) ⟨by show _ + 0 ≤ LC - mN M; omega, by show _ + 0 ≤ LZ - mZ M; omega⟩ dX1_fill_14 ?_
    refine V_if_ne hG 22 dX1_fill_17 (by decide) (fun c_10 => ?_) (fun c_10 => ?_)
    · have h := if_f c_10 h
      refine V_aload_n hG 0 rfl dX1_fill_22 ?_
      obtain ⟨g_11, h⟩ := gd_of h
      refine V_narrow hEn (fun n1 n2 n3 => ?_)
      obtain ⟨M_13, hc_12, h⟩ := bd_of h
      refine V_callV hE hG (ci := 0) (As := []) (rest := []) (ok_f_X1_keepNow hE hN hc_12) g_1 (by decide) rfl hw_X1_258 hdv_X1_keepNow ⟨Nat.le_of_ble_eq_true rfl, Nat.le_of_ble_eq_true rfl⟩ rfl rfl (Nat.le_of_ble_eq_true rfl) ⟨by show _ + (LC - mN M) ≤ LC - mN M; omega, by show _ + (LZ - mZ M) ≤ LZ - mZ M; omega⟩ dX1_fill_23 ?_
      refine V_aload_n hG 0 rfl dX1_fill_26 ?_
      obtain ⟨g_14, h⟩ := gd_of h
      obtain ⟨a_15, hr_16, h⟩ := bd_of h
      refine gf_X1_101 hN hG g_14 hr_16 dX1_fill_27 ?_
      obtain ⟨g_17, h⟩ := gd_of h
      obtain ⟨a_18, hr_19, h⟩ := bd_of h
      refine gf_X1_236 hN hG g_17 hr_19 dX1_fill_30 ?_
      refine V_iload_n hG 1 rfl dX1_fill_33 ?_
      refine V_bipush hG 99 (by decide) dX1_fill_34 ?_
      refine V_aload_n hG 0 rfl dX1_fill_36 ?_
      obtain ⟨a_20, hr_21, h⟩ := bd_of h
      refine gf_X1_101 hN hG g_14 hr_21 dX1_fill_37 ?_
      obtain ⟨g_22, h⟩ := gd_of h
      obtain ⟨a_23, hr_24, h⟩ := bd_of h
      refine gf_X1_236 hN hG g_22 hr_24 dX1_fill_40 ?_
      refine V_iload_n hG 1 rfl dX1_fill_43 ?_
      obtain ⟨g_25, h⟩ := gd_of h
      obtain ⟨g_26, h⟩ := gd_of h
      refine V_iaload hG g_25 g_26 dX1_fill_44 ?_
      refine V_iload_n hG 2 rfl dX1_fill_45 ?_
      refine V_iadd hG dX1_fill_46 ?_
      obtain ⟨g_27, h⟩ := gd_of h
      refine V_narrow hEn (fun n1 n2 n3 => ?_)
      obtain ⟨r_29, hc_28, h⟩ := bd_of h
      refine V_callS hE hG (As := [.int 99, .int ((mI M_13 a_23 (Int32.toNatClampNeg p1)) + p2)]) (rest := [.int p1, rf E a_18]) (ok_f_J8_min hE hN hc_28) hw_X1_266 hdc_J8_min ⟨Nat.le_of_ble_eq_true rfl, Nat.le_of_ble_eq_true rfl⟩ rfl rfl (Nat.le_of_ble_eq_true rfl) ⟨by show _ + 0 ≤ LC - mN M; omega, by show _ + 0 ≤ LZ - mZ M; omega⟩ dX1_fill_47 ?_
      obtain ⟨g_30, h⟩ := gd_of h
      obtain ⟨g_31, h⟩ := gd_of h
      obtain ⟨M_32, eM_32, h⟩ := be_of h
      refine W_iastore hG g_30 g_31 M_32 eM_32 dX1_fill_50 ?_
      have g_33 : mT M_32 p0 = 0 := by rw [eM_32]; exact g_14
      have g_34 : mT M_32 a_15 = 5 := by rw [eM_32]; exact g_17
      have g_35 : mT M_32 a_20 = 5 := by rw [eM_32]; exact g_22
      have g_36 : mT M_32 a_23 = 100 := by rw [eM_32]; exact g_25
      have g_37 : mT M_32 a_18 = 100 := by rw [eM_32]; exact g_30
      refine V_aload_n hG 0 rfl dX1_fill_51 ?_
      obtain ⟨a_38, hr_39, h⟩ := bd_of h
      refine gf_X1_101 hN hG g_33 hr_39 dX1_fill_52 ?_
      obtain ⟨g_40, h⟩ := gd_of h
      obtain ⟨a_41, hr_42, h⟩ := bd_of h
      refine gf_X1_236 hN hG g_40 hr_42 dX1_fill_55 ?_
      refine V_iload_n hG 1 rfl dX1_fill_58 ?_
      obtain ⟨g_43, h⟩ := gd_of h
      obtain ⟨g_44, h⟩ := gd_of h
      refine V_iaload hG g_43 g_44 dX1_fill_59 ?_
      obtain ⟨g_45, h⟩ := gd_of h
      refine V_narrow hEn (fun n1 n2 n3 => V_widen (k := LC - mN M) (n := LZ - mZ M) (by omega) (by omega) ?_)
      cases h
      subst eQ
      exact V_iret hG dX1_fill_60
    · have h := if_t c_10 h
      refine V_iconst hG (-1) rfl dX1_fill_20 ?_
      obtain ⟨g_46, h⟩ := gd_of h
      refine V_narrow hEn (fun n1 n2 n3 => V_widen (k := LC - mN M) (n := LZ - mZ M) (by omega) (by omega) ?_)
      cases h
      subst eQ
      exact V_iret hG dX1_fill_21

def f_X1_legHours (p0 : Nat) (p1 : Int32) (p2 : Int32) (p3 : Int32) (M : Mem) : Option (Int32) :=
bd (f_J8_abs (p2 - p3) M) fun (r_2 : Int32) =>
gd (mT M p0 = 0) (
bd (f_X1_horse p0 p1 M) fun (r_5 : Nat) =>
gd (mT M r_5 = 8) (
bd (f_X1_horse p0 p1 M) fun (r_8 : Nat) =>
gd (mT M r_8 = 8) (
gd (¬ mI M r_8 4 = 0) (
some (((r_2 + (mI M r_5 4)) - 1) / (mI M r_8 4))))))
def rm_f_X1_legHours : Room := { frames := 4, cells := 0, slots := 0, locals := 85 }
theorem ok_f_X1_legHours {E : En} (hE : EOk E) (hN : NOk E) {p0 : Nat} {p1 : Int32} {p2 : Int32} {p3 : Int32} {M : Mem} {r : Int32} (h : f_X1_legHours p0 p1 p2 p3 M = some r) : CM E yX1_legHours cX1_legHours 4 (some .int) rm_f_X1_legHours [rf E p0, .int p1, .int p2, .int p3] M (some (.int r)) M := by
  unfold f_X1_legHours at h
  refine CM_introX (own := RX1) rfl (by decide +kernel) (Nat.le_of_ble_eq_true rfl) rfl (fun G hG hEn hI => ?_)
  obtain ⟨Q, eQ⟩ : ∃ Q, Q = QM E G (some (.int r)) M 0 0 := ⟨_, rfl⟩
  show V E G M 0 0 4 0 [(0, rf E p0), (1, .int p1), (2, .int p2), (3, .int p3)] [] (QM E G (some (.int r)) M 0 0)
  rw [← eQ]
  refine V_iload_n hG 2 rfl dX1_legHours_0 ?_
  refine V_iload_n hG 3 rfl dX1_legHours_1 ?_
  refine V_isub hG dX1_legHours_2 ?_
  obtain ⟨r_2, hc_1, h⟩ := bd_of h
  refine V_callS hE hG (As := [.int (p2 - p3)]) (rest := []) (ok_f_J8_abs hE hN hc_1) hw_X1_261 hdc_J8_abs ⟨Nat.le_of_ble_eq_true rfl, Nat.le_of_ble_eq_true rfl⟩ rfl rfl (Nat.le_of_ble_eq_true rfl) ⟨Nat.le_of_ble_eq_true rfl, Nat.le_of_ble_eq_true rfl⟩ dX1_legHours_3 (V_zero rfl rfl ?_)
  refine V_aload_n hG 0 rfl dX1_legHours_6 ?_
  refine V_iload_n hG 1 rfl dX1_legHours_7 ?_
  obtain ⟨g_3, h⟩ := gd_of h
  obtain ⟨r_5, hc_4, h⟩ := bd_of h
  refine V_callV hE hG (ci := 0) (As := [.int p1]) (rest := [.int r_2]) (ok_f_X1_horse hE hN hc_4) g_3 (by decide) rfl hw_X1_193 hdv_X1_horse ⟨Nat.le_of_ble_eq_true rfl, Nat.le_of_ble_eq_true rfl⟩ rfl rfl (Nat.le_of_ble_eq_true rfl) ⟨Nat.le_of_ble_eq_true rfl, Nat.le_of_ble_eq_true rfl⟩ dX1_legHours_8 (V_zero rfl rfl ?_)
  obtain ⟨g_6, h⟩ := gd_of h
  refine gf_X1_206 hN hG g_6 dX1_legHours_11 ?_
  refine V_iadd hG dX1_legHours_14 ?_
  refine V_iconst hG 1 rfl dX1_legHours_15 ?_
  refine V_isub hG dX1_legHours_16 ?_
  refine V_aload_n hG 0 rfl dX1_legHours_17 ?_
  refine V_iload_n hG 1 rfl dX1_legHours_18 ?_
  obtain ⟨r_8, hc_7, h⟩ := bd_of h
  refine V_callV hE hG (ci := 0) (As := [.int p1]) (rest := [.int ((r_2 + (mI M r_5 4)) - 1)]) (ok_f_X1_horse hE hN hc_7) g_3 (by decide) rfl hw_X1_193 hdv_X1_horse ⟨Nat.le_of_ble_eq_true rfl, Nat.le_of_ble_eq_true rfl⟩ rfl rfl (Nat.le_of_ble_eq_true rfl) ⟨Nat.le_of_ble_eq_true rfl, Nat.le_of_ble_eq_true rfl⟩ dX1_legHours_19 (V_zero rfl rfl ?_)
  obtain ⟨g_9, h⟩ := gd_of h
  refine gf_X1_206 hN hG g_9 dX1_legHours_22 ?_
  obtain ⟨g_10, h⟩ := gd_of h
  refine V_idiv hG g_10 dX1_legHours_25 ?_
  cases h
  subst eQ
  exact V_iret hG dX1_legHours_26

def f_X1_hoursTo_b1 (N : Nat) (p0 : Nat) (p1 : Int32) (M : Mem) (x3_6 : Int32) (x2_7 : Int32) : Option ((Int32 × Int32) ⊕ (Int32 × Int32)) :=
gd (mT M p0 = 0) (
bd (f_X1_horses p0 M) fun (r_15 : Int32) =>
if r_15 ≤ x3_6 then (
some (.inl (x3_6, x2_7)))
else (
bd (mR M p0 9) fun (a_17 : Nat) =>
gd (mT M a_17 = 5) (
bd (f_X6_isOn a_17 x3_6 M) fun (r_21 : Int32) =>
bd (if r_21 = 0 then (
some 0)
else (
bd (mR M p0 9) fun (a_29 : Nat) =>
gd (mT M a_29 = 5) (
bd (mR M a_29 0) fun (a_32 : Nat) =>
gd (mT M a_32 = 100) (
gd (inb x3_6 (mLn M a_32)) (
bd (f_X1_trough p0 p1 M) fun (r_37 : Nat) =>
gd (mT M r_37 = 7) (
bd (f_X1_legHours p0 x3_6 (mI M a_32 (Int32.toNatClampNeg x3_6)) (mI M r_37 0) M) fun (r_40 : Int32) =>
some r_40))))) : Option (Int32)) fun (t_22 : Int32) =>
bd (f_J8_max x2_7 t_22 M) fun (r_26 : Int32) =>
be (x3_6 + 1) fun (x3_27 : Int32) =>
some (.inr (x3_27, r_26)))))
def f_X1_hoursTo (N : Nat) (p0 : Nat) (p1 : Int32) (M : Mem) : Option (Int32) :=
bd2 (lp N (fun s_12 : Int32 × Int32 => f_X1_hoursTo_b1 N p0 p1 M s_12.1 s_12.2) (0, 0)) fun (x3_8 : Int32) (x2_9 : Int32) =>
some x2_9
def rm_f_X1_hoursTo : Room := { frames := 5, cells := 0, slots := 0, locals := 108 }
theorem ok_f_X1_hoursTo {E : En} (hE : EOk E) (hN : NOk E) {N : Nat} {p0 : Nat} {p1 : Int32} {M : Mem} {r : Int32} (h : f_X1_hoursTo N p0 p1 M = some r) : CM E yX1_hoursTo cX1_hoursTo 4 (some .int) rm_f_X1_hoursTo [rf E p0, .int p1] M (some (.int r)) M := by
  unfold f_X1_hoursTo at h
  refine CM_introX (own := RX1) rfl (by decide +kernel) (Nat.le_of_ble_eq_true rfl) rfl (fun G hG hEn hI => ?_)
  obtain ⟨Q, eQ⟩ : ∃ Q, Q = QM E G (some (.int r)) M 0 0 := ⟨_, rfl⟩
  show V E G M 0 0 4 0 [(0, rf E p0), (1, .int p1)] [] (QM E G (some (.int r)) M 0 0)
  rw [← eQ]
  refine V_iconst hG 0 rfl dX1_hoursTo_0 ?_
  refine V_istore_n hG rfl [(2, .int 0), (0, rf E p0), (1, .int p1)] dX1_hoursTo_1 (Nat.le_of_ble_eq_true rfl) rfl ?_
  refine V_iconst hG 0 rfl dX1_hoursTo_2 ?_
  refine V_istore_n hG rfl [(3, .int 0), (2, .int 0), (0, rf E p0), (1, .int p1)] dX1_hoursTo_3 (Nat.le_of_ble_eq_true rfl) rfl ?_
  obtain ⟨x3_8, x2_9, hL_10, h⟩ := bd2_of h
  have J_5 : ∀ q_11 : Int32 × Int32, q_11 = (x3_8, x2_9) → V E G M 0 0 4 60 [(3, .int q_11.1), (2, .int q_11.2), (0, rf E p0), (1, .int p1)] [] Q := by
    intro q_11 e9
    subst q_11
    show V E G M 0 0 4 60 [(3, .int x3_8), (2, .int x2_9), (0, rf E p0), (1, .int p1)] [] Q
    refine V_iload_n hG 1 rfl dX1_hoursTo_60 ?_
    cases h
    subst eQ
    exact V_iret hG dX1_hoursTo_61
  refine lp_walk (W := fun s_12 : Int32 × Int32 => V E G M 0 0 4 4 [(3, .int s_12.1), (2, .int s_12.2), (0, rf E p0), (1, .int p1)] [] Q) ?_ N (0, 0) hL_10
  intro s_12 b_1 hb_2 hk_3 hx_4
  obtain ⟨x3_6, x2_7⟩ := s_12
  have hb_2 : f_X1_hoursTo_b1 N p0 p1 M x3_6 x2_7 = some b_1 := hb_2
  unfold f_X1_hoursTo_b1 at hb_2
  show V E G M 0 0 4 4 [(3, .int x3_6), (2, .int x2_7), (0, rf E p0), (1, .int p1)] [] Q
  refine V_iload_n hG 0 rfl dX1_hoursTo_4 ?_
  refine V_aload_n hG 2 rfl dX1_hoursTo_5 ?_
  obtain ⟨g_13, hb_2⟩ := gd_of hb_2
  obtain ⟨r_15, hc_14, hb_2⟩ := bd_of hb_2
  refine V_callV hE hG (ci := 0) (As := []) (rest := [.int x3_6]) (ok_f_X1_horses hE hN hc_14) g_13 (by decide) rfl hw_X1_184 hdv_X1_horses ⟨Nat.le_of_ble_eq_true rfl, Nat.le_of_ble_eq_true rfl⟩ rfl rfl (Nat.le_of_ble_eq_true rfl) ⟨Nat.le_of_ble_eq_true rfl, Nat.le_of_ble_eq_true rfl⟩ dX1_hoursTo_6 (V_zero rfl rfl ?_)
  refine V_icmp_ge hG 60 dX1_hoursTo_9 (by decide) (fun c_16 => ?_) (fun c_16 => ?_)
  · have hb_2 := if_t c_16 hb_2
    cases hb_2
    exact J_5 _ (hx_4 _ rfl)
  · have hb_2 := if_f c_16 hb_2
    refine V_iload_n hG 1 rfl dX1_hoursTo_12 ?_
    refine V_aload_n hG 2 rfl dX1_hoursTo_13 ?_
    obtain ⟨a_17, hr_18, hb_2⟩ := bd_of hb_2
    refine gf_X1_101 hN hG g_13 hr_18 dX1_hoursTo_14 ?_
    refine V_iload_n hG 0 rfl dX1_hoursTo_17 ?_
    obtain ⟨g_19, hb_2⟩ := gd_of hb_2
    obtain ⟨r_21, hc_20, hb_2⟩ := bd_of hb_2
    refine V_callV hE hG (ci := 5) (As := [.int x3_6]) (rest := [.int x2_7]) (ok_f_X6_isOn hE hN hc_20) g_19 (by decide) rfl hw_X1_219 hdv_X6_isOn ⟨Nat.le_of_ble_eq_true rfl, Nat.le_of_ble_eq_true rfl⟩ rfl rfl (Nat.le_of_ble_eq_true rfl) ⟨Nat.le_of_ble_eq_true rfl, Nat.le_of_ble_eq_true rfl⟩ dX1_hoursTo_18 (V_zero rfl rfl ?_)
    obtain ⟨t_22, hj_24, hb_2⟩ := bd_of hb_2
    have J_23 : V E G M 0 0 4 50 [(3, .int x3_6), (2, .int x2_7), (0, rf E p0), (1, .int p1)] [.int t_22, .int x2_7] Q := by
      obtain ⟨r_26, hc_25, hb_2⟩ := bd_of hb_2
      refine V_callS hE hG (As := [.int x2_7, .int t_22]) (rest := []) (ok_f_J8_max hE hN hc_25) hw_X1_330 hdc_J8_max ⟨Nat.le_of_ble_eq_true rfl, Nat.le_of_ble_eq_true rfl⟩ rfl rfl (Nat.le_of_ble_eq_true rfl) ⟨Nat.le_of_ble_eq_true rfl, Nat.le_of_ble_eq_true rfl⟩ dX1_hoursTo_50 (V_zero rfl rfl ?_)
      refine V_istore_n hG rfl [(2, .int r_26), (3, .int x3_6), (0, rf E p0), (1, .int p1)] dX1_hoursTo_53 (Nat.le_of_ble_eq_true rfl) rfl ?_
      obtain ⟨x3_27, ex3_27, hb_2⟩ := be_of hb_2
      refine V_iinc hG 1 x3_27 rfl (by rw [ex3_27]; rfl) [(3, .int x3_27), (2, .int r_26), (0, rf E p0), (1, .int p1)] dX1_hoursTo_54 (Nat.le_of_ble_eq_true rfl) rfl ?_
      refine V_goto hG 4 dX1_hoursTo_57 (by decide) ?_
      cases hb_2
      exact hk_3 _ rfl
    refine V_if_eq hG 49 dX1_hoursTo_21 (by decide) (fun c_28 => ?_) (fun c_28 => ?_)
    · have hj_24 := if_t c_28 hj_24
      refine V_iconst hG 0 rfl dX1_hoursTo_49 ?_
      cases hj_24
      exact J_23
    · have hj_24 := if_f c_28 hj_24
      refine V_aload_n hG 2 rfl dX1_hoursTo_24 ?_
      refine V_iload_n hG 0 rfl dX1_hoursTo_25 ?_
      refine V_aload_n hG 2 rfl dX1_hoursTo_26 ?_
      obtain ⟨a_29, hr_30, hj_24⟩ := bd_of hj_24
      refine gf_X1_101 hN hG g_13 hr_30 dX1_hoursTo_27 ?_
      obtain ⟨g_31, hj_24⟩ := gd_of hj_24
      obtain ⟨a_32, hr_33, hj_24⟩ := bd_of hj_24
      refine gf_X1_200 hN hG g_31 hr_33 dX1_hoursTo_30 ?_
      refine V_iload_n hG 0 rfl dX1_hoursTo_33 ?_
      obtain ⟨g_34, hj_24⟩ := gd_of hj_24
      obtain ⟨g_35, hj_24⟩ := gd_of hj_24
      refine V_iaload hG g_34 g_35 dX1_hoursTo_34 ?_
      refine V_aload_n hG 2 rfl dX1_hoursTo_35 ?_
      refine V_iload_n hG 3 rfl dX1_hoursTo_36 ?_
      obtain ⟨r_37, hc_36, hj_24⟩ := bd_of hj_24
      refine V_callV hE hG (ci := 0) (As := [.int p1]) (rest := [.int (mI M a_32 (Int32.toNatClampNeg x3_6)), .int x3_6, rf E p0, .int x2_7]) (ok_f_X1_trough hE hN hc_36) g_13 (by decide) rfl hw_X1_228 hdv_X1_trough ⟨Nat.le_of_ble_eq_true rfl, Nat.le_of_ble_eq_true rfl⟩ rfl rfl (Nat.le_of_ble_eq_true rfl) ⟨Nat.le_of_ble_eq_true rfl, Nat.le_of_ble_eq_true rfl⟩ dX1_hoursTo_37 (V_zero rfl rfl ?_)
      obtain ⟨g_38, hj_24⟩ := gd_of hj_24
      refine gf_X1_232 hN hG g_38 dX1_hoursTo_40 ?_
      obtain ⟨r_40, hc_39, hj_24⟩ := bd_of hj_24
      refine V_callV hE hG (ci := 0) (As := [.int x3_6, .int (mI M a_32 (Int32.toNatClampNeg x3_6)), .int (mI M r_37 0)]) (rest := [.int x2_7]) (ok_f_X1_legHours hE hN hc_39) g_13 (by decide) rfl hw_X1_312 hdv_X1_legHours ⟨Nat.le_of_ble_eq_true rfl, Nat.le_of_ble_eq_true rfl⟩ rfl rfl (Nat.le_of_ble_eq_true rfl) ⟨Nat.le_of_ble_eq_true rfl, Nat.le_of_ble_eq_true rfl⟩ dX1_hoursTo_43 (V_zero rfl rfl ?_)
      refine V_goto hG 50 dX1_hoursTo_46 (by decide) ?_
      cases hj_24
      exact J_23

def f_X1_gather_b1 (N : Nat) (p0 : Nat) (p1 : Int32) (M : Mem) (x3_17 : Int32) (x2_18 : Int32) : Option ((Int32 × Int32) ⊕ (Int32 × Int32)) :=
gd (mT M p0 = 0) (
bd (f_X1_troughs p0 M) fun (r_33 : Int32) =>
if r_33 ≤ x3_17 then (
some (.inl (x3_17, x2_18)))
else (
bd (f_X1_hoursTo N p0 x3_17 M) fun (r_36 : Int32) =>
bd (f_X1_hoursTo N p0 x2_18 M) fun (r_38 : Int32) =>
be (if r_38 ≤ r_36 then (
x2_18)
else (
x3_17) : Int32) fun (y_42 : Int32) =>
be (x3_17 + 1) fun (x3_43 : Int32) =>
some (.inr (x3_43, y_42))))
def f_X1_gather (N : Nat) (p0 : Nat) (p1 : Int32) (M : Mem) : Option (Int32) :=
bd (f_X1_in (Int32.toInt64 p1) 0 1 M) fun (r_2 : Int32) =>
if r_2 = 0 then (
some (-1))
else (
gd (mT M p0 = 0) (
bd (f_X1_troughs p0 M) fun (r_6 : Int32) =>
if r_6 = 0 then (
some (-2))
else (
bd (mR M p0 9) fun (a_8 : Nat) =>
gd (mT M a_8 = 5) (
if mI M a_8 7 = 0 then (
some (-2))
else (
bd2 (lp N (fun s_30 : Int32 × Int32 => f_X1_gather_b1 N p0 p1 M s_30.1 s_30.2) (1, 0)) fun (x3_19 : Int32) (x2_20 : Int32) =>
bd (if p1 = 0 then (
some x2_20)
else (
gd (mT M p0 = 0) (
bd (f_X1_hoursTo N p0 x2_20 M) fun (r_29 : Int32) =>
some r_29)) : Option (Int32)) fun (t_23 : Int32) =>
some t_23)))))
def rm_f_X1_gather : Room := { frames := 6, cells := 0, slots := 0, locals := 131 }
theorem ok_f_X1_gather {E : En} (hE : EOk E) (hN : NOk E) {N : Nat} {p0 : Nat} {p1 : Int32} {M : Mem} {r : Int32} (h : f_X1_gather N p0 p1 M = some r) : CM E yX1_gather cX1_gather 4 (some .int) rm_f_X1_gather [rf E p0, .int p1] M (some (.int r)) M := by
  unfold f_X1_gather at h
  refine CM_introX (own := RX1) rfl (by decide +kernel) (Nat.le_of_ble_eq_true rfl) rfl (fun G hG hEn hI => ?_)
  obtain ⟨Q, eQ⟩ : ∃ Q, Q = QM E G (some (.int r)) M 0 0 := ⟨_, rfl⟩
  show V E G M 0 0 4 0 [(0, rf E p0), (1, .int p1)] [] (QM E G (some (.int r)) M 0 0)
  rw [← eQ]
  refine V_iload_n hG 1 rfl dX1_gather_0 ?_
  refine V_i2l hG dX1_gather_1 ?_
  refine V_lconst hG 0 rfl dX1_gather_2 ?_
  refine V_lconst hG 1 rfl dX1_gather_3 ?_
  obtain ⟨r_2, hc_1, h⟩ := bd_of h
  refine V_callS hE hG (As := [.long (Int32.toInt64 p1), .long 0, .long 1]) (rest := []) (ok_f_X1_in hE hN hc_1) hw_X1_144 hdc_X1_in ⟨Nat.le_of_ble_eq_true rfl, Nat.le_of_ble_eq_true rfl⟩ rfl rfl (Nat.le_of_ble_eq_true rfl) ⟨Nat.le_of_ble_eq_true rfl, Nat.le_of_ble_eq_true rfl⟩ dX1_gather_4 (V_zero rfl rfl ?_)
  refine V_if_ne hG 12 dX1_gather_7 (by decide) (fun c_3 => ?_) (fun c_3 => ?_)
  · have h := if_f c_3 h
    refine V_aload_n hG 0 rfl dX1_gather_12 ?_
    obtain ⟨g_4, h⟩ := gd_of h
    obtain ⟨r_6, hc_5, h⟩ := bd_of h
    refine V_callV hE hG (ci := 0) (As := []) (rest := []) (ok_f_X1_troughs hE hN hc_5) g_4 (by decide) rfl hw_X1_182 hdv_X1_troughs ⟨Nat.le_of_ble_eq_true rfl, Nat.le_of_ble_eq_true rfl⟩ rfl rfl (Nat.le_of_ble_eq_true rfl) ⟨Nat.le_of_ble_eq_true rfl, Nat.le_of_ble_eq_true rfl⟩ dX1_gather_13 (V_zero rfl rfl ?_)
    refine V_if_eq hG 29 dX1_gather_16 (by decide) (fun c_7 => ?_) (fun c_7 => ?_)
    · have h := if_t c_7 h
      refine V_bipush hG (-2) (by decide) dX1_gather_29 ?_
      cases h
      subst eQ
      exact V_iret hG dX1_gather_31
    · have h := if_f c_7 h
      refine V_aload_n hG 0 rfl dX1_gather_19 ?_
      obtain ⟨a_8, hr_9, h⟩ := bd_of h
      refine gf_X1_101 hN hG g_4 hr_9 dX1_gather_20 ?_
      obtain ⟨g_10, h⟩ := gd_of h
      refine gf_X1_292 hN hG g_10 dX1_gather_23 ?_
      refine V_if_ne hG 32 dX1_gather_26 (by decide) (fun c_11 => ?_) (fun c_11 => ?_)
      · have h := if_f c_11 h
        refine V_iconst hG 0 rfl dX1_gather_32 ?_
        refine V_istore_n hG rfl [(2, .int 0), (0, rf E p0), (1, .int p1)] dX1_gather_33 (Nat.le_of_ble_eq_true rfl) rfl ?_
        refine V_iconst hG 1 rfl dX1_gather_34 ?_
        refine V_istore_n hG rfl [(3, .int 1), (2, .int 0), (0, rf E p0), (1, .int p1)] dX1_gather_35 (Nat.le_of_ble_eq_true rfl) rfl ?_
        obtain ⟨x3_19, x2_20, hL_21, h⟩ := bd2_of h
        have J_16 : ∀ q_22 : Int32 × Int32, q_22 = (x3_19, x2_20) → V E G M 0 0 4 65 [(3, .int q_22.1), (2, .int q_22.2), (0, rf E p0), (1, .int p1)] [] Q := by
          intro q_22 e9
          subst q_22
          show V E G M 0 0 4 65 [(3, .int x3_19), (2, .int x2_20), (0, rf E p0), (1, .int p1)] [] Q
          refine V_iload_n hG 3 rfl dX1_gather_65 ?_
          obtain ⟨t_23, hj_25, h⟩ := bd_of h
          have J_24 : V E G M 0 0 4 78 [(3, .int x3_19), (2, .int x2_20), (0, rf E p0), (1, .int p1)] [.int t_23] Q := by
            cases h
            subst eQ
            exact V_iret hG dX1_gather_78
          refine V_if_ne hG 73 dX1_gather_66 (by decide) (fun c_26 => ?_) (fun c_26 => ?_)
          · have hj_25 := if_f c_26 hj_25
            refine V_aload_n hG 2 rfl dX1_gather_73 ?_
            refine V_iload_n hG 1 rfl dX1_gather_74 ?_
            obtain ⟨g_27, hj_25⟩ := gd_of hj_25
            obtain ⟨r_29, hc_28, hj_25⟩ := bd_of hj_25
            refine V_callV hE hG (ci := 0) (As := [.int x2_20]) (rest := []) (ok_f_X1_hoursTo hE hN hc_28) g_27 (by decide) rfl hw_X1_332 hdv_X1_hoursTo ⟨Nat.le_of_ble_eq_true rfl, Nat.le_of_ble_eq_true rfl⟩ rfl rfl (Nat.le_of_ble_eq_true rfl) ⟨Nat.le_of_ble_eq_true rfl, Nat.le_of_ble_eq_true rfl⟩ dX1_gather_75 (V_zero rfl rfl ?_)
            cases hj_25
            exact J_24
          · have hj_25 := if_t c_26 hj_25
            refine V_iload_n hG 1 rfl dX1_gather_69 ?_
            refine V_goto hG 78 dX1_gather_70 (by decide) ?_
            cases hj_25
            exact J_24
        refine lp_walk (W := fun s_30 : Int32 × Int32 => V E G M 0 0 4 36 [(3, .int s_30.1), (2, .int s_30.2), (0, rf E p0), (1, .int p1)] [] Q) ?_ N (1, 0) hL_21
        intro s_30 b_12 hb_13 hk_14 hx_15
        obtain ⟨x3_17, x2_18⟩ := s_30
        have hb_13 : f_X1_gather_b1 N p0 p1 M x3_17 x2_18 = some b_12 := hb_13
        unfold f_X1_gather_b1 at hb_13
        show V E G M 0 0 4 36 [(3, .int x3_17), (2, .int x2_18), (0, rf E p0), (1, .int p1)] [] Q
        refine V_iload_n hG 0 rfl dX1_gather_36 ?_
        refine V_aload_n hG 2 rfl dX1_gather_37 ?_
        obtain ⟨g_31, hb_13⟩ := gd_of hb_13
        obtain ⟨r_33, hc_32, hb_13⟩ := bd_of hb_13
        refine V_callV hE hG (ci := 0) (As := []) (rest := [.int x3_17]) (ok_f_X1_troughs hE hN hc_32) g_31 (by decide) rfl hw_X1_182 hdv_X1_troughs ⟨Nat.le_of_ble_eq_true rfl, Nat.le_of_ble_eq_true rfl⟩ rfl rfl (Nat.le_of_ble_eq_true rfl) ⟨Nat.le_of_ble_eq_true rfl, Nat.le_of_ble_eq_true rfl⟩ dX1_gather_38 (V_zero rfl rfl ?_)
        refine V_icmp_ge hG 65 dX1_gather_41 (by decide) (fun c_34 => ?_) (fun c_34 => ?_)
        · have hb_13 := if_t c_34 hb_13
          cases hb_13
          exact J_16 _ (hx_15 _ rfl)
        · have hb_13 := if_f c_34 hb_13
          refine V_aload_n hG 2 rfl dX1_gather_44 ?_
          refine V_iload_n hG 0 rfl dX1_gather_45 ?_
          obtain ⟨r_36, hc_35, hb_13⟩ := bd_of hb_13
          refine V_callV hE hG (ci := 0) (As := [.int x3_17]) (rest := []) (ok_f_X1_hoursTo hE hN hc_35) g_31 (by decide) rfl hw_X1_332 hdv_X1_hoursTo ⟨Nat.le_of_ble_eq_true rfl, Nat.le_of_ble_eq_true rfl⟩ rfl rfl (Nat.le_of_ble_eq_true rfl) ⟨Nat.le_of_ble_eq_true rfl, Nat.le_of_ble_eq_true rfl⟩ dX1_gather_46 (V_zero rfl rfl ?_)
          refine V_aload_n hG 2 rfl dX1_gather_49 ?_
          refine V_iload_n hG 1 rfl dX1_gather_50 ?_
          obtain ⟨r_38, hc_37, hb_13⟩ := bd_of hb_13
          refine V_callV hE hG (ci := 0) (As := [.int x2_18]) (rest := [.int r_36]) (ok_f_X1_hoursTo hE hN hc_37) g_31 (by decide) rfl hw_X1_332 hdv_X1_hoursTo ⟨Nat.le_of_ble_eq_true rfl, Nat.le_of_ble_eq_true rfl⟩ rfl rfl (Nat.le_of_ble_eq_true rfl) ⟨Nat.le_of_ble_eq_true rfl, Nat.le_of_ble_eq_true rfl⟩ dX1_gather_51 (V_zero rfl rfl ?_)
          obtain ⟨x2_39, ex2_39, hb_13⟩ := be_of hb_13
          have J_40 : ∀ y_42 : Int32, y_42 = x2_39 → V E G M 0 0 4 59 [(3, .int x3_17), (2, .int y_42), (0, rf E p0), (1, .int p1)] [] Q := by
            intro y_42 ey
            subst ey
            obtain ⟨x3_43, ex3_43, hb_13⟩ := be_of hb_13
            refine V_iinc hG 0 x3_43 rfl (by rw [ex3_43]; rfl) [(3, .int x3_43), (2, .int y_42), (0, rf E p0), (1, .int p1)] dX1_gather_59 (Nat.le_of_ble_eq_true rfl) rfl ?_
            refine V_goto hG 36 dX1_gather_62 (by decide) ?_
            cases hb_13
            exact hk_14 _ rfl
          refine V_icmp_ge hG 59 dX1_gather_54 (by decide) (fun c_41 => ?_) (fun c_41 => ?_)
          · exact J_40 _ (by rw [ex2_39, if_pos c_41])
          · refine V_iload_n hG 0 rfl dX1_gather_57 ?_
            refine V_istore_n hG rfl [(2, .int x3_17), (3, .int x3_17), (0, rf E p0), (1, .int p1)] dX1_gather_58 (Nat.le_of_ble_eq_true rfl) rfl ?_
            exact V_lv [1, 0, 2, 3] rfl (J_40 _ (by rw [ex2_39, if_neg c_41]))
      · have h := if_t c_11 h
        refine V_bipush hG (-2) (by decide) dX1_gather_29 ?_
        cases h
        subst eQ
        exact V_iret hG dX1_gather_31
  · have h := if_t c_3 h
    refine V_iconst hG (-1) rfl dX1_gather_10 ?_
    cases h
    subst eQ
    exact V_iret hG dX1_gather_11

def f_X1_has (p0 : Nat) (p1 : Int32) (p2 : Int32) (p3 : Int32) (p4 : Int32) (M : Mem) : Option (Int32) :=
if p3 = 0 then (
bd (if p4 = 0 then (
gd (mT M p0 = 0) (
bd (f_X1_horse p0 p1 M) fun (r_28 : Nat) =>
gd (mT M r_28 = 8) (
bd (f_X1_horse p0 p2 M) fun (r_31 : Nat) =>
gd (mT M r_31 = 8) (
bd (f_J8_abs ((mI M r_28 2) - (mI M r_31 2)) M) fun (r_34 : Int32) =>
some (10 - r_34)))))
else (
gd (mT M p0 = 0) (
bd (mR M p0 9) fun (a_19 : Nat) =>
gd (mT M a_19 = 5) (
bd (mR M a_19 1) fun (a_22 : Nat) =>
gd (mT M a_22 = 100) (
gd (inb p1 (mLn M a_22)) (
some ((mI M a_22 (Int32.toNatClampNeg p1)) / 5)))))) : Option (Int32)) fun (t_14 : Int32) =>
some t_14)
else (
bd (if p4 = 0 then (
gd (mT M p0 = 0) (
bd (f_X1_horse p0 p1 M) fun (r_12 : Nat) =>
gd (mT M r_12 = 8) (
some (mI M r_12 4))))
else (
gd (mT M p0 = 0) (
bd (f_X1_horse p0 p1 M) fun (r_8 : Nat) =>
gd (mT M r_8 = 8) (
some ((mI M r_8 4) / 2)))) : Option (Int32)) fun (t_2 : Int32) =>
some t_2)
def rm_f_X1_has : Room := { frames := 4, cells := 0, slots := 0, locals := 85 }
theorem ok_f_X1_has {E : En} (hE : EOk E) (hN : NOk E) {p0 : Nat} {p1 : Int32} {p2 : Int32} {p3 : Int32} {p4 : Int32} {M : Mem} {r : Int32} (h : f_X1_has p0 p1 p2 p3 p4 M = some r) : CM E yX1_has cX1_has 5 (some .int) rm_f_X1_has [rf E p0, .int p1, .int p2, .int p3, .int p4] M (some (.int r)) M := by
  unfold f_X1_has at h
  refine CM_introX (own := RX1) rfl (by decide +kernel) (Nat.le_of_ble_eq_true rfl) rfl (fun G hG hEn hI => ?_)
  obtain ⟨Q, eQ⟩ : ∃ Q, Q = QM E G (some (.int r)) M 0 0 := ⟨_, rfl⟩
  show V E G M 0 0 5 0 [(0, rf E p0), (1, .int p1), (2, .int p2), (3, .int p3), (4, .int p4)] [] (QM E G (some (.int r)) M 0 0)
  rw [← eQ]
  refine V_iload_n hG 3 rfl dX1_has_0 ?_
  refine V_if_ne hG 47 dX1_has_1 (by decide) (fun c_1 => ?_) (fun c_1 => ?_)
  · have h := if_f c_1 h
    refine V_iload hG 4 rfl dX1_has_47 ?_
    obtain ⟨t_2, hj_4, h⟩ := bd_of h
    have J_3 : V E G M 0 0 5 73 [(0, rf E p0), (1, .int p1), (2, .int p2), (3, .int p3), (4, .int p4)] [.int t_2] Q := by
      cases h
      subst eQ
      exact V_iret hG dX1_has_73
    refine V_if_ne hG 63 dX1_has_49 (by decide) (fun c_5 => ?_) (fun c_5 => ?_)
    · have hj_4 := if_f c_5 hj_4
      refine V_aload_n hG 0 rfl dX1_has_63 ?_
      refine V_iload_n hG 1 rfl dX1_has_64 ?_
      obtain ⟨g_6, hj_4⟩ := gd_of hj_4
      obtain ⟨r_8, hc_7, hj_4⟩ := bd_of hj_4
      refine V_callV hE hG (ci := 0) (As := [.int p1]) (rest := []) (ok_f_X1_horse hE hN hc_7) g_6 (by decide) rfl hw_X1_193 hdv_X1_horse ⟨Nat.le_of_ble_eq_true rfl, Nat.le_of_ble_eq_true rfl⟩ rfl rfl (Nat.le_of_ble_eq_true rfl) ⟨Nat.le_of_ble_eq_true rfl, Nat.le_of_ble_eq_true rfl⟩ dX1_has_65 (V_zero rfl rfl ?_)
      obtain ⟨g_9, hj_4⟩ := gd_of hj_4
      refine gf_X1_206 hN hG g_9 dX1_has_68 ?_
      refine V_iconst hG 2 rfl dX1_has_71 ?_
      refine V_idiv hG (by decide) dX1_has_72 ?_
      cases hj_4
      exact J_3
    · have hj_4 := if_t c_5 hj_4
      refine V_aload_n hG 0 rfl dX1_has_52 ?_
      refine V_iload_n hG 1 rfl dX1_has_53 ?_
      obtain ⟨g_10, hj_4⟩ := gd_of hj_4
      obtain ⟨r_12, hc_11, hj_4⟩ := bd_of hj_4
      refine V_callV hE hG (ci := 0) (As := [.int p1]) (rest := []) (ok_f_X1_horse hE hN hc_11) g_10 (by decide) rfl hw_X1_193 hdv_X1_horse ⟨Nat.le_of_ble_eq_true rfl, Nat.le_of_ble_eq_true rfl⟩ rfl rfl (Nat.le_of_ble_eq_true rfl) ⟨Nat.le_of_ble_eq_true rfl, Nat.le_of_ble_eq_true rfl⟩ dX1_has_54 (V_zero rfl rfl ?_)
      obtain ⟨g_13, hj_4⟩ := gd_of hj_4
      refine gf_X1_206 hN hG g_13 dX1_has_57 ?_
      refine V_goto hG 73 dX1_has_60 (by decide) ?_
      cases hj_4
      exact J_3
  · have h := if_t c_1 h
    refine V_iload hG 4 rfl dX1_has_4 ?_
    obtain ⟨t_14, hj_16, h⟩ := bd_of h
    have J_15 : V E G M 0 0 5 46 [(0, rf E p0), (1, .int p1), (2, .int p2), (3, .int p3), (4, .int p4)] [.int t_14] Q := by
      cases h
      subst eQ
      exact V_iret hG dX1_has_46
    refine V_if_ne hG 35 dX1_has_6 (by decide) (fun c_17 => ?_) (fun c_17 => ?_)
    · have hj_16 := if_f c_17 hj_16
      refine V_aload_n hG 0 rfl dX1_has_35 ?_
      obtain ⟨g_18, hj_16⟩ := gd_of hj_16
      obtain ⟨a_19, hr_20, hj_16⟩ := bd_of hj_16
      refine gf_X1_101 hN hG g_18 hr_20 dX1_has_36 ?_
      obtain ⟨g_21, hj_16⟩ := gd_of hj_16
      obtain ⟨a_22, hr_23, hj_16⟩ := bd_of hj_16
      refine gf_X1_203 hN hG g_21 hr_23 dX1_has_39 ?_
      refine V_iload_n hG 1 rfl dX1_has_42 ?_
      obtain ⟨g_24, hj_16⟩ := gd_of hj_16
      obtain ⟨g_25, hj_16⟩ := gd_of hj_16
      refine V_iaload hG g_24 g_25 dX1_has_43 ?_
      refine V_iconst hG 5 rfl dX1_has_44 ?_
      refine V_idiv hG (by decide) dX1_has_45 ?_
      cases hj_16
      exact J_15
    · have hj_16 := if_t c_17 hj_16
      refine V_bipush hG 10 (by decide) dX1_has_9 ?_
      refine V_aload_n hG 0 rfl dX1_has_11 ?_
      refine V_iload_n hG 1 rfl dX1_has_12 ?_
      obtain ⟨g_26, hj_16⟩ := gd_of hj_16
      obtain ⟨r_28, hc_27, hj_16⟩ := bd_of hj_16
      refine V_callV hE hG (ci := 0) (As := [.int p1]) (rest := [.int 10]) (ok_f_X1_horse hE hN hc_27) g_26 (by decide) rfl hw_X1_193 hdv_X1_horse ⟨Nat.le_of_ble_eq_true rfl, Nat.le_of_ble_eq_true rfl⟩ rfl rfl (Nat.le_of_ble_eq_true rfl) ⟨Nat.le_of_ble_eq_true rfl, Nat.le_of_ble_eq_true rfl⟩ dX1_has_13 (V_zero rfl rfl ?_)
      obtain ⟨g_29, hj_16⟩ := gd_of hj_16
      refine gf_X1_197 hN hG g_29 dX1_has_16 ?_
      refine V_aload_n hG 0 rfl dX1_has_19 ?_
      refine V_iload_n hG 2 rfl dX1_has_20 ?_
      obtain ⟨r_31, hc_30, hj_16⟩ := bd_of hj_16
      refine V_callV hE hG (ci := 0) (As := [.int p2]) (rest := [.int (mI M r_28 2), .int 10]) (ok_f_X1_horse hE hN hc_30) g_26 (by decide) rfl hw_X1_193 hdv_X1_horse ⟨Nat.le_of_ble_eq_true rfl, Nat.le_of_ble_eq_true rfl⟩ rfl rfl (Nat.le_of_ble_eq_true rfl) ⟨Nat.le_of_ble_eq_true rfl, Nat.le_of_ble_eq_true rfl⟩ dX1_has_21 (V_zero rfl rfl ?_)
      obtain ⟨g_32, hj_16⟩ := gd_of hj_16
      refine gf_X1_197 hN hG g_32 dX1_has_24 ?_
      refine V_isub hG dX1_has_27 ?_
      obtain ⟨r_34, hc_33, hj_16⟩ := bd_of hj_16
      refine V_callS hE hG (As := [.int ((mI M r_28 2) - (mI M r_31 2))]) (rest := [.int 10]) (ok_f_J8_abs hE hN hc_33) hw_X1_261 hdc_J8_abs ⟨Nat.le_of_ble_eq_true rfl, Nat.le_of_ble_eq_true rfl⟩ rfl rfl (Nat.le_of_ble_eq_true rfl) ⟨Nat.le_of_ble_eq_true rfl, Nat.le_of_ble_eq_true rfl⟩ dX1_has_28 (V_zero rfl rfl ?_)
      refine V_isub hG dX1_has_31 ?_
      refine V_goto hG 46 dX1_has_32 (by decide) ?_
      cases hj_16
      exact J_15

def f_X4_init (p0 : Nat) (p1 : Nat) (M : Mem) : Option (Mem) :=
gd (mT M p0 = 4) (
be (sR M p0 0 (some p1)) fun (M_2 : Mem) =>
some M_2)
def rm_f_X4_init : Room := { frames := 1, cells := 0, slots := 0, locals := 40 }
theorem ok_f_X4_init {E : En} (hE : EOk E) (hN : NOk E) {p0 : Nat} {p1 : Nat} {M : Mem}  {M' : Mem} (h : f_X4_init p0 p1 M = some M') : CM E yX4_init cX4_init 2 none rm_f_X4_init [rf E p0, rf E p1] M none M' := by
  unfold f_X4_init at h
  refine CM_introX (own := RX4) rfl (by decide +kernel) (Nat.le_of_ble_eq_true rfl) rfl (fun G hG hEn hI => ?_)
  obtain ⟨Q, eQ⟩ : ∃ Q, Q = QM E G none M' 0 0 := ⟨_, rfl⟩
  show V E G M 0 0 2 0 [(0, rf E p0), (1, rf E p1)] [] (QM E G none M' 0 0)
  rw [← eQ]
  refine V_aload_n hG 0 rfl dX4_init_0 ?_
  refine V_aload_n hG 1 rfl dX4_init_1 ?_
  obtain ⟨g_1, h⟩ := gd_of h
  obtain ⟨M_2, eM_2, h⟩ := be_of h
  refine pf_X4_3 hN hG (hI rfl) g_1 eM_2 dX4_init_2 ?_
  have g_3 : mT M_2 p0 = 4 := by rw [eM_2]; exact g_1
  refine V_aload_n hG 0 rfl dX4_init_5 ?_
  refine V_objInit hG q296 q_oi q_oc (Nat.le_of_ble_eq_true rfl) (Nat.le_of_ble_eq_true rfl) dX4_init_6 ?_
  cases h
  subst eQ
  exact V_vret hG dX4_init_9

def f_X5_init (p0 : Nat) (p1 : Nat) (M : Mem) : Option (Mem) :=
gd (mT M p0 = 4) (
be (sR M p0 1 (some p1)) fun (M_2 : Mem) =>
bd (f_X4_init p0 p1 M_2) fun (M_5 : Mem) =>
some M_5)
def rm_f_X5_init : Room := { frames := 2, cells := 0, slots := 0, locals := 61 }
theorem ok_f_X5_init {E : En} (hE : EOk E) (hN : NOk E) {p0 : Nat} {p1 : Nat} {M : Mem}  {M' : Mem} (h : f_X5_init p0 p1 M = some M') : CM E yX5_init cX5_init 2 none rm_f_X5_init [rf E p0, rf E p1] M none M' := by
  unfold f_X5_init at h
  refine CM_introX (own := RX5) rfl (by decide +kernel) (Nat.le_of_ble_eq_true rfl) rfl (fun G hG hEn hI => ?_)
  obtain ⟨Q, eQ⟩ : ∃ Q, Q = QM E G none M' 0 0 := ⟨_, rfl⟩
  show V E G M 0 0 2 0 [(0, rf E p0), (1, rf E p1)] [] (QM E G none M' 0 0)
  rw [← eQ]
  refine V_aload_n hG 0 rfl dX5_init_0 ?_
  refine V_aload_n hG 1 rfl dX5_init_1 ?_
  obtain ⟨g_1, h⟩ := gd_of h
  obtain ⟨M_2, eM_2, h⟩ := be_of h
  refine pf_X5_3 hN hG (hI rfl) g_1 eM_2 dX5_init_2 ?_
  have g_3 : mT M_2 p0 = 4 := by rw [eM_2]; exact g_1
  refine V_aload_n hG 0 rfl dX5_init_5 ?_
  refine V_aload_n hG 1 rfl dX5_init_6 ?_
  obtain ⟨M_5, hc_4, h⟩ := bd_of h
  refine W_callIN hE hG hN (rt := none) (As := [rf E p1]) (rest := []) (ok_f_X4_init hE hN hc_4) q293 (lw_meth q295) q129 q294 rfl hdc_X4_init ⟨Nat.le_of_ble_eq_true rfl, Nat.le_of_ble_eq_true rfl⟩ rfl rfl (Nat.le_of_ble_eq_true rfl) ⟨Nat.le_of_ble_eq_true rfl, Nat.le_of_ble_eq_true rfl⟩ dX5_init_7 (V_zero rfl rfl ?_)
  cases h
  subst eQ
  exact V_vret hG dX5_init_10

def f_X3_init (LC LZ : Nat) (p0 : Nat) (M : Mem) : Option (Mem) :=
gd (mN M + 1 ≤ LC ∧ mZ M + 3 ≤ LZ) (
be (nw M 3 3) fun (M_2 : Mem) =>
gd (mN M_2 ≤ LC ∧ mZ M_2 ≤ LZ) (
bd (f_J2_init LC LZ (mN M) 6 M_2) fun (M_5 : Mem) =>
gd (mT M_5 p0 = 2) (
be (sR M_5 p0 0 (some (mN M))) fun (M_7 : Mem) =>
gd (mN M_7 + 1 ≤ LC ∧ mZ M_7 + 3 ≤ LZ) (
be (nw M_7 3 3) fun (M_10 : Mem) =>
gd (mN M_10 ≤ LC ∧ mZ M_10 ≤ LZ) (
bd (f_J2_init LC LZ (mN M_7) 6 M_10) fun (M_13 : Mem) =>
gd (mT M_13 p0 = 2) (
be (sR M_13 p0 1 (some (mN M_7))) fun (M_15 : Mem) =>
gd (mN M_15 + 1 ≤ LC ∧ mZ M_15 + 3 ≤ LZ) (
be (nw M_15 3 3) fun (M_18 : Mem) =>
gd (mN M_18 ≤ LC ∧ mZ M_18 ≤ LZ) (
bd (f_J2_init LC LZ (mN M_15) 12 M_18) fun (M_21 : Mem) =>
gd (mT M_21 p0 = 2) (
be (sR M_21 p0 2 (some (mN M_15))) fun (M_23 : Mem) =>
gd (mN M_23 + 1 ≤ LC ∧ mZ M_23 + 3 ≤ LZ) (
be (nw M_23 105 3) fun (M_26 : Mem) =>
gd (mT M_26 p0 = 2) (
be (sR M_26 p0 3 (some (mN M_23))) fun (M_28 : Mem) =>
be (sI M_28 p0 4 20) fun (M_30 : Mem) =>
gd (mN M_30 ≤ LC ∧ mZ M_30 ≤ LZ) (
some M_30))))))))))))
def rm_f_X3_init (LC LZ : Nat) (M : Mem) : Room := { frames := 4, cells := LC - mN M, slots := LZ - mZ M, locals := 101 }
theorem ok_f_X3_init {E : En} (hE : EOk E) (hN : NOk E) {LC LZ : Nat} {p0 : Nat} {M : Mem}  {M' : Mem} (h : f_X3_init LC LZ p0 M = some M') : CM E yX3_init cX3_init 1 none (rm_f_X3_init LC LZ M) [rf E p0] M none M' := by
  unfold f_X3_init at h
  refine CM_introX (own := RX3) rfl (by decide +kernel) (Nat.le_of_ble_eq_true rfl) rfl (fun G hG hEn hI => ?_)
  obtain ⟨Q, eQ⟩ : ∃ Q, Q = QM E G none M' (LC - mN M) (LZ - mZ M) := ⟨_, rfl⟩
  show V E G M 0 0 1 0 [(0, rf E p0)] [] (QM E G none M' (LC - mN M) (LZ - mZ M))
  rw [← eQ]
  refine V_aload_n hG 0 rfl dX3_init_0 ?_
  refine V_objInit hG q212 q_oi q_oc (Nat.le_of_ble_eq_true rfl) (Nat.le_of_ble_eq_true rfl) dX3_init_1 ?_
  refine V_aload_n hG 0 rfl dX3_init_4 ?_
  obtain ⟨g_1, h⟩ := gd_of h
  obtain ⟨M_2, eM_2, h⟩ := be_of h
  refine nw_X3_9 hG hEn rfl rfl eM_2 g_1 dX3_init_5 ?_
  refine V_dup hG rfl dX3_init_8 ?_
  refine V_bipush hG 6 (by decide) dX3_init_9 ?_
  obtain ⟨g_3, h⟩ := gd_of h
  refine V_narrow hEn (fun n1 n2 n3 => ?_)
  obtain ⟨M_5, hc_4, h⟩ := bd_of h
  refine V_callI hE hG (rt := none) (As := [.int 6]) (rest := [rf E (mN M), rf E p0]) (ok_f_J2_init hE hN hc_4) (lw_meth q217) q128 q215 q216 rfl hdc_J2_init ⟨Nat.le_of_ble_eq_true rfl, Nat.le_of_ble_eq_true rfl⟩ rfl rfl (Nat.le_of_ble_eq_true rfl) ⟨by show _ + (LC - mN M_2) ≤ LC - mN M; omega, by show _ + (LZ - mZ M_2) ≤ LZ - mZ M; omega⟩ dX3_init_11 ?_
  obtain ⟨g_6, h⟩ := gd_of h
  obtain ⟨M_7, eM_7, h⟩ := be_of h
  refine pf_X3_14 hN hG (hI rfl) g_6 eM_7 dX3_init_14 ?_
  have g_8 : mT M_7 p0 = 2 := by rw [eM_7]; exact g_6
  refine V_aload_n hG 0 rfl dX3_init_17 ?_
  obtain ⟨g_9, h⟩ := gd_of h
  obtain ⟨M_10, eM_10, h⟩ := be_of h
  refine nw_X3_9 hG hEn rfl rfl eM_10 g_9 dX3_init_18 ?_
  refine V_dup hG rfl dX3_init_21 ?_
  refine V_bipush hG 6 (by decide) dX3_init_22 ?_
  obtain ⟨g_11, h⟩ := gd_of h
  refine V_narrow hEn (fun n1 n2 n3 => ?_)
  obtain ⟨M_13, hc_12, h⟩ := bd_of h
  refine V_callI hE hG (rt := none) (As := [.int 6]) (rest := [rf E (mN M_7), rf E p0]) (ok_f_J2_init hE hN hc_12) (lw_meth q217) q128 q215 q216 rfl hdc_J2_init ⟨Nat.le_of_ble_eq_true rfl, Nat.le_of_ble_eq_true rfl⟩ rfl rfl (Nat.le_of_ble_eq_true rfl) ⟨by show _ + (LC - mN M_10) ≤ LC - mN M; omega, by show _ + (LZ - mZ M_10) ≤ LZ - mZ M; omega⟩ dX3_init_24 ?_
  obtain ⟨g_14, h⟩ := gd_of h
  obtain ⟨M_15, eM_15, h⟩ := be_of h
  refine pf_X3_20 hN hG (hI rfl) g_14 eM_15 dX3_init_27 ?_
  have g_16 : mT M_15 p0 = 2 := by rw [eM_15]; exact g_14
  refine V_aload_n hG 0 rfl dX3_init_30 ?_
  obtain ⟨g_17, h⟩ := gd_of h
  obtain ⟨M_18, eM_18, h⟩ := be_of h
  refine nw_X3_9 hG hEn rfl rfl eM_18 g_17 dX3_init_31 ?_
  refine V_dup hG rfl dX3_init_34 ?_
  refine V_bipush hG 12 (by decide) dX3_init_35 ?_
  obtain ⟨g_19, h⟩ := gd_of h
  refine V_narrow hEn (fun n1 n2 n3 => ?_)
  obtain ⟨M_21, hc_20, h⟩ := bd_of h
  refine V_callI hE hG (rt := none) (As := [.int 12]) (rest := [rf E (mN M_15), rf E p0]) (ok_f_J2_init hE hN hc_20) (lw_meth q217) q128 q215 q216 rfl hdc_J2_init ⟨Nat.le_of_ble_eq_true rfl, Nat.le_of_ble_eq_true rfl⟩ rfl rfl (Nat.le_of_ble_eq_true rfl) ⟨by show _ + (LC - mN M_18) ≤ LC - mN M; omega, by show _ + (LZ - mZ M_18) ≤ LZ - mZ M; omega⟩ dX3_init_37 ?_
  obtain ⟨g_22, h⟩ := gd_of h
  obtain ⟨M_23, eM_23, h⟩ := be_of h
  refine pf_X3_23 hN hG (hI rfl) g_22 eM_23 dX3_init_40 ?_
  have g_24 : mT M_23 p0 = 2 := by rw [eM_23]; exact g_22
  refine V_aload_n hG 0 rfl dX3_init_43 ?_
  refine V_iconst hG 3 rfl dX3_init_44 ?_
  obtain ⟨g_25, h⟩ := gd_of h
  obtain ⟨M_26, eM_26, h⟩ := be_of h
  refine A_anew5 hG hN hEn rfl rfl q241 (by decide) eM_26 g_25 dX3_init_45 ?_
  obtain ⟨g_27, h⟩ := gd_of h
  obtain ⟨M_28, eM_28, h⟩ := be_of h
  refine pf_X3_28 hN hG (hI rfl) g_27 eM_28 dX3_init_48 ?_
  have g_29 : mT M_28 p0 = 2 := by rw [eM_28]; exact g_27
  refine V_aload_n hG 0 rfl dX3_init_51 ?_
  refine V_bipush hG 20 (by decide) dX3_init_52 ?_
  obtain ⟨M_30, eM_30, h⟩ := be_of h
  refine pf_X3_32 hN hG g_29 eM_30 dX3_init_54 ?_
  have g_31 : mT M_30 p0 = 2 := by rw [eM_30]; exact g_29
  obtain ⟨g_32, h⟩ := gd_of h
  refine V_narrow hEn (fun n1 n2 n3 => V_widen (k := LC - mN M) (n := LZ - mZ M) (by omega) (by omega) ?_)
  cases h
  subst eQ
  exact V_vret hG dX3_init_57

def f_X6_begin_b2 (N : Nat) (p0 : Nat) (x1_17 : Int32) (S_18 : Mem) : Option ((Int32 × Mem) ⊕ (Int32 × Mem)) :=
gd (mT S_18 p0 = 5) (
bd (mR S_18 p0 17) fun (a_71 : Nat) =>
gd (mT S_18 a_71 = 0) (
bd (f_X1_troughs a_71 S_18) fun (r_75 : Int32) =>
if r_75 ≤ x1_17 then (
some (.inl (x1_17, S_18)))
else (
bd (mR S_18 p0 5) fun (a_77 : Nat) =>
bd (mR S_18 p0 17) fun (a_79 : Nat) =>
gd (mT S_18 a_79 = 0) (
bd (f_X1_trough a_79 x1_17 S_18) fun (r_83 : Nat) =>
gd (mT S_18 r_83 = 7) (
gd (mT S_18 a_77 = 100) (
gd (inb x1_17 (mLn S_18 a_77)) (
be (sI S_18 a_77 (Int32.toNatClampNeg x1_17) (mI S_18 r_83 2)) fun (M_87 : Mem) =>
be (x1_17 + 1) fun (x1_93 : Int32) =>
some (.inr (x1_93, M_87)))))))))
def f_X6_begin_b1 (N : Nat) (p0 : Nat) (x1_6 : Int32) (S_7 : Mem) : Option ((Int32 × Mem) ⊕ (Int32 × Mem)) :=
gd (mT S_7 p0 = 5) (
bd (mR S_7 p0 17) fun (a_96 : Nat) =>
gd (mT S_7 a_96 = 0) (
bd (f_X1_horses a_96 S_7) fun (r_100 : Int32) =>
if r_100 ≤ x1_6 then (
some (.inl (x1_6, S_7)))
else (
bd (mR S_7 p0 0) fun (a_102 : Nat) =>
bd (mR S_7 p0 17) fun (a_104 : Nat) =>
gd (mT S_7 a_104 = 0) (
bd (f_X1_horse a_104 x1_6 S_7) fun (r_108 : Nat) =>
gd (mT S_7 r_108 = 8) (
gd (mT S_7 a_102 = 100) (
gd (inb x1_6 (mLn S_7 a_102)) (
be (sI S_7 a_102 (Int32.toNatClampNeg x1_6) (mI S_7 r_108 0)) fun (M_112 : Mem) =>
bd (mR M_112 p0 1) fun (a_118 : Nat) =>
bd (mR M_112 p0 17) fun (a_120 : Nat) =>
gd (mT M_112 a_120 = 0) (
bd (f_X1_horse a_120 x1_6 M_112) fun (r_124 : Nat) =>
gd (mT M_112 r_124 = 8) (
gd (mT M_112 a_118 = 100) (
gd (inb x1_6 (mLn M_112 a_118)) (
be (sI M_112 a_118 (Int32.toNatClampNeg x1_6) (mI M_112 r_124 3)) fun (M_128 : Mem) =>
bd (mR M_128 p0 2) fun (a_137 : Nat) =>
gd (mT M_128 a_137 = 100) (
gd (inb x1_6 (mLn M_128 a_137)) (
be (sI M_128 a_137 (Int32.toNatClampNeg x1_6) (-1)) fun (M_141 : Mem) =>
bd (mR M_141 p0 3) fun (a_151 : Nat) =>
gd (mT M_141 a_151 = 100) (
gd (inb x1_6 (mLn M_141 a_151)) (
be (sI M_141 a_151 (Int32.toNatClampNeg x1_6) 0) fun (M_155 : Mem) =>
bd (mR M_155 p0 4) fun (a_166 : Nat) =>
gd (mT M_155 a_166 = 100) (
gd (inb x1_6 (mLn M_155 a_166)) (
be (sI M_155 a_166 (Int32.toNatClampNeg x1_6) 0) fun (M_170 : Mem) =>
be (x1_6 + 1) fun (x1_182 : Int32) =>
some (.inr (x1_182, M_170)))))))))))))))))))
def f_X6_begin (N : Nat) (p0 : Nat) (M : Mem) : Option (Mem) :=
bd2 (lp N (fun s_94 : Int32 × Mem => f_X6_begin_b1 N p0 s_94.1 s_94.2) (0, M)) fun (x1_8 : Int32) (S_9 : Mem) =>
bd2 (lp N (fun s_69 : Int32 × Mem => f_X6_begin_b2 N p0 s_69.1 s_69.2) (0, S_9)) fun (x1_19 : Int32) (S_20 : Mem) =>
gd (mT S_20 p0 = 5) (
be (sI S_20 p0 6 0) fun (M_24 : Mem) =>
bd (mR M_24 p0 17) fun (a_26 : Nat) =>
gd (mT M_24 a_26 = 0) (
bd (f_X1_horses a_26 M_24) fun (r_30 : Int32) =>
be (sI M_24 p0 7 ((1 <<< (r_30 &&& 31)) - 1)) fun (M_31 : Mem) =>
be (sI M_31 p0 8 0) fun (M_34 : Mem) =>
be (sI M_34 p0 9 0) fun (M_37 : Mem) =>
be (sI M_37 p0 10 0) fun (M_40 : Mem) =>
bd (mR M_40 p0 17) fun (a_43 : Nat) =>
gd (mT M_40 a_43 = 0) (
bd (mR M_40 a_43 6) fun (a_46 : Nat) =>
gd (mT M_40 a_46 = 2) (
be (sI M_40 p0 11 (mI M_40 a_46 6)) fun (M_49 : Mem) =>
be (sI M_49 p0 12 (-1)) fun (M_54 : Mem) =>
be (sI M_54 p0 15 0) fun (M_59 : Mem) =>
be (sI M_59 p0 16 0) fun (M_64 : Mem) =>
some M_64))))
def rm_f_X6_begin : Room := { frames := 4, cells := 0, slots := 0, locals := 85 }
theorem ok_f_X6_begin {E : En} (hE : EOk E) (hN : NOk E) {N : Nat} {p0 : Nat} {M : Mem}  {M' : Mem} (h : f_X6_begin N p0 M = some M') : CM E yX6_begin cX6_begin 2 none rm_f_X6_begin [rf E p0] M none M' := by
  unfold f_X6_begin at h
  refine CM_introX (own := RX6) rfl (by decide +kernel) (Nat.le_of_ble_eq_true rfl) rfl (fun G hG hEn hI => ?_)
  obtain ⟨Q, eQ⟩ : ∃ Q, Q = QM E G none M' 0 0 := ⟨_, rfl⟩
  show V E G M 0 0 2 0 [(0, rf E p0)] [] (QM E G none M' 0 0)
  rw [← eQ]
  refine V_iconst hG 0 rfl dX6_begin_0 ?_
  refine V_istore_n hG rfl [(1, .int 0), (0, rf E p0)] dX6_begin_1 (Nat.le_of_ble_eq_true rfl) rfl ?_
  obtain ⟨x1_8, S_9, hL_10, h⟩ := bd2_of h
  have J_5 : ∀ q_11 : Int32 × Mem, q_11 = (x1_8, S_9) → V E G q_11.2 0 0 2 74 [(1, .int q_11.1), (0, rf E p0)] [] Q := by
    intro q_11 e9
    subst q_11
    show V E G S_9 0 0 2 74 [(1, .int x1_8), (0, rf E p0)] [] Q
    refine V_iconst hG 0 rfl dX6_begin_74 ?_
    refine V_istore_n hG rfl [(1, .int 0), (0, rf E p0)] dX6_begin_75 (Nat.le_of_ble_eq_true rfl) rfl ?_
    obtain ⟨x1_19, S_20, hL_21, h⟩ := bd2_of h
    have J_16 : ∀ q_22 : Int32 × Mem, q_22 = (x1_19, S_20) → V E G q_22.2 0 0 2 110 [(1, .int q_22.1), (0, rf E p0)] [] Q := by
      intro q_22 e9
      subst q_22
      show V E G S_20 0 0 2 110 [(1, .int x1_19), (0, rf E p0)] [] Q
      refine V_aload_n hG 1 rfl dX6_begin_110 ?_
      refine V_iconst hG 0 rfl dX6_begin_111 ?_
      obtain ⟨g_23, h⟩ := gd_of h
      obtain ⟨M_24, eM_24, h⟩ := be_of h
      refine pf_X6_61 hN hG g_23 eM_24 dX6_begin_112 ?_
      have g_25 : mT M_24 p0 = 5 := by rw [eM_24]; exact g_23
      refine V_aload_n hG 1 rfl dX6_begin_115 ?_
      refine V_iconst hG 1 rfl dX6_begin_116 ?_
      refine V_aload_n hG 1 rfl dX6_begin_117 ?_
      obtain ⟨a_26, hr_27, h⟩ := bd_of h
      refine gf_X6_3 hN hG g_25 hr_27 dX6_begin_118 ?_
      obtain ⟨g_28, h⟩ := gd_of h
      obtain ⟨r_30, hc_29, h⟩ := bd_of h
      refine W_callVN hE hG hN (ci := 0) (As := []) (rest := [.int 1, rf E p0]) (ok_f_X1_horses hE hN hc_29) g_28 (by decide) rfl q392 (lw_meth q395) q123 q394 qs0 hdc_X1_horses ⟨Nat.le_of_ble_eq_true rfl, Nat.le_of_ble_eq_true rfl⟩ rfl rfl (Nat.le_of_ble_eq_true rfl) ⟨Nat.le_of_ble_eq_true rfl, Nat.le_of_ble_eq_true rfl⟩ dX6_begin_121 (V_zero rfl rfl ?_)
      refine V_ishl hG dX6_begin_124 ?_
      refine V_iconst hG 1 rfl dX6_begin_125 ?_
      refine V_isub hG dX6_begin_126 ?_
      obtain ⟨M_31, eM_31, h⟩ := be_of h
      refine pf_X6_64 hN hG g_25 eM_31 dX6_begin_127 ?_
      have g_32 : mT M_31 p0 = 5 := by rw [eM_31]; exact g_25
      have g_33 : mT M_31 a_26 = 0 := by rw [eM_31]; exact g_28
      refine V_aload_n hG 1 rfl dX6_begin_130 ?_
      refine V_iconst hG 0 rfl dX6_begin_131 ?_
      obtain ⟨M_34, eM_34, h⟩ := be_of h
      refine pf_X6_67 hN hG g_32 eM_34 dX6_begin_132 ?_
      have g_35 : mT M_34 p0 = 5 := by rw [eM_34]; exact g_32
      have g_36 : mT M_34 a_26 = 0 := by rw [eM_34]; exact g_33
      refine V_aload_n hG 1 rfl dX6_begin_135 ?_
      refine V_iconst hG 0 rfl dX6_begin_136 ?_
      obtain ⟨M_37, eM_37, h⟩ := be_of h
      refine pf_X6_70 hN hG g_35 eM_37 dX6_begin_137 ?_
      have g_38 : mT M_37 p0 = 5 := by rw [eM_37]; exact g_35
      have g_39 : mT M_37 a_26 = 0 := by rw [eM_37]; exact g_36
      refine V_aload_n hG 1 rfl dX6_begin_140 ?_
      refine V_iconst hG 0 rfl dX6_begin_141 ?_
      obtain ⟨M_40, eM_40, h⟩ := be_of h
      refine pf_X6_73 hN hG g_38 eM_40 dX6_begin_142 ?_
      have g_41 : mT M_40 p0 = 5 := by rw [eM_40]; exact g_38
      have g_42 : mT M_40 a_26 = 0 := by rw [eM_40]; exact g_39
      refine V_aload_n hG 1 rfl dX6_begin_145 ?_
      refine V_aload_n hG 1 rfl dX6_begin_146 ?_
      obtain ⟨a_43, hr_44, h⟩ := bd_of h
      refine gf_X6_3 hN hG g_41 hr_44 dX6_begin_147 ?_
      obtain ⟨g_45, h⟩ := gd_of h
      obtain ⟨a_46, hr_47, h⟩ := bd_of h
      refine gf_X6_76 hN hG g_45 hr_47 dX6_begin_150 ?_
      obtain ⟨g_48, h⟩ := gd_of h
      refine gf_X6_80 hN hG g_48 dX6_begin_153 ?_
      obtain ⟨M_49, eM_49, h⟩ := be_of h
      refine pf_X6_85 hN hG g_41 eM_49 dX6_begin_156 ?_
      have g_50 : mT M_49 p0 = 5 := by rw [eM_49]; exact g_41
      have g_51 : mT M_49 a_26 = 0 := by rw [eM_49]; exact g_42
      have g_52 : mT M_49 a_43 = 0 := by rw [eM_49]; exact g_45
      have g_53 : mT M_49 a_46 = 2 := by rw [eM_49]; exact g_48
      refine V_aload_n hG 1 rfl dX6_begin_159 ?_
      refine V_iconst hG (-1) rfl dX6_begin_160 ?_
      obtain ⟨M_54, eM_54, h⟩ := be_of h
      refine pf_X6_88 hN hG g_50 eM_54 dX6_begin_161 ?_
      have g_55 : mT M_54 p0 = 5 := by rw [eM_54]; exact g_50
      have g_56 : mT M_54 a_26 = 0 := by rw [eM_54]; exact g_51
      have g_57 : mT M_54 a_43 = 0 := by rw [eM_54]; exact g_52
      have g_58 : mT M_54 a_46 = 2 := by rw [eM_54]; exact g_53
      refine V_aload_n hG 1 rfl dX6_begin_164 ?_
      refine V_iconst hG 0 rfl dX6_begin_165 ?_
      obtain ⟨M_59, eM_59, h⟩ := be_of h
      refine pf_X6_91 hN hG g_55 eM_59 dX6_begin_166 ?_
      have g_60 : mT M_59 p0 = 5 := by rw [eM_59]; exact g_55
      have g_61 : mT M_59 a_26 = 0 := by rw [eM_59]; exact g_56
      have g_62 : mT M_59 a_43 = 0 := by rw [eM_59]; exact g_57
      have g_63 : mT M_59 a_46 = 2 := by rw [eM_59]; exact g_58
      refine V_aload_n hG 1 rfl dX6_begin_169 ?_
      refine V_iconst hG 0 rfl dX6_begin_170 ?_
      obtain ⟨M_64, eM_64, h⟩ := be_of h
      refine pf_X6_94 hN hG g_60 eM_64 dX6_begin_171 ?_
      have g_65 : mT M_64 p0 = 5 := by rw [eM_64]; exact g_60
      have g_66 : mT M_64 a_26 = 0 := by rw [eM_64]; exact g_61
      have g_67 : mT M_64 a_43 = 0 := by rw [eM_64]; exact g_62
      have g_68 : mT M_64 a_46 = 2 := by rw [eM_64]; exact g_63
      cases h
      subst eQ
      exact V_vret hG dX6_begin_174
    refine lp_walk (W := fun s_69 : Int32 × Mem => V E G s_69.2 0 0 2 76 [(1, .int s_69.1), (0, rf E p0)] [] Q) ?_ N (0, S_9) hL_21
    intro s_69 b_12 hb_13 hk_14 hx_15
    obtain ⟨x1_17, S_18⟩ := s_69
    have hb_13 : f_X6_begin_b2 N p0 x1_17 S_18 = some b_12 := hb_13
    unfold f_X6_begin_b2 at hb_13
    show V E G S_18 0 0 2 76 [(1, .int x1_17), (0, rf E p0)] [] Q
    refine V_iload_n hG 0 rfl dX6_begin_76 ?_
    refine V_aload_n hG 1 rfl dX6_begin_77 ?_
    obtain ⟨g_70, hb_13⟩ := gd_of hb_13
    obtain ⟨a_71, hr_72, hb_13⟩ := bd_of hb_13
    refine gf_X6_3 hN hG g_70 hr_72 dX6_begin_78 ?_
    obtain ⟨g_73, hb_13⟩ := gd_of hb_13
    obtain ⟨r_75, hc_74, hb_13⟩ := bd_of hb_13
    refine W_callVN hE hG hN (ci := 0) (As := []) (rest := [.int x1_17]) (ok_f_X1_troughs hE hN hc_74) g_73 (by decide) rfl q419 (lw_meth q422) q123 q421 qs2 hdc_X1_troughs ⟨Nat.le_of_ble_eq_true rfl, Nat.le_of_ble_eq_true rfl⟩ rfl rfl (Nat.le_of_ble_eq_true rfl) ⟨Nat.le_of_ble_eq_true rfl, Nat.le_of_ble_eq_true rfl⟩ dX6_begin_81 (V_zero rfl rfl ?_)
    refine V_icmp_ge hG 110 dX6_begin_84 (by decide) (fun c_76 => ?_) (fun c_76 => ?_)
    · have hb_13 := if_t c_76 hb_13
      cases hb_13
      exact J_16 _ (hx_15 _ rfl)
    · have hb_13 := if_f c_76 hb_13
      refine V_aload_n hG 1 rfl dX6_begin_87 ?_
      obtain ⟨a_77, hr_78, hb_13⟩ := bd_of hb_13
      refine gf_X6_31 hN hG g_70 hr_78 dX6_begin_88 ?_
      refine V_iload_n hG 0 rfl dX6_begin_91 ?_
      refine V_aload_n hG 1 rfl dX6_begin_92 ?_
      obtain ⟨a_79, hr_80, hb_13⟩ := bd_of hb_13
      refine gf_X6_3 hN hG g_70 hr_80 dX6_begin_93 ?_
      refine V_iload_n hG 0 rfl dX6_begin_96 ?_
      obtain ⟨g_81, hb_13⟩ := gd_of hb_13
      obtain ⟨r_83, hc_82, hb_13⟩ := bd_of hb_13
      refine W_callVN hE hG hN (ci := 0) (As := [.int x1_17]) (rest := [.int x1_17, rf E a_77]) (ok_f_X1_trough hE hN hc_82) g_81 (by decide) rfl q423 (lw_meth q426) q123 q425 qs3 hdc_X1_trough ⟨Nat.le_of_ble_eq_true rfl, Nat.le_of_ble_eq_true rfl⟩ rfl rfl (Nat.le_of_ble_eq_true rfl) ⟨Nat.le_of_ble_eq_true rfl, Nat.le_of_ble_eq_true rfl⟩ dX6_begin_97 (V_zero rfl rfl ?_)
      obtain ⟨g_84, hb_13⟩ := gd_of hb_13
      refine gf_X6_57 hN hG g_84 dX6_begin_100 ?_
      obtain ⟨g_85, hb_13⟩ := gd_of hb_13
      obtain ⟨g_86, hb_13⟩ := gd_of hb_13
      obtain ⟨M_87, eM_87, hb_13⟩ := be_of hb_13
      refine W_iastore hG g_85 g_86 M_87 eM_87 dX6_begin_103 ?_
      have g_88 : mT M_87 p0 = 5 := by rw [eM_87]; exact g_70
      have g_89 : mT M_87 a_71 = 0 := by rw [eM_87]; exact g_73
      have g_90 : mT M_87 a_79 = 0 := by rw [eM_87]; exact g_81
      have g_91 : mT M_87 r_83 = 7 := by rw [eM_87]; exact g_84
      have g_92 : mT M_87 a_77 = 100 := by rw [eM_87]; exact g_85
      obtain ⟨x1_93, ex1_93, hb_13⟩ := be_of hb_13
      refine V_iinc hG 0 x1_93 rfl (by rw [ex1_93]; rfl) [(1, .int x1_93), (0, rf E p0)] dX6_begin_104 (Nat.le_of_ble_eq_true rfl) rfl ?_
      refine V_goto hG 76 dX6_begin_107 (by decide) ?_
      cases hb_13
      exact hk_14 _ rfl
  refine lp_walk (W := fun s_94 : Int32 × Mem => V E G s_94.2 0 0 2 2 [(1, .int s_94.1), (0, rf E p0)] [] Q) ?_ N (0, M) hL_10
  intro s_94 b_1 hb_2 hk_3 hx_4
  obtain ⟨x1_6, S_7⟩ := s_94
  have hb_2 : f_X6_begin_b1 N p0 x1_6 S_7 = some b_1 := hb_2
  unfold f_X6_begin_b1 at hb_2
  show V E G S_7 0 0 2 2 [(1, .int x1_6), (0, rf E p0)] [] Q
  refine V_iload_n hG 0 rfl dX6_begin_2 ?_
  refine V_aload_n hG 1 rfl dX6_begin_3 ?_
  obtain ⟨g_95, hb_2⟩ := gd_of hb_2
  obtain ⟨a_96, hr_97, hb_2⟩ := bd_of hb_2
  refine gf_X6_3 hN hG g_95 hr_97 dX6_begin_4 ?_
  obtain ⟨g_98, hb_2⟩ := gd_of hb_2
  obtain ⟨r_100, hc_99, hb_2⟩ := bd_of hb_2
  refine W_callVN hE hG hN (ci := 0) (As := []) (rest := [.int x1_6]) (ok_f_X1_horses hE hN hc_99) g_98 (by decide) rfl q392 (lw_meth q395) q123 q394 qs0 hdc_X1_horses ⟨Nat.le_of_ble_eq_true rfl, Nat.le_of_ble_eq_true rfl⟩ rfl rfl (Nat.le_of_ble_eq_true rfl) ⟨Nat.le_of_ble_eq_true rfl, Nat.le_of_ble_eq_true rfl⟩ dX6_begin_7 (V_zero rfl rfl ?_)
  refine V_icmp_ge hG 74 dX6_begin_10 (by decide) (fun c_101 => ?_) (fun c_101 => ?_)
  · have hb_2 := if_t c_101 hb_2
    cases hb_2
    exact J_5 _ (hx_4 _ rfl)
  · have hb_2 := if_f c_101 hb_2
    refine V_aload_n hG 1 rfl dX6_begin_13 ?_
    obtain ⟨a_102, hr_103, hb_2⟩ := bd_of hb_2
    refine gf_X6_15 hN hG g_95 hr_103 dX6_begin_14 ?_
    refine V_iload_n hG 0 rfl dX6_begin_17 ?_
    refine V_aload_n hG 1 rfl dX6_begin_18 ?_
    obtain ⟨a_104, hr_105, hb_2⟩ := bd_of hb_2
    refine gf_X6_3 hN hG g_95 hr_105 dX6_begin_19 ?_
    refine V_iload_n hG 0 rfl dX6_begin_22 ?_
    obtain ⟨g_106, hb_2⟩ := gd_of hb_2
    obtain ⟨r_108, hc_107, hb_2⟩ := bd_of hb_2
    refine W_callVN hE hG hN (ci := 0) (As := [.int x1_6]) (rest := [.int x1_6, rf E a_102]) (ok_f_X1_horse hE hN hc_107) g_106 (by decide) rfl q400 (lw_meth q403) q123 q402 qs1 hdc_X1_horse ⟨Nat.le_of_ble_eq_true rfl, Nat.le_of_ble_eq_true rfl⟩ rfl rfl (Nat.le_of_ble_eq_true rfl) ⟨Nat.le_of_ble_eq_true rfl, Nat.le_of_ble_eq_true rfl⟩ dX6_begin_23 (V_zero rfl rfl ?_)
    obtain ⟨g_109, hb_2⟩ := gd_of hb_2
    refine gf_X6_42 hN hG g_109 dX6_begin_26 ?_
    obtain ⟨g_110, hb_2⟩ := gd_of hb_2
    obtain ⟨g_111, hb_2⟩ := gd_of hb_2
    obtain ⟨M_112, eM_112, hb_2⟩ := be_of hb_2
    refine W_iastore hG g_110 g_111 M_112 eM_112 dX6_begin_29 ?_
    have g_113 : mT M_112 p0 = 5 := by rw [eM_112]; exact g_95
    have g_114 : mT M_112 a_96 = 0 := by rw [eM_112]; exact g_98
    have g_115 : mT M_112 a_104 = 0 := by rw [eM_112]; exact g_106
    have g_116 : mT M_112 r_108 = 8 := by rw [eM_112]; exact g_109
    have g_117 : mT M_112 a_102 = 100 := by rw [eM_112]; exact g_110
    refine V_aload_n hG 1 rfl dX6_begin_30 ?_
    obtain ⟨a_118, hr_119, hb_2⟩ := bd_of hb_2
    refine gf_X6_19 hN hG g_113 hr_119 dX6_begin_31 ?_
    refine V_iload_n hG 0 rfl dX6_begin_34 ?_
    refine V_aload_n hG 1 rfl dX6_begin_35 ?_
    obtain ⟨a_120, hr_121, hb_2⟩ := bd_of hb_2
    refine gf_X6_3 hN hG g_113 hr_121 dX6_begin_36 ?_
    refine V_iload_n hG 0 rfl dX6_begin_39 ?_
    obtain ⟨g_122, hb_2⟩ := gd_of hb_2
    obtain ⟨r_124, hc_123, hb_2⟩ := bd_of hb_2
    refine W_callVN hE hG hN (ci := 0) (As := [.int x1_6]) (rest := [.int x1_6, rf E a_118]) (ok_f_X1_horse hE hN hc_123) g_122 (by decide) rfl q400 (lw_meth q403) q123 q402 qs1 hdc_X1_horse ⟨Nat.le_of_ble_eq_true rfl, Nat.le_of_ble_eq_true rfl⟩ rfl rfl (Nat.le_of_ble_eq_true rfl) ⟨Nat.le_of_ble_eq_true rfl, Nat.le_of_ble_eq_true rfl⟩ dX6_begin_40 (V_zero rfl rfl ?_)
    obtain ⟨g_125, hb_2⟩ := gd_of hb_2
    refine gf_X6_48 hN hG g_125 dX6_begin_43 ?_
    obtain ⟨g_126, hb_2⟩ := gd_of hb_2
    obtain ⟨g_127, hb_2⟩ := gd_of hb_2
    obtain ⟨M_128, eM_128, hb_2⟩ := be_of hb_2
    refine W_iastore hG g_126 g_127 M_128 eM_128 dX6_begin_46 ?_
    have g_129 : mT M_128 p0 = 5 := by rw [eM_128]; exact g_113
    have g_130 : mT M_128 a_96 = 0 := by rw [eM_128]; exact g_114
    have g_131 : mT M_128 a_104 = 0 := by rw [eM_128]; exact g_115
    have g_132 : mT M_128 r_108 = 8 := by rw [eM_128]; exact g_116
    have g_133 : mT M_128 a_102 = 100 := by rw [eM_128]; exact g_117
    have g_134 : mT M_128 a_120 = 0 := by rw [eM_128]; exact g_122
    have g_135 : mT M_128 r_124 = 8 := by rw [eM_128]; exact g_125
    have g_136 : mT M_128 a_118 = 100 := by rw [eM_128]; exact g_126
    refine V_aload_n hG 1 rfl dX6_begin_47 ?_
    obtain ⟨a_137, hr_138, hb_2⟩ := bd_of hb_2
    refine gf_X6_22 hN hG g_129 hr_138 dX6_begin_48 ?_
    refine V_iload_n hG 0 rfl dX6_begin_51 ?_
    refine V_iconst hG (-1) rfl dX6_begin_52 ?_
    obtain ⟨g_139, hb_2⟩ := gd_of hb_2
    obtain ⟨g_140, hb_2⟩ := gd_of hb_2
    obtain ⟨M_141, eM_141, hb_2⟩ := be_of hb_2
    refine W_iastore hG g_139 g_140 M_141 eM_141 dX6_begin_53 ?_
    have g_142 : mT M_141 p0 = 5 := by rw [eM_141]; exact g_129
    have g_143 : mT M_141 a_96 = 0 := by rw [eM_141]; exact g_130
    have g_144 : mT M_141 a_104 = 0 := by rw [eM_141]; exact g_131
    have g_145 : mT M_141 r_108 = 8 := by rw [eM_141]; exact g_132
    have g_146 : mT M_141 a_102 = 100 := by rw [eM_141]; exact g_133
    have g_147 : mT M_141 a_120 = 0 := by rw [eM_141]; exact g_134
    have g_148 : mT M_141 r_124 = 8 := by rw [eM_141]; exact g_135
    have g_149 : mT M_141 a_118 = 100 := by rw [eM_141]; exact g_136
    have g_150 : mT M_141 a_137 = 100 := by rw [eM_141]; exact g_139
    refine V_aload_n hG 1 rfl dX6_begin_54 ?_
    obtain ⟨a_151, hr_152, hb_2⟩ := bd_of hb_2
    refine gf_X6_25 hN hG g_142 hr_152 dX6_begin_55 ?_
    refine V_iload_n hG 0 rfl dX6_begin_58 ?_
    refine V_iconst hG 0 rfl dX6_begin_59 ?_
    obtain ⟨g_153, hb_2⟩ := gd_of hb_2
    obtain ⟨g_154, hb_2⟩ := gd_of hb_2
    obtain ⟨M_155, eM_155, hb_2⟩ := be_of hb_2
    refine W_iastore hG g_153 g_154 M_155 eM_155 dX6_begin_60 ?_
    have g_156 : mT M_155 p0 = 5 := by rw [eM_155]; exact g_142
    have g_157 : mT M_155 a_96 = 0 := by rw [eM_155]; exact g_143
    have g_158 : mT M_155 a_104 = 0 := by rw [eM_155]; exact g_144
    have g_159 : mT M_155 r_108 = 8 := by rw [eM_155]; exact g_145
    have g_160 : mT M_155 a_102 = 100 := by rw [eM_155]; exact g_146
    have g_161 : mT M_155 a_120 = 0 := by rw [eM_155]; exact g_147
    have g_162 : mT M_155 r_124 = 8 := by rw [eM_155]; exact g_148
    have g_163 : mT M_155 a_118 = 100 := by rw [eM_155]; exact g_149
    have g_164 : mT M_155 a_137 = 100 := by rw [eM_155]; exact g_150
    have g_165 : mT M_155 a_151 = 100 := by rw [eM_155]; exact g_153
    refine V_aload_n hG 1 rfl dX6_begin_61 ?_
    obtain ⟨a_166, hr_167, hb_2⟩ := bd_of hb_2
    refine gf_X6_28 hN hG g_156 hr_167 dX6_begin_62 ?_
    refine V_iload_n hG 0 rfl dX6_begin_65 ?_
    refine V_iconst hG 0 rfl dX6_begin_66 ?_
    obtain ⟨g_168, hb_2⟩ := gd_of hb_2
    obtain ⟨g_169, hb_2⟩ := gd_of hb_2
    obtain ⟨M_170, eM_170, hb_2⟩ := be_of hb_2
    refine W_iastore hG g_168 g_169 M_170 eM_170 dX6_begin_67 ?_
    have g_171 : mT M_170 p0 = 5 := by rw [eM_170]; exact g_156
    have g_172 : mT M_170 a_96 = 0 := by rw [eM_170]; exact g_157
    have g_173 : mT M_170 a_104 = 0 := by rw [eM_170]; exact g_158
    have g_174 : mT M_170 r_108 = 8 := by rw [eM_170]; exact g_159
    have g_175 : mT M_170 a_102 = 100 := by rw [eM_170]; exact g_160
    have g_176 : mT M_170 a_120 = 0 := by rw [eM_170]; exact g_161
    have g_177 : mT M_170 r_124 = 8 := by rw [eM_170]; exact g_162
    have g_178 : mT M_170 a_118 = 100 := by rw [eM_170]; exact g_163
    have g_179 : mT M_170 a_137 = 100 := by rw [eM_170]; exact g_164
    have g_180 : mT M_170 a_151 = 100 := by rw [eM_170]; exact g_165
    have g_181 : mT M_170 a_166 = 100 := by rw [eM_170]; exact g_168
    obtain ⟨x1_182, ex1_182, hb_2⟩ := be_of hb_2
    refine V_iinc hG 0 x1_182 rfl (by rw [ex1_182]; rfl) [(1, .int x1_182), (0, rf E p0)] dX6_begin_68 (Nat.le_of_ble_eq_true rfl) rfl ?_
    refine V_goto hG 2 dX6_begin_71 (by decide) ?_
    cases hb_2
    exact hk_3 _ rfl
