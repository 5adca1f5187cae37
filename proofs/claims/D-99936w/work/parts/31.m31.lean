set_option maxRecDepth 100000
set_option maxHeartbeats 4000000
def f_X6_draw (p0 : Nat) (p1 : Int32) (M : Mem) : Option (Int32 × Mem) :=
gd (mT M p0 = 5) (
be (sI M p0 11 ((((mI M p0 11) * 1103515245) + 12345) &&& 2147483647)) fun (M_2 : Mem) =>
gd (¬ p1 = 0) (
some (((mI M_2 p0 11) >>> (16 &&& 31)) - ((mI M_2 p0 11) >>> (16 &&& 31)) / p1 * p1, M_2)))
def rm_f_X6_draw : Room := { frames := 0, cells := 0, slots := 0, locals := 0 }
theorem ok_f_X6_draw {E : En} (hE : EOk E) (hN : NOk E) {p0 : Nat} {p1 : Int32} {M : Mem} {r : Int32} {M' : Mem} (h : f_X6_draw p0 p1 M = some (r, M')) : CM E yX6_draw cX6_draw 2 (some .int) rm_f_X6_draw [rf E p0, .int p1] M (some (.int r)) M' := by
  unfold f_X6_draw at h
  refine CM_introX (own := RX6) rfl (by decide +kernel) (Nat.le_of_ble_eq_true rfl) rfl (fun G hG hEn hI => ?_)
  obtain ⟨Q, eQ⟩ : ∃ Q, Q = QM E G (some (.int r)) M' 0 0 := ⟨_, rfl⟩
  show V E G M 0 0 2 0 [(0, rf E p0), (1, .int p1)] [] (QM E G (some (.int r)) M' 0 0)
  rw [← eQ]
  refine V_aload_n hG 0 rfl dX6_draw_0 ?_
  refine V_aload_n hG 0 rfl dX6_draw_1 ?_
  obtain ⟨g_1, h⟩ := gd_of h
  refine gf_X6_85 hN hG g_1 dX6_draw_2 ?_
  refine V_ldc hG q1188 dX6_draw_5 ?_
  refine V_imul hG dX6_draw_7 ?_
  refine V_sipush hG 12345 (by decide) dX6_draw_8 ?_
  refine V_iadd hG dX6_draw_11 ?_
  refine V_ldc hG q1189 dX6_draw_12 ?_
  refine V_iand hG dX6_draw_14 ?_
  obtain ⟨M_2, eM_2, h⟩ := be_of h
  refine pf_X6_85 hN hG g_1 eM_2 dX6_draw_15 ?_
  have g_3 : mT M_2 p0 = 5 := by rw [eM_2]; exact g_1
  refine V_aload_n hG 0 rfl dX6_draw_18 ?_
  refine gf_X6_85 hN hG g_3 dX6_draw_19 ?_
  refine V_bipush hG 16 (by decide) dX6_draw_22 ?_
  refine V_ishr hG dX6_draw_24 ?_
  refine V_iload_n hG 1 rfl dX6_draw_25 ?_
  obtain ⟨g_4, h⟩ := gd_of h
  refine V_irem hG g_4 dX6_draw_26 ?_
  cases h
  subst eQ
  exact V_iret hG dX6_draw_27

def f_X6_rains (p0 : Nat) (p1 : Int32) (M : Mem) : Option (Int32 × Mem) :=
gd (mT M p0 = 5) (
if mI M p0 12 = 0 then (
some (0, M))
else (
bd2 (if p1 = 0 then (
bd (mR M p0 17) fun (a_9 : Nat) =>
gd (mT M a_9 = 0) (
bd (mR M a_9 6) fun (a_12 : Nat) =>
gd (mT M a_12 = 2) (
if mI M a_12 5 < 50 then (
some (0, M))
else (
some (1, M)))))
else (
bd (mR M p0 17) fun (a_16 : Nat) =>
gd (mT M a_16 = 0) (
bd (mR M a_16 6) fun (a_19 : Nat) =>
gd (mT M a_19 = 2) (
if mI M a_19 5 ≤ 0 then (
bd (mR M p0 17) fun (a_23 : Nat) =>
gd (mT M a_23 = 0) (
bd (mR M a_23 6) fun (a_26 : Nat) =>
gd (mT M a_26 = 2) (
if mI M a_26 5 < 50 then (
some (0, M))
else (
some (1, M)))))
else (
bd (mR M p0 17) fun (a_30 : Nat) =>
gd (mT M a_30 = 0) (
bd (mR M a_30 6) fun (a_33 : Nat) =>
gd (mT M a_33 = 2) (
if 100 ≤ mI M a_33 5 then (
bd (mR M p0 17) fun (a_37 : Nat) =>
gd (mT M a_37 = 0) (
bd (mR M a_37 6) fun (a_40 : Nat) =>
gd (mT M a_40 = 2) (
if mI M a_40 5 < 50 then (
some (0, M))
else (
some (1, M)))))
else (
bd2 (f_X6_draw p0 100 M) fun (r_46 : Int32) (M_45 : Mem) =>
gd (mT M_45 p0 = 5) (
bd (mR M_45 p0 17) fun (a_48 : Nat) =>
gd (mT M_45 a_48 = 0) (
bd (mR M_45 a_48 6) fun (a_51 : Nat) =>
gd (mT M_45 a_51 = 2) (
if mI M_45 a_51 5 ≤ r_46 then (
some (0, M_45))
else (
some (1, M_45)))))))))))) : Option (Int32 × Mem)) fun (t_3 : Int32) (M_4 : Mem) =>
gd (t_3 = 0 ∨ t_3 = 1) (
some (t_3, M_4))))
def rm_f_X6_rains : Room := { frames := 1, cells := 0, slots := 0, locals := 21 }
theorem ok_f_X6_rains {E : En} (hE : EOk E) (hN : NOk E) {p0 : Nat} {p1 : Int32} {M : Mem} {r : Int32} {M' : Mem} (h : f_X6_rains p0 p1 M = some (r, M')) : CM E yX6_rains cX6_rains 2 (some .boolean) rm_f_X6_rains [rf E p0, .int p1] M (some (.int r)) M' := by
  unfold f_X6_rains at h
  refine CM_introX (own := RX6) rfl (by decide +kernel) (Nat.le_of_ble_eq_true rfl) rfl (fun G hG hEn hI => ?_)
  obtain ⟨Q, eQ⟩ : ∃ Q, Q = QM E G (some (.int r)) M' 0 0 := ⟨_, rfl⟩
  show V E G M 0 0 2 0 [(0, rf E p0), (1, .int p1)] [] (QM E G (some (.int r)) M' 0 0)
  rw [← eQ]
  refine V_aload_n hG 0 rfl dX6_rains_0 ?_
  obtain ⟨g_1, h⟩ := gd_of h
  refine gf_X6_88 hN hG g_1 dX6_rains_1 ?_
  refine V_if_ne hG 9 dX6_rains_4 (by decide) (fun c_2 => ?_) (fun c_2 => ?_)
  · have h := if_f c_2 h
    refine V_iload_n hG 1 rfl dX6_rains_9 ?_
    obtain ⟨t_3, M_4, hj_6, h⟩ := bd2_of h
    have J_5 : V E G M_4 0 0 2 88 [(0, rf E p0), (1, .int p1)] [.int t_3] Q := by
      obtain ⟨g_7, h⟩ := gd_of h
      cases h
      subst eQ
      exact V_zret hG g_7 dX6_rains_88
    refine V_if_eq hG 68 dX6_rains_10 (by decide) (fun c_8 => ?_) (fun c_8 => ?_)
    · have hj_6 := if_t c_8 hj_6
      refine V_aload_n hG 0 rfl dX6_rains_68 ?_
      obtain ⟨a_9, hr_10, hj_6⟩ := bd_of hj_6
      refine gf_X6_3 hN hG g_1 hr_10 dX6_rains_69 ?_
      obtain ⟨g_11, hj_6⟩ := gd_of hj_6
      obtain ⟨a_12, hr_13, hj_6⟩ := bd_of hj_6
      refine gf_X6_76 hN hG g_11 hr_13 dX6_rains_72 ?_
      obtain ⟨g_14, hj_6⟩ := gd_of hj_6
      refine gf_X6_157 hN hG g_14 dX6_rains_75 ?_
      refine V_bipush hG 50 (by decide) dX6_rains_78 ?_
      refine V_icmp_lt hG 87 dX6_rains_80 (by decide) (fun c_15 => ?_) (fun c_15 => ?_)
      · have hj_6 := if_t c_15 hj_6
        refine V_iconst hG 0 rfl dX6_rains_87 ?_
        cases hj_6
        exact J_5
      · have hj_6 := if_f c_15 hj_6
        refine V_iconst hG 1 rfl dX6_rains_83 ?_
        refine V_goto hG 88 dX6_rains_84 (by decide) ?_
        cases hj_6
        exact J_5
    · have hj_6 := if_f c_8 hj_6
      refine V_aload_n hG 0 rfl dX6_rains_13 ?_
      obtain ⟨a_16, hr_17, hj_6⟩ := bd_of hj_6
      refine gf_X6_3 hN hG g_1 hr_17 dX6_rains_14 ?_
      obtain ⟨g_18, hj_6⟩ := gd_of hj_6
      obtain ⟨a_19, hr_20, hj_6⟩ := bd_of hj_6
      refine gf_X6_76 hN hG g_18 hr_20 dX6_rains_17 ?_
      obtain ⟨g_21, hj_6⟩ := gd_of hj_6
      refine gf_X6_157 hN hG g_21 dX6_rains_20 ?_
      refine V_if_le hG 68 dX6_rains_23 (by decide) (fun c_22 => ?_) (fun c_22 => ?_)
      · have hj_6 := if_t c_22 hj_6
        refine V_aload_n hG 0 rfl dX6_rains_68 ?_
        obtain ⟨a_23, hr_24, hj_6⟩ := bd_of hj_6
        refine gf_X6_3 hN hG g_1 hr_24 dX6_rains_69 ?_
        obtain ⟨g_25, hj_6⟩ := gd_of hj_6
        obtain ⟨a_26, hr_27, hj_6⟩ := bd_of hj_6
        refine gf_X6_76 hN hG g_25 hr_27 dX6_rains_72 ?_
        obtain ⟨g_28, hj_6⟩ := gd_of hj_6
        refine gf_X6_157 hN hG g_28 dX6_rains_75 ?_
        refine V_bipush hG 50 (by decide) dX6_rains_78 ?_
        refine V_icmp_lt hG 87 dX6_rains_80 (by decide) (fun c_29 => ?_) (fun c_29 => ?_)
        · have hj_6 := if_t c_29 hj_6
          refine V_iconst hG 0 rfl dX6_rains_87 ?_
          cases hj_6
          exact J_5
        · have hj_6 := if_f c_29 hj_6
          refine V_iconst hG 1 rfl dX6_rains_83 ?_
          refine V_goto hG 88 dX6_rains_84 (by decide) ?_
          cases hj_6
          exact J_5
      · have hj_6 := if_f c_22 hj_6
        refine V_aload_n hG 0 rfl dX6_rains_26 ?_
        obtain ⟨a_30, hr_31, hj_6⟩ := bd_of hj_6
        refine gf_X6_3 hN hG g_1 hr_31 dX6_rains_27 ?_
        obtain ⟨g_32, hj_6⟩ := gd_of hj_6
        obtain ⟨a_33, hr_34, hj_6⟩ := bd_of hj_6
        refine gf_X6_76 hN hG g_32 hr_34 dX6_rains_30 ?_
        obtain ⟨g_35, hj_6⟩ := gd_of hj_6
        refine gf_X6_157 hN hG g_35 dX6_rains_33 ?_
        refine V_bipush hG 100 (by decide) dX6_rains_36 ?_
        refine V_icmp_ge hG 68 dX6_rains_38 (by decide) (fun c_36 => ?_) (fun c_36 => ?_)
        · have hj_6 := if_t c_36 hj_6
          refine V_aload_n hG 0 rfl dX6_rains_68 ?_
          obtain ⟨a_37, hr_38, hj_6⟩ := bd_of hj_6
          refine gf_X6_3 hN hG g_1 hr_38 dX6_rains_69 ?_
          obtain ⟨g_39, hj_6⟩ := gd_of hj_6
          obtain ⟨a_40, hr_41, hj_6⟩ := bd_of hj_6
          refine gf_X6_76 hN hG g_39 hr_41 dX6_rains_72 ?_
          obtain ⟨g_42, hj_6⟩ := gd_of hj_6
          refine gf_X6_157 hN hG g_42 dX6_rains_75 ?_
          refine V_bipush hG 50 (by decide) dX6_rains_78 ?_
          refine V_icmp_lt hG 87 dX6_rains_80 (by decide) (fun c_43 => ?_) (fun c_43 => ?_)
          · have hj_6 := if_t c_43 hj_6
            refine V_iconst hG 0 rfl dX6_rains_87 ?_
            cases hj_6
            exact J_5
          · have hj_6 := if_f c_43 hj_6
            refine V_iconst hG 1 rfl dX6_rains_83 ?_
            refine V_goto hG 88 dX6_rains_84 (by decide) ?_
            cases hj_6
            exact J_5
        · have hj_6 := if_f c_36 hj_6
          refine V_aload_n hG 0 rfl dX6_rains_41 ?_
          refine V_bipush hG 100 (by decide) dX6_rains_42 ?_
          obtain ⟨r_46, M_45, hc_44, hj_6⟩ := bd2_of hj_6
          refine V_callV hE hG (ci := 5) (As := [.int 100]) (rest := []) (ok_f_X6_draw hE hN hc_44) g_1 (by decide) rfl hw_X6_160 hdv_X6_draw ⟨Nat.le_of_ble_eq_true rfl, Nat.le_of_ble_eq_true rfl⟩ rfl rfl (Nat.le_of_ble_eq_true rfl) ⟨Nat.le_of_ble_eq_true rfl, Nat.le_of_ble_eq_true rfl⟩ dX6_rains_44 (V_zero rfl rfl ?_)
          refine V_aload_n hG 0 rfl dX6_rains_47 ?_
          obtain ⟨g_47, hj_6⟩ := gd_of hj_6
          obtain ⟨a_48, hr_49, hj_6⟩ := bd_of hj_6
          refine gf_X6_3 hN hG g_47 hr_49 dX6_rains_48 ?_
          obtain ⟨g_50, hj_6⟩ := gd_of hj_6
          obtain ⟨a_51, hr_52, hj_6⟩ := bd_of hj_6
          refine gf_X6_76 hN hG g_50 hr_52 dX6_rains_51 ?_
          obtain ⟨g_53, hj_6⟩ := gd_of hj_6
          refine gf_X6_157 hN hG g_53 dX6_rains_54 ?_
          refine V_icmp_ge hG 64 dX6_rains_57 (by decide) (fun c_54 => ?_) (fun c_54 => ?_)
          · have hj_6 := if_t c_54 hj_6
            refine V_iconst hG 0 rfl dX6_rains_64 ?_
            refine V_goto hG 88 dX6_rains_65 (by decide) ?_
            cases hj_6
            exact J_5
          · have hj_6 := if_f c_54 hj_6
            refine V_iconst hG 1 rfl dX6_rains_60 ?_
            refine V_goto hG 88 dX6_rains_61 (by decide) ?_
            cases hj_6
            exact J_5
  · have h := if_t c_2 h
    refine V_iconst hG 0 rfl dX6_rains_7 ?_
    cases h
    subst eQ
    exact V_zret hG (Or.inl rfl) dX6_rains_8

def f_X4_fights (p0 : Nat) (p1 : Nat) (p2 : Int32) (M : Mem) : Option (Int32) :=
some 1
def rm_f_X4_fights : Room := { frames := 0, cells := 0, slots := 0, locals := 0 }
theorem ok_f_X4_fights {E : En} (hE : EOk E) (hN : NOk E) {p0 : Nat} {p1 : Nat} {p2 : Int32} {M : Mem} {r : Int32} (h : f_X4_fights p0 p1 p2 M = some r) : CM E yX4_fights cX4_fights 3 (some .int) rm_f_X4_fights [rf E p0, rf E p1, .int p2] M (some (.int r)) M := by
  unfold f_X4_fights at h
  refine CM_introX (own := RX4) rfl (by decide +kernel) (Nat.le_of_ble_eq_true rfl) rfl (fun G hG hEn hI => ?_)
  obtain ⟨Q, eQ⟩ : ∃ Q, Q = QM E G (some (.int r)) M 0 0 := ⟨_, rfl⟩
  show V E G M 0 0 3 0 [(0, rf E p0), (1, rf E p1), (2, .int p2)] [] (QM E G (some (.int r)) M 0 0)
  rw [← eQ]
  refine V_iconst hG 1 rfl dX4_fights_0 ?_
  cases h
  subst eQ
  exact V_iret hG dX4_fights_1

def f_X1_horses (p0 : Nat) (M : Mem) : Option (Int32) :=
gd (mT M p0 = 0) (
bd (mR M p0 6) fun (a_2 : Nat) =>
gd (mT M a_2 = 2) (
bd (mR M a_2 1) fun (a_5 : Nat) =>
gd (mT M a_5 = 3) (
bd (f_J2_size a_5 M) fun (r_9 : Int32) =>
some r_9)))
def rm_f_X1_horses : Room := { frames := 1, cells := 0, slots := 0, locals := 20 }
theorem ok_f_X1_horses {E : En} (hE : EOk E) (hN : NOk E) {p0 : Nat} {M : Mem} {r : Int32} (h : f_X1_horses p0 M = some r) : CM E yX1_horses cX1_horses 1 (some .int) rm_f_X1_horses [rf E p0] M (some (.int r)) M := by
  unfold f_X1_horses at h
  refine CM_introX (own := RX1) rfl (by decide +kernel) (Nat.le_of_ble_eq_true rfl) rfl (fun G hG hEn hI => ?_)
  obtain ⟨Q, eQ⟩ : ∃ Q, Q = QM E G (some (.int r)) M 0 0 := ⟨_, rfl⟩
  show V E G M 0 0 1 0 [(0, rf E p0)] [] (QM E G (some (.int r)) M 0 0)
  rw [← eQ]
  refine V_aload_n hG 0 rfl dX1_horses_0 ?_
  obtain ⟨g_1, h⟩ := gd_of h
  obtain ⟨a_2, hr_3, h⟩ := bd_of h
  refine gf_X1_13 hN hG g_1 hr_3 dX1_horses_1 ?_
  obtain ⟨g_4, h⟩ := gd_of h
  obtain ⟨a_5, hr_6, h⟩ := bd_of h
  refine gf_X1_35 hN hG g_4 hr_6 dX1_horses_4 ?_
  obtain ⟨g_7, h⟩ := gd_of h
  obtain ⟨r_9, hc_8, h⟩ := bd_of h
  refine V_callV hE hG (ci := 3) (As := []) (rest := []) (ok_f_J2_size hE hN hc_8) g_7 (by decide) rfl hw_X1_23 hdv_J2_size ⟨Nat.le_of_ble_eq_true rfl, Nat.le_of_ble_eq_true rfl⟩ rfl rfl (Nat.le_of_ble_eq_true rfl) ⟨Nat.le_of_ble_eq_true rfl, Nat.le_of_ble_eq_true rfl⟩ dX1_horses_7 (V_zero rfl rfl ?_)
  cases h
  subst eQ
  exact V_iret hG dX1_horses_10

def f_X6_isOn (p0 : Nat) (p1 : Int32) (M : Mem) : Option (Int32) :=
gd (mT M p0 = 5) (
bd (if ((mI M p0 7) >>> (p1 &&& 31)) &&& 1 = 1 then (
if mI M p0 12 = 2 then (
if mI M p0 13 = p1 then (
some 0)
else (
some 1))
else (
some 1))
else (
some 0) : Option (Int32)) fun (t_2 : Int32) =>
gd (t_2 = 0 ∨ t_2 = 1) (
some t_2))
def rm_f_X6_isOn : Room := { frames := 0, cells := 0, slots := 0, locals := 0 }
theorem ok_f_X6_isOn {E : En} (hE : EOk E) (hN : NOk E) {p0 : Nat} {p1 : Int32} {M : Mem} {r : Int32} (h : f_X6_isOn p0 p1 M = some r) : CM E yX6_isOn cX6_isOn 2 (some .boolean) rm_f_X6_isOn [rf E p0, .int p1] M (some (.int r)) M := by
  unfold f_X6_isOn at h
  refine CM_introX (own := RX6) rfl (by decide +kernel) (Nat.le_of_ble_eq_true rfl) rfl (fun G hG hEn hI => ?_)
  obtain ⟨Q, eQ⟩ : ∃ Q, Q = QM E G (some (.int r)) M 0 0 := ⟨_, rfl⟩
  show V E G M 0 0 2 0 [(0, rf E p0), (1, .int p1)] [] (QM E G (some (.int r)) M 0 0)
  rw [← eQ]
  refine V_aload_n hG 0 rfl dX6_isOn_0 ?_
  obtain ⟨g_1, h⟩ := gd_of h
  refine gf_X6_64 hN hG g_1 dX6_isOn_1 ?_
  refine V_iload_n hG 1 rfl dX6_isOn_4 ?_
  refine V_ishr hG dX6_isOn_5 ?_
  refine V_iconst hG 1 rfl dX6_isOn_6 ?_
  refine V_iand hG dX6_isOn_7 ?_
  refine V_iconst hG 1 rfl dX6_isOn_8 ?_
  obtain ⟨t_2, hj_4, h⟩ := bd_of h
  have J_3 : V E G M 0 0 2 33 [(0, rf E p0), (1, .int p1)] [.int t_2] Q := by
    obtain ⟨g_5, h⟩ := gd_of h
    cases h
    subst eQ
    exact V_zret hG g_5 dX6_isOn_33
  refine V_icmp_ne hG 32 dX6_isOn_9 (by decide) (fun c_6 => ?_) (fun c_6 => ?_)
  · have hj_4 := if_f c_6 hj_4
    refine V_iconst hG 0 rfl dX6_isOn_32 ?_
    cases hj_4
    exact J_3
  · have hj_4 := if_t c_6 hj_4
    refine V_aload_n hG 0 rfl dX6_isOn_12 ?_
    refine gf_X6_88 hN hG g_1 dX6_isOn_13 ?_
    refine V_iconst hG 2 rfl dX6_isOn_16 ?_
    refine V_icmp_ne hG 28 dX6_isOn_17 (by decide) (fun c_7 => ?_) (fun c_7 => ?_)
    · have hj_4 := if_f c_7 hj_4
      refine V_iconst hG 1 rfl dX6_isOn_28 ?_
      refine V_goto hG 33 dX6_isOn_29 (by decide) ?_
      cases hj_4
      exact J_3
    · have hj_4 := if_t c_7 hj_4
      refine V_aload_n hG 0 rfl dX6_isOn_20 ?_
      refine gf_X6_97 hN hG g_1 dX6_isOn_21 ?_
      refine V_iload_n hG 1 rfl dX6_isOn_24 ?_
      refine V_icmp_eq hG 32 dX6_isOn_25 (by decide) (fun c_8 => ?_) (fun c_8 => ?_)
      · have hj_4 := if_t c_8 hj_4
        refine V_iconst hG 0 rfl dX6_isOn_32 ?_
        cases hj_4
        exact J_3
      · have hj_4 := if_f c_8 hj_4
        refine V_iconst hG 1 rfl dX6_isOn_28 ?_
        refine V_goto hG 33 dX6_isOn_29 (by decide) ?_
        cases hj_4
        exact J_3

def f_X4_dries (p0 : Nat) (p1 : Nat) (p2 : Int32) (M : Mem) : Option (Int32) :=
some 1
def rm_f_X4_dries : Room := { frames := 0, cells := 0, slots := 0, locals := 0 }
theorem ok_f_X4_dries {E : En} (hE : EOk E) (hN : NOk E) {p0 : Nat} {p1 : Nat} {p2 : Int32} {M : Mem} {r : Int32} (h : f_X4_dries p0 p1 p2 M = some r) : CM E yX4_dries cX4_dries 3 (some .int) rm_f_X4_dries [rf E p0, rf E p1, .int p2] M (some (.int r)) M := by
  unfold f_X4_dries at h
  refine CM_introX (own := RX4) rfl (by decide +kernel) (Nat.le_of_ble_eq_true rfl) rfl (fun G hG hEn hI => ?_)
  obtain ⟨Q, eQ⟩ : ∃ Q, Q = QM E G (some (.int r)) M 0 0 := ⟨_, rfl⟩
  show V E G M 0 0 3 0 [(0, rf E p0), (1, rf E p1), (2, .int p2)] [] (QM E G (some (.int r)) M 0 0)
  rw [← eQ]
  refine V_iconst hG 1 rfl dX4_dries_0 ?_
  cases h
  subst eQ
  exact V_iret hG dX4_dries_1

def f_X1_isHorse (p0 : Nat) (p1 : Int32) (M : Mem) : Option (Int32) :=
gd (mT M p0 = 0) (
bd (f_X1_horses p0 M) fun (r_3 : Int32) =>
bd (f_X1_in (Int32.toInt64 p1) 0 (Int32.toInt64 (r_3 - 1)) M) fun (r_5 : Int32) =>
gd (r_5 = 0 ∨ r_5 = 1) (
some r_5))
def rm_f_X1_isHorse : Room := { frames := 2, cells := 0, slots := 0, locals := 40 }
theorem ok_f_X1_isHorse {E : En} (hE : EOk E) (hN : NOk E) {p0 : Nat} {p1 : Int32} {M : Mem} {r : Int32} (h : f_X1_isHorse p0 p1 M = some r) : CM E yX1_isHorse cX1_isHorse 2 (some .boolean) rm_f_X1_isHorse [rf E p0, .int p1] M (some (.int r)) M := by
  unfold f_X1_isHorse at h
  refine CM_introX (own := RX1) rfl (by decide +kernel) (Nat.le_of_ble_eq_true rfl) rfl (fun G hG hEn hI => ?_)
  obtain ⟨Q, eQ⟩ : ∃ Q, Q = QM E G (some (.int r)) M 0 0 := ⟨_, rfl⟩
  show V E G M 0 0 2 0 [(0, rf E p0), (1, .int p1)] [] (QM E G (some (.int r)) M 0 0)
  rw [← eQ]
  refine V_iload_n hG 1 rfl dX1_isHorse_0 ?_
  refine V_i2l hG dX1_isHorse_1 ?_
  refine V_lconst hG 0 rfl dX1_isHorse_2 ?_
  refine V_aload_n hG 0 rfl dX1_isHorse_3 ?_
  obtain ⟨g_1, h⟩ := gd_of h
  obtain ⟨r_3, hc_2, h⟩ := bd_of h
  refine V_callV hE hG (ci := 0) (As := []) (rest := [.long 0, .long (Int32.toInt64 p1)]) (ok_f_X1_horses hE hN hc_2) g_1 (by decide) rfl hw_X1_184 hdv_X1_horses ⟨Nat.le_of_ble_eq_true rfl, Nat.le_of_ble_eq_true rfl⟩ rfl rfl (Nat.le_of_ble_eq_true rfl) ⟨Nat.le_of_ble_eq_true rfl, Nat.le_of_ble_eq_true rfl⟩ dX1_isHorse_4 (V_zero rfl rfl ?_)
  refine V_iconst hG 1 rfl dX1_isHorse_7 ?_
  refine V_isub hG dX1_isHorse_8 ?_
  refine V_i2l hG dX1_isHorse_9 ?_
  obtain ⟨r_5, hc_4, h⟩ := bd_of h
  refine V_callS hE hG (As := [.long (Int32.toInt64 p1), .long 0, .long (Int32.toInt64 (r_3 - 1))]) (rest := []) (ok_f_X1_in hE hN hc_4) hw_X1_144 hdc_X1_in ⟨Nat.le_of_ble_eq_true rfl, Nat.le_of_ble_eq_true rfl⟩ rfl rfl (Nat.le_of_ble_eq_true rfl) ⟨Nat.le_of_ble_eq_true rfl, Nat.le_of_ble_eq_true rfl⟩ dX1_isHorse_10 (V_zero rfl rfl ?_)
  obtain ⟨g_6, h⟩ := gd_of h
  cases h
  subst eQ
  exact V_zret hG g_6 dX1_isHorse_13

def f_X6_become_b2 (N : Nat) (p0 : Nat) (p1 : Nat) (x2_17 : Int32) (S_18 : Mem) : Option ((Int32 × Mem) ⊕ (Int32 × Mem)) :=
if 6 ≤ x2_17 then (
some (.inl (x2_17, S_18)))
else (
gd (mT S_18 p0 = 5) (
bd (mR S_18 p0 5) fun (a_58 : Nat) =>
gd (mT S_18 p1 = 5) (
bd (mR S_18 p1 5) fun (a_61 : Nat) =>
gd (mT S_18 a_61 = 100) (
gd (inb x2_17 (mLn S_18 a_61)) (
gd (mT S_18 a_58 = 100) (
gd (inb x2_17 (mLn S_18 a_58)) (
be (sI S_18 a_58 (Int32.toNatClampNeg x2_17) (mI S_18 a_61 (Int32.toNatClampNeg x2_17))) fun (M_67 : Mem) =>
be (x2_17 + 1) fun (x2_72 : Int32) =>
some (.inr (x2_72, M_67)))))))))
def f_X6_become_b1 (N : Nat) (p0 : Nat) (p1 : Nat) (x2_6 : Int32) (S_7 : Mem) : Option ((Int32 × Mem) ⊕ (Int32 × Mem)) :=
if 6 ≤ x2_6 then (
some (.inl (x2_6, S_7)))
else (
gd (mT S_7 p0 = 5) (
bd (mR S_7 p0 0) fun (a_76 : Nat) =>
gd (mT S_7 p1 = 5) (
bd (mR S_7 p1 0) fun (a_79 : Nat) =>
gd (mT S_7 a_79 = 100) (
gd (inb x2_6 (mLn S_7 a_79)) (
gd (mT S_7 a_76 = 100) (
gd (inb x2_6 (mLn S_7 a_76)) (
be (sI S_7 a_76 (Int32.toNatClampNeg x2_6) (mI S_7 a_79 (Int32.toNatClampNeg x2_6))) fun (M_85 : Mem) =>
bd (mR M_85 p0 1) fun (a_90 : Nat) =>
bd (mR M_85 p1 1) fun (a_92 : Nat) =>
gd (mT M_85 a_92 = 100) (
gd (inb x2_6 (mLn M_85 a_92)) (
gd (mT M_85 a_90 = 100) (
gd (inb x2_6 (mLn M_85 a_90)) (
be (sI M_85 a_90 (Int32.toNatClampNeg x2_6) (mI M_85 a_92 (Int32.toNatClampNeg x2_6))) fun (M_98 : Mem) =>
bd (mR M_98 p0 2) fun (a_105 : Nat) =>
bd (mR M_98 p1 2) fun (a_107 : Nat) =>
gd (mT M_98 a_107 = 100) (
gd (inb x2_6 (mLn M_98 a_107)) (
gd (mT M_98 a_105 = 100) (
gd (inb x2_6 (mLn M_98 a_105)) (
be (sI M_98 a_105 (Int32.toNatClampNeg x2_6) (mI M_98 a_107 (Int32.toNatClampNeg x2_6))) fun (M_113 : Mem) =>
bd (mR M_113 p0 3) fun (a_122 : Nat) =>
bd (mR M_113 p1 3) fun (a_124 : Nat) =>
gd (mT M_113 a_124 = 100) (
gd (inb x2_6 (mLn M_113 a_124)) (
gd (mT M_113 a_122 = 100) (
gd (inb x2_6 (mLn M_113 a_122)) (
be (sI M_113 a_122 (Int32.toNatClampNeg x2_6) (mI M_113 a_124 (Int32.toNatClampNeg x2_6))) fun (M_130 : Mem) =>
bd (mR M_130 p0 4) fun (a_141 : Nat) =>
bd (mR M_130 p1 4) fun (a_143 : Nat) =>
gd (mT M_130 a_143 = 100) (
gd (inb x2_6 (mLn M_130 a_143)) (
gd (mT M_130 a_141 = 100) (
gd (inb x2_6 (mLn M_130 a_141)) (
be (sI M_130 a_141 (Int32.toNatClampNeg x2_6) (mI M_130 a_143 (Int32.toNatClampNeg x2_6))) fun (M_149 : Mem) =>
be (x2_6 + 1) fun (x2_162 : Int32) =>
some (.inr (x2_162, M_149)))))))))))))))))))))))))
def f_X6_become (N : Nat) (p0 : Nat) (p1 : Nat) (M : Mem) : Option (Mem) :=
bd2 (lp N (fun s_73 : Int32 × Mem => f_X6_become_b1 N p0 p1 s_73.1 s_73.2) (0, M)) fun (x2_8 : Int32) (S_9 : Mem) =>
bd2 (lp N (fun s_55 : Int32 × Mem => f_X6_become_b2 N p0 p1 s_55.1 s_55.2) (0, S_9)) fun (x2_19 : Int32) (S_20 : Mem) =>
gd (mT S_20 p1 = 5) (
gd (mT S_20 p0 = 5) (
be (sI S_20 p0 6 (mI S_20 p1 6)) fun (M_25 : Mem) =>
be (sI M_25 p0 7 (mI M_25 p1 7)) fun (M_28 : Mem) =>
be (sI M_28 p0 8 (mI M_28 p1 8)) fun (M_31 : Mem) =>
be (sI M_31 p0 9 (mI M_31 p1 9)) fun (M_34 : Mem) =>
be (sI M_34 p0 10 (mI M_34 p1 10)) fun (M_37 : Mem) =>
be (sI M_37 p0 11 (mI M_37 p1 11)) fun (M_40 : Mem) =>
be (sI M_40 p0 12 (mI M_40 p1 12)) fun (M_43 : Mem) =>
be (sI M_43 p0 13 (mI M_43 p1 13)) fun (M_46 : Mem) =>
be (sI M_46 p0 15 (mI M_46 p1 15)) fun (M_49 : Mem) =>
be (sI M_49 p0 16 (mI M_49 p1 16)) fun (M_52 : Mem) =>
some M_52))
def rm_f_X6_become : Room := { frames := 0, cells := 0, slots := 0, locals := 0 }
theorem ok_f_X6_become {E : En} (hE : EOk E) (hN : NOk E) {N : Nat} {p0 : Nat} {p1 : Nat} {M : Mem}  {M' : Mem} (h : f_X6_become N p0 p1 M = some M') : CM E yX6_become cX6_become 3 none rm_f_X6_become [rf E p0, rf E p1] M none M' := by
  unfold f_X6_become at h
  refine CM_introX (own := RX6) rfl (by decide +kernel) (Nat.le_of_ble_eq_true rfl) rfl (fun G hG hEn hI => ?_)
  obtain ⟨Q, eQ⟩ : ∃ Q, Q = QM E G none M' 0 0 := ⟨_, rfl⟩
  show V E G M 0 0 3 0 [(0, rf E p0), (1, rf E p1)] [] (QM E G none M' 0 0)
  rw [← eQ]
  refine V_iconst hG 0 rfl dX6_become_0 ?_
  refine V_istore_n hG rfl [(2, .int 0), (0, rf E p0), (1, rf E p1)] dX6_become_1 (Nat.le_of_ble_eq_true rfl) rfl ?_
  obtain ⟨x2_8, S_9, hL_10, h⟩ := bd2_of h
  have J_5 : ∀ q_11 : Int32 × Mem, q_11 = (x2_8, S_9) → V E G q_11.2 0 0 3 74 [(2, .int q_11.1), (0, rf E p0), (1, rf E p1)] [] Q := by
    intro q_11 e9
    subst q_11
    show V E G S_9 0 0 3 74 [(2, .int x2_8), (0, rf E p0), (1, rf E p1)] [] Q
    refine V_iconst hG 0 rfl dX6_become_74 ?_
    refine V_istore_n hG rfl [(2, .int 0), (0, rf E p0), (1, rf E p1)] dX6_become_75 (Nat.le_of_ble_eq_true rfl) rfl ?_
    obtain ⟨x2_19, S_20, hL_21, h⟩ := bd2_of h
    have J_16 : ∀ q_22 : Int32 × Mem, q_22 = (x2_19, S_20) → V E G q_22.2 0 0 3 100 [(2, .int q_22.1), (0, rf E p0), (1, rf E p1)] [] Q := by
      intro q_22 e9
      subst q_22
      show V E G S_20 0 0 3 100 [(2, .int x2_19), (0, rf E p0), (1, rf E p1)] [] Q
      refine V_aload_n hG 1 rfl dX6_become_100 ?_
      refine V_aload_n hG 2 rfl dX6_become_101 ?_
      obtain ⟨g_23, h⟩ := gd_of h
      refine gf_X6_61 hN hG g_23 dX6_become_102 ?_
      obtain ⟨g_24, h⟩ := gd_of h
      obtain ⟨M_25, eM_25, h⟩ := be_of h
      refine pf_X6_61 hN hG g_24 eM_25 dX6_become_105 ?_
      have g_26 : mT M_25 p1 = 5 := by rw [eM_25]; exact g_23
      have g_27 : mT M_25 p0 = 5 := by rw [eM_25]; exact g_24
      refine V_aload_n hG 1 rfl dX6_become_108 ?_
      refine V_aload_n hG 2 rfl dX6_become_109 ?_
      refine gf_X6_64 hN hG g_26 dX6_become_110 ?_
      obtain ⟨M_28, eM_28, h⟩ := be_of h
      refine pf_X6_64 hN hG g_27 eM_28 dX6_become_113 ?_
      have g_29 : mT M_28 p1 = 5 := by rw [eM_28]; exact g_26
      have g_30 : mT M_28 p0 = 5 := by rw [eM_28]; exact g_27
      refine V_aload_n hG 1 rfl dX6_become_116 ?_
      refine V_aload_n hG 2 rfl dX6_become_117 ?_
      refine gf_X6_67 hN hG g_29 dX6_become_118 ?_
      obtain ⟨M_31, eM_31, h⟩ := be_of h
      refine pf_X6_67 hN hG g_30 eM_31 dX6_become_121 ?_
      have g_32 : mT M_31 p1 = 5 := by rw [eM_31]; exact g_29
      have g_33 : mT M_31 p0 = 5 := by rw [eM_31]; exact g_30
      refine V_aload_n hG 1 rfl dX6_become_124 ?_
      refine V_aload_n hG 2 rfl dX6_become_125 ?_
      refine gf_X6_70 hN hG g_32 dX6_become_126 ?_
      obtain ⟨M_34, eM_34, h⟩ := be_of h
      refine pf_X6_70 hN hG g_33 eM_34 dX6_become_129 ?_
      have g_35 : mT M_34 p1 = 5 := by rw [eM_34]; exact g_32
      have g_36 : mT M_34 p0 = 5 := by rw [eM_34]; exact g_33
      refine V_aload_n hG 1 rfl dX6_become_132 ?_
      refine V_aload_n hG 2 rfl dX6_become_133 ?_
      refine gf_X6_73 hN hG g_35 dX6_become_134 ?_
      obtain ⟨M_37, eM_37, h⟩ := be_of h
      refine pf_X6_73 hN hG g_36 eM_37 dX6_become_137 ?_
      have g_38 : mT M_37 p1 = 5 := by rw [eM_37]; exact g_35
      have g_39 : mT M_37 p0 = 5 := by rw [eM_37]; exact g_36
      refine V_aload_n hG 1 rfl dX6_become_140 ?_
      refine V_aload_n hG 2 rfl dX6_become_141 ?_
      refine gf_X6_85 hN hG g_38 dX6_become_142 ?_
      obtain ⟨M_40, eM_40, h⟩ := be_of h
      refine pf_X6_85 hN hG g_39 eM_40 dX6_become_145 ?_
      have g_41 : mT M_40 p1 = 5 := by rw [eM_40]; exact g_38
      have g_42 : mT M_40 p0 = 5 := by rw [eM_40]; exact g_39
      refine V_aload_n hG 1 rfl dX6_become_148 ?_
      refine V_aload_n hG 2 rfl dX6_become_149 ?_
      refine gf_X6_88 hN hG g_41 dX6_become_150 ?_
      obtain ⟨M_43, eM_43, h⟩ := be_of h
      refine pf_X6_88 hN hG g_42 eM_43 dX6_become_153 ?_
      have g_44 : mT M_43 p1 = 5 := by rw [eM_43]; exact g_41
      have g_45 : mT M_43 p0 = 5 := by rw [eM_43]; exact g_42
      refine V_aload_n hG 1 rfl dX6_become_156 ?_
      refine V_aload_n hG 2 rfl dX6_become_157 ?_
      refine gf_X6_97 hN hG g_44 dX6_become_158 ?_
      obtain ⟨M_46, eM_46, h⟩ := be_of h
      refine pf_X6_97 hN hG g_45 eM_46 dX6_become_161 ?_
      have g_47 : mT M_46 p1 = 5 := by rw [eM_46]; exact g_44
      have g_48 : mT M_46 p0 = 5 := by rw [eM_46]; exact g_45
      refine V_aload_n hG 1 rfl dX6_become_164 ?_
      refine V_aload_n hG 2 rfl dX6_become_165 ?_
      refine gf_X6_91 hN hG g_47 dX6_become_166 ?_
      obtain ⟨M_49, eM_49, h⟩ := be_of h
      refine pf_X6_91 hN hG g_48 eM_49 dX6_become_169 ?_
      have g_50 : mT M_49 p1 = 5 := by rw [eM_49]; exact g_47
      have g_51 : mT M_49 p0 = 5 := by rw [eM_49]; exact g_48
      refine V_aload_n hG 1 rfl dX6_become_172 ?_
      refine V_aload_n hG 2 rfl dX6_become_173 ?_
      refine gf_X6_94 hN hG g_50 dX6_become_174 ?_
      obtain ⟨M_52, eM_52, h⟩ := be_of h
      refine pf_X6_94 hN hG g_51 eM_52 dX6_become_177 ?_
      have g_53 : mT M_52 p1 = 5 := by rw [eM_52]; exact g_50
      have g_54 : mT M_52 p0 = 5 := by rw [eM_52]; exact g_51
      cases h
      subst eQ
      exact V_vret hG dX6_become_180
    refine lp_walk (W := fun s_55 : Int32 × Mem => V E G s_55.2 0 0 3 76 [(2, .int s_55.1), (0, rf E p0), (1, rf E p1)] [] Q) ?_ N (0, S_9) hL_21
    intro s_55 b_12 hb_13 hk_14 hx_15
    obtain ⟨x2_17, S_18⟩ := s_55
    have hb_13 : f_X6_become_b2 N p0 p1 x2_17 S_18 = some b_12 := hb_13
    unfold f_X6_become_b2 at hb_13
    show V E G S_18 0 0 3 76 [(2, .int x2_17), (0, rf E p0), (1, rf E p1)] [] Q
    refine V_iload_n hG 0 rfl dX6_become_76 ?_
    refine V_bipush hG 6 (by decide) dX6_become_77 ?_
    refine V_icmp_ge hG 100 dX6_become_79 (by decide) (fun c_56 => ?_) (fun c_56 => ?_)
    · have hb_13 := if_t c_56 hb_13
      cases hb_13
      exact J_16 _ (hx_15 _ rfl)
    · have hb_13 := if_f c_56 hb_13
      refine V_aload_n hG 1 rfl dX6_become_82 ?_
      obtain ⟨g_57, hb_13⟩ := gd_of hb_13
      obtain ⟨a_58, hr_59, hb_13⟩ := bd_of hb_13
      refine gf_X6_31 hN hG g_57 hr_59 dX6_become_83 ?_
      refine V_iload_n hG 0 rfl dX6_become_86 ?_
      refine V_aload_n hG 2 rfl dX6_become_87 ?_
      obtain ⟨g_60, hb_13⟩ := gd_of hb_13
      obtain ⟨a_61, hr_62, hb_13⟩ := bd_of hb_13
      refine gf_X6_31 hN hG g_60 hr_62 dX6_become_88 ?_
      refine V_iload_n hG 0 rfl dX6_become_91 ?_
      obtain ⟨g_63, hb_13⟩ := gd_of hb_13
      obtain ⟨g_64, hb_13⟩ := gd_of hb_13
      refine V_iaload hG g_63 g_64 dX6_become_92 ?_
      obtain ⟨g_65, hb_13⟩ := gd_of hb_13
      obtain ⟨g_66, hb_13⟩ := gd_of hb_13
      obtain ⟨M_67, eM_67, hb_13⟩ := be_of hb_13
      refine W_iastore hG g_65 g_66 M_67 eM_67 dX6_become_93 ?_
      have g_68 : mT M_67 p0 = 5 := by rw [eM_67]; exact g_57
      have g_69 : mT M_67 p1 = 5 := by rw [eM_67]; exact g_60
      have g_70 : mT M_67 a_61 = 100 := by rw [eM_67]; exact g_63
      have g_71 : mT M_67 a_58 = 100 := by rw [eM_67]; exact g_65
      obtain ⟨x2_72, ex2_72, hb_13⟩ := be_of hb_13
      refine V_iinc hG 0 x2_72 rfl (by rw [ex2_72]; rfl) [(2, .int x2_72), (0, rf E p0), (1, rf E p1)] dX6_become_94 (Nat.le_of_ble_eq_true rfl) rfl ?_
      refine V_goto hG 76 dX6_become_97 (by decide) ?_
      cases hb_13
      exact hk_14 _ rfl
  refine lp_walk (W := fun s_73 : Int32 × Mem => V E G s_73.2 0 0 3 2 [(2, .int s_73.1), (0, rf E p0), (1, rf E p1)] [] Q) ?_ N (0, M) hL_10
  intro s_73 b_1 hb_2 hk_3 hx_4
  obtain ⟨x2_6, S_7⟩ := s_73
  have hb_2 : f_X6_become_b1 N p0 p1 x2_6 S_7 = some b_1 := hb_2
  unfold f_X6_become_b1 at hb_2
  show V E G S_7 0 0 3 2 [(2, .int x2_6), (0, rf E p0), (1, rf E p1)] [] Q
  refine V_iload_n hG 0 rfl dX6_become_2 ?_
  refine V_bipush hG 6 (by decide) dX6_become_3 ?_
  refine V_icmp_ge hG 74 dX6_become_5 (by decide) (fun c_74 => ?_) (fun c_74 => ?_)
  · have hb_2 := if_t c_74 hb_2
    cases hb_2
    exact J_5 _ (hx_4 _ rfl)
  · have hb_2 := if_f c_74 hb_2
    refine V_aload_n hG 1 rfl dX6_become_8 ?_
    obtain ⟨g_75, hb_2⟩ := gd_of hb_2
    obtain ⟨a_76, hr_77, hb_2⟩ := bd_of hb_2
    refine gf_X6_15 hN hG g_75 hr_77 dX6_become_9 ?_
    refine V_iload_n hG 0 rfl dX6_become_12 ?_
    refine V_aload_n hG 2 rfl dX6_become_13 ?_
    obtain ⟨g_78, hb_2⟩ := gd_of hb_2
    obtain ⟨a_79, hr_80, hb_2⟩ := bd_of hb_2
    refine gf_X6_15 hN hG g_78 hr_80 dX6_become_14 ?_
    refine V_iload_n hG 0 rfl dX6_become_17 ?_
    obtain ⟨g_81, hb_2⟩ := gd_of hb_2
    obtain ⟨g_82, hb_2⟩ := gd_of hb_2
    refine V_iaload hG g_81 g_82 dX6_become_18 ?_
    obtain ⟨g_83, hb_2⟩ := gd_of hb_2
    obtain ⟨g_84, hb_2⟩ := gd_of hb_2
    obtain ⟨M_85, eM_85, hb_2⟩ := be_of hb_2
    refine W_iastore hG g_83 g_84 M_85 eM_85 dX6_become_19 ?_
    have g_86 : mT M_85 p0 = 5 := by rw [eM_85]; exact g_75
    have g_87 : mT M_85 p1 = 5 := by rw [eM_85]; exact g_78
    have g_88 : mT M_85 a_79 = 100 := by rw [eM_85]; exact g_81
    have g_89 : mT M_85 a_76 = 100 := by rw [eM_85]; exact g_83
    refine V_aload_n hG 1 rfl dX6_become_20 ?_
    obtain ⟨a_90, hr_91, hb_2⟩ := bd_of hb_2
    refine gf_X6_19 hN hG g_86 hr_91 dX6_become_21 ?_
    refine V_iload_n hG 0 rfl dX6_become_24 ?_
    refine V_aload_n hG 2 rfl dX6_become_25 ?_
    obtain ⟨a_92, hr_93, hb_2⟩ := bd_of hb_2
    refine gf_X6_19 hN hG g_87 hr_93 dX6_become_26 ?_
    refine V_iload_n hG 0 rfl dX6_become_29 ?_
    obtain ⟨g_94, hb_2⟩ := gd_of hb_2
    obtain ⟨g_95, hb_2⟩ := gd_of hb_2
    refine V_iaload hG g_94 g_95 dX6_become_30 ?_
    obtain ⟨g_96, hb_2⟩ := gd_of hb_2
    obtain ⟨g_97, hb_2⟩ := gd_of hb_2
    obtain ⟨M_98, eM_98, hb_2⟩ := be_of hb_2
    refine W_iastore hG g_96 g_97 M_98 eM_98 dX6_become_31 ?_
    have g_99 : mT M_98 p0 = 5 := by rw [eM_98]; exact g_86
    have g_100 : mT M_98 p1 = 5 := by rw [eM_98]; exact g_87
    have g_101 : mT M_98 a_79 = 100 := by rw [eM_98]; exact g_88
    have g_102 : mT M_98 a_76 = 100 := by rw [eM_98]; exact g_89
    have g_103 : mT M_98 a_92 = 100 := by rw [eM_98]; exact g_94
    have g_104 : mT M_98 a_90 = 100 := by rw [eM_98]; exact g_96
    refine V_aload_n hG 1 rfl dX6_become_32 ?_
    obtain ⟨a_105, hr_106, hb_2⟩ := bd_of hb_2
    refine gf_X6_22 hN hG g_99 hr_106 dX6_become_33 ?_
    refine V_iload_n hG 0 rfl dX6_become_36 ?_
    refine V_aload_n hG 2 rfl dX6_become_37 ?_
    obtain ⟨a_107, hr_108, hb_2⟩ := bd_of hb_2
    refine gf_X6_22 hN hG g_100 hr_108 dX6_become_38 ?_
    refine V_iload_n hG 0 rfl dX6_become_41 ?_
    obtain ⟨g_109, hb_2⟩ := gd_of hb_2
    obtain ⟨g_110, hb_2⟩ := gd_of hb_2
    refine V_iaload hG g_109 g_110 dX6_become_42 ?_
    obtain ⟨g_111, hb_2⟩ := gd_of hb_2
    obtain ⟨g_112, hb_2⟩ := gd_of hb_2
    obtain ⟨M_113, eM_113, hb_2⟩ := be_of hb_2
    refine W_iastore hG g_111 g_112 M_113 eM_113 dX6_become_43 ?_
    have g_114 : mT M_113 p0 = 5 := by rw [eM_113]; exact g_99
    have g_115 : mT M_113 p1 = 5 := by rw [eM_113]; exact g_100
    have g_116 : mT M_113 a_79 = 100 := by rw [eM_113]; exact g_101
    have g_117 : mT M_113 a_76 = 100 := by rw [eM_113]; exact g_102
    have g_118 : mT M_113 a_92 = 100 := by rw [eM_113]; exact g_103
    have g_119 : mT M_113 a_90 = 100 := by rw [eM_113]; exact g_104
    have g_120 : mT M_113 a_107 = 100 := by rw [eM_113]; exact g_109
    have g_121 : mT M_113 a_105 = 100 := by rw [eM_113]; exact g_111
    refine V_aload_n hG 1 rfl dX6_become_44 ?_
    obtain ⟨a_122, hr_123, hb_2⟩ := bd_of hb_2
    refine gf_X6_25 hN hG g_114 hr_123 dX6_become_45 ?_
    refine V_iload_n hG 0 rfl dX6_become_48 ?_
    refine V_aload_n hG 2 rfl dX6_become_49 ?_
    obtain ⟨a_124, hr_125, hb_2⟩ := bd_of hb_2
    refine gf_X6_25 hN hG g_115 hr_125 dX6_become_50 ?_
    refine V_iload_n hG 0 rfl dX6_become_53 ?_
    obtain ⟨g_126, hb_2⟩ := gd_of hb_2
    obtain ⟨g_127, hb_2⟩ := gd_of hb_2
    refine V_iaload hG g_126 g_127 dX6_become_54 ?_
    obtain ⟨g_128, hb_2⟩ := gd_of hb_2
    obtain ⟨g_129, hb_2⟩ := gd_of hb_2
    obtain ⟨M_130, eM_130, hb_2⟩ := be_of hb_2
    refine W_iastore hG g_128 g_129 M_130 eM_130 dX6_become_55 ?_
    have g_131 : mT M_130 p0 = 5 := by rw [eM_130]; exact g_114
    have g_132 : mT M_130 p1 = 5 := by rw [eM_130]; exact g_115
    have g_133 : mT M_130 a_79 = 100 := by rw [eM_130]; exact g_116
    have g_134 : mT M_130 a_76 = 100 := by rw [eM_130]; exact g_117
    have g_135 : mT M_130 a_92 = 100 := by rw [eM_130]; exact g_118
    have g_136 : mT M_130 a_90 = 100 := by rw [eM_130]; exact g_119
    have g_137 : mT M_130 a_107 = 100 := by rw [eM_130]; exact g_120
    have g_138 : mT M_130 a_105 = 100 := by rw [eM_130]; exact g_121
    have g_139 : mT M_130 a_124 = 100 := by rw [eM_130]; exact g_126
    have g_140 : mT M_130 a_122 = 100 := by rw [eM_130]; exact g_128
    refine V_aload_n hG 1 rfl dX6_become_56 ?_
    obtain ⟨a_141, hr_142, hb_2⟩ := bd_of hb_2
    refine gf_X6_28 hN hG g_131 hr_142 dX6_become_57 ?_
    refine V_iload_n hG 0 rfl dX6_become_60 ?_
    refine V_aload_n hG 2 rfl dX6_become_61 ?_
    obtain ⟨a_143, hr_144, hb_2⟩ := bd_of hb_2
    refine gf_X6_28 hN hG g_132 hr_144 dX6_become_62 ?_
    refine V_iload_n hG 0 rfl dX6_become_65 ?_
    obtain ⟨g_145, hb_2⟩ := gd_of hb_2
    obtain ⟨g_146, hb_2⟩ := gd_of hb_2
    refine V_iaload hG g_145 g_146 dX6_become_66 ?_
    obtain ⟨g_147, hb_2⟩ := gd_of hb_2
    obtain ⟨g_148, hb_2⟩ := gd_of hb_2
    obtain ⟨M_149, eM_149, hb_2⟩ := be_of hb_2
    refine W_iastore hG g_147 g_148 M_149 eM_149 dX6_become_67 ?_
    have g_150 : mT M_149 p0 = 5 := by rw [eM_149]; exact g_131
    have g_151 : mT M_149 p1 = 5 := by rw [eM_149]; exact g_132
    have g_152 : mT M_149 a_79 = 100 := by rw [eM_149]; exact g_133
    have g_153 : mT M_149 a_76 = 100 := by rw [eM_149]; exact g_134
    have g_154 : mT M_149 a_92 = 100 := by rw [eM_149]; exact g_135
    have g_155 : mT M_149 a_90 = 100 := by rw [eM_149]; exact g_136
    have g_156 : mT M_149 a_107 = 100 := by rw [eM_149]; exact g_137
    have g_157 : mT M_149 a_105 = 100 := by rw [eM_149]; exact g_138
    have g_158 : mT M_149 a_124 = 100 := by rw [eM_149]; exact g_139
    have g_159 : mT M_149 a_122 = 100 := by rw [eM_149]; exact g_140
    have g_160 : mT M_149 a_143 = 100 := by rw [eM_149]; exact g_145
    have g_161 : mT M_149 a_141 = 100 := by rw [eM_149]; exact g_147
    obtain ⟨x2_162, ex2_162, hb_2⟩ := be_of hb_2
    refine V_iinc hG 0 x2_162 rfl (by rw [ex2_162]; rfl) [(2, .int x2_162), (0, rf E p0), (1, rf E p1)] dX6_become_68 (Nat.le_of_ble_eq_true rfl) rfl ?_
    refine V_goto hG 2 dX6_become_71 (by decide) ?_
    cases hb_2
    exact hk_3 _ rfl

def f_X1_areTwo (p0 : Nat) (p1 : Int32) (p2 : Int32) (M : Mem) : Option (Int32) :=
gd (mT M p0 = 0) (
bd (f_X1_isHorse p0 p1 M) fun (r_3 : Int32) =>
bd (if r_3 = 0 then (
some 0)
else (
bd (f_X1_isHorse p0 p2 M) fun (r_10 : Int32) =>
if r_10 = 0 then (
some 0)
else (
if p1 = p2 then (
some 0)
else (
some 1))) : Option (Int32)) fun (t_4 : Int32) =>
gd (t_4 = 0 ∨ t_4 = 1) (
some t_4))
def rm_f_X1_areTwo : Room := { frames := 3, cells := 0, slots := 0, locals := 61 }
theorem ok_f_X1_areTwo {E : En} (hE : EOk E) (hN : NOk E) {p0 : Nat} {p1 : Int32} {p2 : Int32} {M : Mem} {r : Int32} (h : f_X1_areTwo p0 p1 p2 M = some r) : CM E yX1_areTwo cX1_areTwo 3 (some .boolean) rm_f_X1_areTwo [rf E p0, .int p1, .int p2] M (some (.int r)) M := by
  unfold f_X1_areTwo at h
  refine CM_introX (own := RX1) rfl (by decide +kernel) (Nat.le_of_ble_eq_true rfl) rfl (fun G hG hEn hI => ?_)
  obtain ⟨Q, eQ⟩ : ∃ Q, Q = QM E G (some (.int r)) M 0 0 := ⟨_, rfl⟩
  show V E G M 0 0 3 0 [(0, rf E p0), (1, .int p1), (2, .int p2)] [] (QM E G (some (.int r)) M 0 0)
  rw [← eQ]
  refine V_aload_n hG 0 rfl dX1_areTwo_0 ?_
  refine V_iload_n hG 1 rfl dX1_areTwo_1 ?_
  obtain ⟨g_1, h⟩ := gd_of h
  obtain ⟨r_3, hc_2, h⟩ := bd_of h
  refine V_callV hE hG (ci := 0) (As := [.int p1]) (rest := []) (ok_f_X1_isHorse hE hN hc_2) g_1 (by decide) rfl hw_X1_186 hdv_X1_isHorse ⟨Nat.le_of_ble_eq_true rfl, Nat.le_of_ble_eq_true rfl⟩ rfl rfl (Nat.le_of_ble_eq_true rfl) ⟨Nat.le_of_ble_eq_true rfl, Nat.le_of_ble_eq_true rfl⟩ dX1_areTwo_2 (V_zero rfl rfl ?_)
  obtain ⟨t_4, hj_6, h⟩ := bd_of h
  have J_5 : V E G M 0 0 3 26 [(0, rf E p0), (1, .int p1), (2, .int p2)] [.int t_4] Q := by
    obtain ⟨g_7, h⟩ := gd_of h
    cases h
    subst eQ
    exact V_zret hG g_7 dX1_areTwo_26
  refine V_if_eq hG 25 dX1_areTwo_5 (by decide) (fun c_8 => ?_) (fun c_8 => ?_)
  · have hj_6 := if_t c_8 hj_6
    refine V_iconst hG 0 rfl dX1_areTwo_25 ?_
    cases hj_6
    exact J_5
  · have hj_6 := if_f c_8 hj_6
    refine V_aload_n hG 0 rfl dX1_areTwo_8 ?_
    refine V_iload_n hG 2 rfl dX1_areTwo_9 ?_
    obtain ⟨r_10, hc_9, hj_6⟩ := bd_of hj_6
    refine V_callV hE hG (ci := 0) (As := [.int p2]) (rest := []) (ok_f_X1_isHorse hE hN hc_9) g_1 (by decide) rfl hw_X1_186 hdv_X1_isHorse ⟨Nat.le_of_ble_eq_true rfl, Nat.le_of_ble_eq_true rfl⟩ rfl rfl (Nat.le_of_ble_eq_true rfl) ⟨Nat.le_of_ble_eq_true rfl, Nat.le_of_ble_eq_true rfl⟩ dX1_areTwo_10 (V_zero rfl rfl ?_)
    refine V_if_eq hG 25 dX1_areTwo_13 (by decide) (fun c_11 => ?_) (fun c_11 => ?_)
    · have hj_6 := if_t c_11 hj_6
      refine V_iconst hG 0 rfl dX1_areTwo_25 ?_
      cases hj_6
      exact J_5
    · have hj_6 := if_f c_11 hj_6
      refine V_iload_n hG 1 rfl dX1_areTwo_16 ?_
      refine V_iload_n hG 2 rfl dX1_areTwo_17 ?_
      refine V_icmp_eq hG 25 dX1_areTwo_18 (by decide) (fun c_12 => ?_) (fun c_12 => ?_)
      · have hj_6 := if_t c_12 hj_6
        refine V_iconst hG 0 rfl dX1_areTwo_25 ?_
        cases hj_6
        exact J_5
      · have hj_6 := if_f c_12 hj_6
        refine V_iconst hG 1 rfl dX1_areTwo_21 ?_
        refine V_goto hG 26 dX1_areTwo_22 (by decide) ?_
        cases hj_6
        exact J_5

def f_X1_back (N : Nat) (p0 : Nat) (M : Mem) : Option (Int32 × Mem) :=
gd (mT M p0 = 0) (
if mI M p0 13 = 0 then (
some ((-1), M))
else (
bd (mR M p0 9) fun (a_3 : Nat) =>
bd (mR M p0 11) fun (a_5 : Nat) =>
gd (mT M a_3 = 5) (
bd (f_X6_become N a_3 a_5 M) fun (M_9 : Mem) =>
gd (mT M_9 p0 = 0) (
be (sI M_9 p0 4 0) fun (M_11 : Mem) =>
bd (mR M_11 p0 9) fun (a_13 : Nat) =>
gd (mT M_11 a_13 = 5) (
some (mI M_11 a_13 6, M_11))))))
def rm_f_X1_back : Room := { frames := 1, cells := 0, slots := 0, locals := 22 }
theorem ok_f_X1_back {E : En} (hE : EOk E) (hN : NOk E) {N : Nat} {p0 : Nat} {M : Mem} {r : Int32} {M' : Mem} (h : f_X1_back N p0 M = some (r, M')) : CM E yX1_back cX1_back 1 (some .int) rm_f_X1_back [rf E p0] M (some (.int r)) M' := by
  unfold f_X1_back at h
  refine CM_introX (own := RX1) rfl (by decide +kernel) (Nat.le_of_ble_eq_true rfl) rfl (fun G hG hEn hI => ?_)
  obtain ⟨Q, eQ⟩ : ∃ Q, Q = QM E G (some (.int r)) M' 0 0 := ⟨_, rfl⟩
  show V E G M 0 0 1 0 [(0, rf E p0)] [] (QM E G (some (.int r)) M' 0 0)
  rw [← eQ]
  refine V_aload_n hG 0 rfl dX1_back_0 ?_
  obtain ⟨g_1, h⟩ := gd_of h
  refine gf_X1_166 hN hG g_1 dX1_back_1 ?_
  refine V_if_ne hG 9 dX1_back_4 (by decide) (fun c_2 => ?_) (fun c_2 => ?_)
  · have h := if_f c_2 h
    refine V_aload_n hG 0 rfl dX1_back_9 ?_
    obtain ⟨a_3, hr_4, h⟩ := bd_of h
    refine gf_X1_101 hN hG g_1 hr_4 dX1_back_10 ?_
    refine V_aload_n hG 0 rfl dX1_back_13 ?_
    obtain ⟨a_5, hr_6, h⟩ := bd_of h
    refine gf_X1_108 hN hG g_1 hr_6 dX1_back_14 ?_
    obtain ⟨g_7, h⟩ := gd_of h
    obtain ⟨M_9, hc_8, h⟩ := bd_of h
    refine V_callV hE hG (ci := 5) (As := [rf E a_5]) (rest := []) (ok_f_X6_become hE hN hc_8) g_7 (by decide) rfl hw_X1_254 hdv_X6_become ⟨Nat.le_of_ble_eq_true rfl, Nat.le_of_ble_eq_true rfl⟩ rfl rfl (Nat.le_of_ble_eq_true rfl) ⟨Nat.le_of_ble_eq_true rfl, Nat.le_of_ble_eq_true rfl⟩ dX1_back_17 (V_zero rfl rfl ?_)
    refine V_aload_n hG 0 rfl dX1_back_20 ?_
    refine V_iconst hG 0 rfl dX1_back_21 ?_
    obtain ⟨g_10, h⟩ := gd_of h
    obtain ⟨M_11, eM_11, h⟩ := be_of h
    refine pf_X1_163 hN hG g_10 eM_11 dX1_back_22 ?_
    have g_12 : mT M_11 p0 = 0 := by rw [eM_11]; exact g_10
    refine V_aload_n hG 0 rfl dX1_back_25 ?_
    obtain ⟨a_13, hr_14, h⟩ := bd_of h
    refine gf_X1_101 hN hG g_12 hr_14 dX1_back_26 ?_
    obtain ⟨g_15, h⟩ := gd_of h
    refine gf_X1_274 hN hG g_15 dX1_back_29 ?_
    cases h
    subst eQ
    exact V_iret hG dX1_back_32
  · have h := if_t c_2 h
    refine V_iconst hG (-1) rfl dX1_back_7 ?_
    cases h
    subst eQ
    exact V_iret hG dX1_back_8

def f_X1_clear_b1 (N : Nat) (p0 : Nat) (p1 : Nat) (x2_6 : Int32) (S_7 : Mem) : Option ((Int32 × Mem) ⊕ (Int32 × Mem)) :=
if 6 ≤ x2_6 then (
some (.inl (x2_6, S_7)))
else (
gd (mT S_7 p1 = 100) (
gd (inb x2_6 (mLn S_7 p1)) (
be (sI S_7 p1 (Int32.toNatClampNeg x2_6) (-1)) fun (M_16 : Mem) =>
be (x2_6 + 1) fun (x2_18 : Int32) =>
some (.inr (x2_18, M_16)))))
def f_X1_clear (N : Nat) (p0 : Nat) (p1 : Nat) (M : Mem) : Option (Mem) :=
bd2 (lp N (fun s_12 : Int32 × Mem => f_X1_clear_b1 N p0 p1 s_12.1 s_12.2) (0, M)) fun (x2_8 : Int32) (S_9 : Mem) =>
some S_9
def rm_f_X1_clear : Room := { frames := 0, cells := 0, slots := 0, locals := 0 }
theorem ok_f_X1_clear {E : En} (hE : EOk E) (hN : NOk E) {N : Nat} {p0 : Nat} {p1 : Nat} {M : Mem}  {M' : Mem} (h : f_X1_clear N p0 p1 M = some M') : CM E yX1_clear cX1_clear 3 none rm_f_X1_clear [rf E p0, rf E p1] M none M' := by
  unfold f_X1_clear at h
  refine CM_introX (own := RX1) rfl (by decide +kernel) (Nat.le_of_ble_eq_true rfl) rfl (fun G hG hEn hI => ?_)
  obtain ⟨Q, eQ⟩ : ∃ Q, Q = QM E G none M' 0 0 := ⟨_, rfl⟩
  show V E G M 0 0 3 0 [(0, rf E p0), (1, rf E p1)] [] (QM E G none M' 0 0)
  rw [← eQ]
  refine V_iconst hG 0 rfl dX1_clear_0 ?_
  refine V_istore_n hG rfl [(2, .int 0), (0, rf E p0), (1, rf E p1)] dX1_clear_1 (Nat.le_of_ble_eq_true rfl) rfl ?_
  obtain ⟨x2_8, S_9, hL_10, h⟩ := bd2_of h
  have J_5 : ∀ q_11 : Int32 × Mem, q_11 = (x2_8, S_9) → V E G q_11.2 0 0 3 18 [(2, .int q_11.1), (0, rf E p0), (1, rf E p1)] [] Q := by
    intro q_11 e9
    subst q_11
    show V E G S_9 0 0 3 18 [(2, .int x2_8), (0, rf E p0), (1, rf E p1)] [] Q
    cases h
    subst eQ
    exact V_vret hG dX1_clear_18
  refine lp_walk (W := fun s_12 : Int32 × Mem => V E G s_12.2 0 0 3 2 [(2, .int s_12.1), (0, rf E p0), (1, rf E p1)] [] Q) ?_ N (0, M) hL_10
  intro s_12 b_1 hb_2 hk_3 hx_4
  obtain ⟨x2_6, S_7⟩ := s_12
  have hb_2 : f_X1_clear_b1 N p0 p1 x2_6 S_7 = some b_1 := hb_2
  unfold f_X1_clear_b1 at hb_2
  show V E G S_7 0 0 3 2 [(2, .int x2_6), (0, rf E p0), (1, rf E p1)] [] Q
  refine V_iload_n hG 0 rfl dX1_clear_2 ?_
  refine V_bipush hG 6 (by decide) dX1_clear_3 ?_
  refine V_icmp_ge hG 18 dX1_clear_5 (by decide) (fun c_13 => ?_) (fun c_13 => ?_)
  · have hb_2 := if_t c_13 hb_2
    cases hb_2
    exact J_5 _ (hx_4 _ rfl)
  · have hb_2 := if_f c_13 hb_2
    refine V_aload_n hG 2 rfl dX1_clear_8 ?_
    refine V_iload_n hG 0 rfl dX1_clear_9 ?_
    refine V_iconst hG (-1) rfl dX1_clear_10 ?_
    obtain ⟨g_14, hb_2⟩ := gd_of hb_2
    obtain ⟨g_15, hb_2⟩ := gd_of hb_2
    obtain ⟨M_16, eM_16, hb_2⟩ := be_of hb_2
    refine W_iastore hG g_14 g_15 M_16 eM_16 dX1_clear_11 ?_
    have g_17 : mT M_16 p1 = 100 := by rw [eM_16]; exact g_14
    obtain ⟨x2_18, ex2_18, hb_2⟩ := be_of hb_2
    refine V_iinc hG 0 x2_18 rfl (by rw [ex2_18]; rfl) [(2, .int x2_18), (0, rf E p0), (1, rf E p1)] dX1_clear_12 (Nat.le_of_ble_eq_true rfl) rfl ?_
    refine V_goto hG 2 dX1_clear_15 (by decide) ?_
    cases hb_2
    exact hk_3 _ rfl

def f_X1_knownMany (p0 : Nat) (M : Mem) : Option (Int32) :=
gd (mT M p0 = 0) (
bd (if mI M p0 18 = (-1) then (
bd (mR M p0 16) fun (a_6 : Nat) =>
gd (mT M a_6 = 3) (
bd (f_J2_size a_6 M) fun (r_10 : Int32) =>
some r_10))
else (
some (mI M p0 18)) : Option (Int32)) fun (t_2 : Int32) =>
some t_2)
def rm_f_X1_knownMany : Room := { frames := 1, cells := 0, slots := 0, locals := 20 }
theorem ok_f_X1_knownMany {E : En} (hE : EOk E) (hN : NOk E) {p0 : Nat} {M : Mem} {r : Int32} (h : f_X1_knownMany p0 M = some r) : CM E yX1_knownMany cX1_knownMany 1 (some .int) rm_f_X1_knownMany [rf E p0] M (some (.int r)) M := by
  unfold f_X1_knownMany at h
  refine CM_introX (own := RX1) rfl (by decide +kernel) (Nat.le_of_ble_eq_true rfl) rfl (fun G hG hEn hI => ?_)
  obtain ⟨Q, eQ⟩ : ∃ Q, Q = QM E G (some (.int r)) M 0 0 := ⟨_, rfl⟩
  show V E G M 0 0 1 0 [(0, rf E p0)] [] (QM E G (some (.int r)) M 0 0)
  rw [← eQ]
  refine V_aload_n hG 0 rfl dX1_knownMany_0 ?_
  obtain ⟨g_1, h⟩ := gd_of h
  refine gf_X1_132 hN hG g_1 dX1_knownMany_1 ?_
  refine V_iconst hG (-1) rfl dX1_knownMany_4 ?_
  obtain ⟨t_2, hj_4, h⟩ := bd_of h
  have J_3 : V E G M 0 0 1 22 [(0, rf E p0)] [.int t_2] Q := by
    cases h
    subst eQ
    exact V_iret hG dX1_knownMany_22
  refine V_icmp_ne hG 18 dX1_knownMany_5 (by decide) (fun c_5 => ?_) (fun c_5 => ?_)
  · have hj_4 := if_f c_5 hj_4
    refine V_aload_n hG 0 rfl dX1_knownMany_18 ?_
    refine gf_X1_132 hN hG g_1 dX1_knownMany_19 ?_
    cases hj_4
    exact J_3
  · have hj_4 := if_t c_5 hj_4
    refine V_aload_n hG 0 rfl dX1_knownMany_8 ?_
    obtain ⟨a_6, hr_7, hj_4⟩ := bd_of hj_4
    refine gf_X1_125 hN hG g_1 hr_7 dX1_knownMany_9 ?_
    obtain ⟨g_8, hj_4⟩ := gd_of hj_4
    obtain ⟨r_10, hc_9, hj_4⟩ := bd_of hj_4
    refine V_callV hE hG (ci := 3) (As := []) (rest := []) (ok_f_J2_size hE hN hc_9) g_8 (by decide) rfl hw_X1_23 hdv_J2_size ⟨Nat.le_of_ble_eq_true rfl, Nat.le_of_ble_eq_true rfl⟩ rfl rfl (Nat.le_of_ble_eq_true rfl) ⟨Nat.le_of_ble_eq_true rfl, Nat.le_of_ble_eq_true rfl⟩ dX1_knownMany_12 (V_zero rfl rfl ?_)
    refine V_goto hG 22 dX1_knownMany_15 (by decide) ?_
    cases hj_4
    exact J_3

def f_X6_sum_b1 (N : Nat) (p0 : Nat) (p1 : Nat) (p2 : Int32) (M : Mem) (x4_6 : Int32) (x3_7 : Int32) : Option ((Int32 × Int32) ⊕ (Int32 × Int32)) :=
if p2 ≤ x4_6 then (
some (.inl (x4_6, x3_7)))
else (
gd (mT M p1 = 100) (
gd (inb x4_6 (mLn M p1)) (
be (x3_7 + (mI M p1 (Int32.toNatClampNeg x4_6))) fun (x3_16 : Int32) =>
be (x4_6 + 1) fun (x4_17 : Int32) =>
some (.inr (x4_17, x3_16)))))
def f_X6_sum (N : Nat) (p0 : Nat) (p1 : Nat) (p2 : Int32) (M : Mem) : Option (Int32) :=
bd2 (lp N (fun s_12 : Int32 × Int32 => f_X6_sum_b1 N p0 p1 p2 M s_12.1 s_12.2) (0, 0)) fun (x4_8 : Int32) (x3_9 : Int32) =>
some x3_9
def rm_f_X6_sum : Room := { frames := 0, cells := 0, slots := 0, locals := 0 }
theorem ok_f_X6_sum {E : En} (hE : EOk E) (hN : NOk E) {N : Nat} {p0 : Nat} {p1 : Nat} {p2 : Int32} {M : Mem} {r : Int32} (h : f_X6_sum N p0 p1 p2 M = some r) : CM E yX6_sum cX6_sum 5 (some .int) rm_f_X6_sum [rf E p0, rf E p1, .int p2] M (some (.int r)) M := by
  unfold f_X6_sum at h
  refine CM_introX (own := RX6) rfl (by decide +kernel) (Nat.le_of_ble_eq_true rfl) rfl (fun G hG hEn hI => ?_)
  obtain ⟨Q, eQ⟩ : ∃ Q, Q = QM E G (some (.int r)) M 0 0 := ⟨_, rfl⟩
  show V E G M 0 0 5 0 [(0, rf E p0), (1, rf E p1), (2, .int p2)] [] (QM E G (some (.int r)) M 0 0)
  rw [← eQ]
  refine V_iconst hG 0 rfl dX6_sum_0 ?_
  refine V_istore_n hG rfl [(3, .int 0), (0, rf E p0), (1, rf E p1), (2, .int p2)] dX6_sum_1 (Nat.le_of_ble_eq_true rfl) rfl ?_
  refine V_iconst hG 0 rfl dX6_sum_2 ?_
  refine V_istore hG [(4, .int 0), (3, .int 0), (0, rf E p0), (1, rf E p1), (2, .int p2)] dX6_sum_3 (Nat.le_of_ble_eq_true rfl) rfl ?_
  obtain ⟨x4_8, x3_9, hL_10, h⟩ := bd2_of h
  have J_5 : ∀ q_11 : Int32 × Int32, q_11 = (x4_8, x3_9) → V E G M 0 0 5 24 [(4, .int q_11.1), (3, .int q_11.2), (0, rf E p0), (1, rf E p1), (2, .int p2)] [] Q := by
    intro q_11 e9
    subst q_11
    show V E G M 0 0 5 24 [(4, .int x4_8), (3, .int x3_9), (0, rf E p0), (1, rf E p1), (2, .int p2)] [] Q
    refine V_iload_n hG 1 rfl dX6_sum_24 ?_
    cases h
    subst eQ
    exact V_iret hG dX6_sum_25
  refine lp_walk (W := fun s_12 : Int32 × Int32 => V E G M 0 0 5 5 [(4, .int s_12.1), (3, .int s_12.2), (0, rf E p0), (1, rf E p1), (2, .int p2)] [] Q) ?_ N (0, 0) hL_10
  intro s_12 b_1 hb_2 hk_3 hx_4
  obtain ⟨x4_6, x3_7⟩ := s_12
  have hb_2 : f_X6_sum_b1 N p0 p1 p2 M x4_6 x3_7 = some b_1 := hb_2
  unfold f_X6_sum_b1 at hb_2
  show V E G M 0 0 5 5 [(4, .int x4_6), (3, .int x3_7), (0, rf E p0), (1, rf E p1), (2, .int p2)] [] Q
  refine V_iload hG 0 rfl dX6_sum_5 ?_
  refine V_iload_n hG 4 rfl dX6_sum_7 ?_
  refine V_icmp_ge hG 24 dX6_sum_8 (by decide) (fun c_13 => ?_) (fun c_13 => ?_)
  · have hb_2 := if_t c_13 hb_2
    cases hb_2
    exact J_5 _ (hx_4 _ rfl)
  · have hb_2 := if_f c_13 hb_2
    refine V_iload_n hG 1 rfl dX6_sum_11 ?_
    refine V_aload_n hG 3 rfl dX6_sum_12 ?_
    refine V_iload hG 0 rfl dX6_sum_13 ?_
    obtain ⟨g_14, hb_2⟩ := gd_of hb_2
    obtain ⟨g_15, hb_2⟩ := gd_of hb_2
    refine V_iaload hG g_14 g_15 dX6_sum_15 ?_
    refine V_iadd hG dX6_sum_16 ?_
    obtain ⟨x3_16, ex3_16, hb_2⟩ := be_of hb_2
    refine V_topi ex3_16 ?_
    refine V_istore_n hG rfl [(3, .int x3_16), (4, .int x4_6), (0, rf E p0), (1, rf E p1), (2, .int p2)] dX6_sum_17 (Nat.le_of_ble_eq_true rfl) rfl ?_
    obtain ⟨x4_17, ex4_17, hb_2⟩ := be_of hb_2
    refine V_iinc hG 1 x4_17 rfl (by rw [ex4_17]; rfl) [(4, .int x4_17), (3, .int x3_16), (0, rf E p0), (1, rf E p1), (2, .int p2)] dX6_sum_18 (Nat.le_of_ble_eq_true rfl) rfl ?_
    refine V_goto hG 5 dX6_sum_21 (by decide) ?_
    cases hb_2
    exact hk_3 _ rfl

def f_X1_count (N : Nat) (p0 : Nat) (p1 : Int32) (M : Mem) : Option (Int32) :=
if p1 = 0 then (
gd (mT M p0 = 0) (
bd (f_X1_troughs p0 M) fun (r_4 : Int32) =>
some r_4))
else (
if p1 = 1 then (
gd (mT M p0 = 0) (
bd (f_X1_horses p0 M) fun (r_8 : Int32) =>
some r_8))
else (
if p1 = 2 then (
gd (mT M p0 = 0) (
bd (mR M p0 6) fun (a_11 : Nat) =>
gd (mT M a_11 = 2) (
bd (mR M a_11 2) fun (a_14 : Nat) =>
gd (mT M a_14 = 3) (
bd (f_J2_size a_14 M) fun (r_18 : Int32) =>
some r_18))))
else (
if p1 = 3 then (
gd (mT M p0 = 0) (
bd (mR M p0 6) fun (a_21 : Nat) =>
gd (mT M a_21 = 2) (
some (mI M a_21 4))))
else (
if p1 = 4 then (
gd (mT M p0 = 0) (
bd (mR M p0 6) fun (a_26 : Nat) =>
gd (mT M a_26 = 2) (
some (mI M a_26 7))))
else (
if p1 = 5 then (
gd (mT M p0 = 0) (
bd (mR M p0 9) fun (a_31 : Nat) =>
gd (mT M a_31 = 5) (
some (mI M a_31 6))))
else (
if p1 = 6 then (
gd (mT M p0 = 0) (
bd (mR M p0 9) fun (a_36 : Nat) =>
gd (mT M a_36 = 5) (
some (mI M a_36 8))))
else (
if p1 = 7 then (
gd (mT M p0 = 0) (
bd (mR M p0 9) fun (a_41 : Nat) =>
gd (mT M a_41 = 5) (
some (mI M a_41 9))))
else (
if p1 = 8 then (
gd (mT M p0 = 0) (
bd (mR M p0 9) fun (a_46 : Nat) =>
gd (mT M a_46 = 5) (
bd (f_J18_bitCount (mI M a_46 7) M) fun (r_50 : Int32) =>
some r_50)))
else (
if p1 = 9 then (
gd (mT M p0 = 0) (
bd (mR M p0 9) fun (a_53 : Nat) =>
bd (mR M p0 9) fun (a_55 : Nat) =>
gd (mT M a_55 = 5) (
bd (mR M a_55 5) fun (a_58 : Nat) =>
bd (f_X1_troughs p0 M) fun (r_61 : Int32) =>
gd (mT M a_53 = 5) (
bd (f_X6_sum N a_53 a_58 r_61 M) fun (r_64 : Int32) =>
some r_64))))
else (
if p1 = 10 then (
gd (mT M p0 = 0) (
bd (mR M p0 9) fun (a_67 : Nat) =>
gd (mT M a_67 = 5) (
some (mI M a_67 10))))
else (
if p1 = 11 then (
gd (mT M p0 = 0) (
bd (mR M p0 16) fun (a_72 : Nat) =>
gd (mT M a_72 = 3) (
bd (f_J2_size a_72 M) fun (r_76 : Int32) =>
some r_76)))
else (
if p1 = 12 then (
gd (mT M p0 = 0) (
bd (f_X1_knownMany p0 M) fun (r_80 : Int32) =>
some r_80))
else (
if p1 = 13 then (
gd (mT M p0 = 0) (
some (mI M p0 4)))
else (
some (-1)))))))))))))))
def rm_f_X1_count : Room := { frames := 2, cells := 0, slots := 0, locals := 40 }
theorem ok_f_X1_count {E : En} (hE : EOk E) (hN : NOk E) {N : Nat} {p0 : Nat} {p1 : Int32} {M : Mem} {r : Int32} (h : f_X1_count N p0 p1 M = some r) : CM E yX1_count cX1_count 2 (some .int) rm_f_X1_count [rf E p0, .int p1] M (some (.int r)) M := by
  unfold f_X1_count at h
  refine CM_introX (own := RX1) rfl (by decide +kernel) (Nat.le_of_ble_eq_true rfl) rfl (fun G hG hEn hI => ?_)
  obtain ⟨Q, eQ⟩ : ∃ Q, Q = QM E G (some (.int r)) M 0 0 := ⟨_, rfl⟩
  show V E G M 0 0 2 0 [(0, rf E p0), (1, .int p1)] [] (QM E G (some (.int r)) M 0 0)
  rw [← eQ]
  refine V_iload_n hG 1 rfl dX1_count_0 ?_
  by_cases c_1 : p1 = 0
  · have h := if_t c_1 h
    refine V_tableIn hG 72 dX1_count_1 (by rw [c_1]; decide) (by rw [c_1]; decide) (by rw [c_1]; rfl) (by decide) ?_
    refine V_aload_n hG 0 rfl dX1_count_72 ?_
    obtain ⟨g_2, h⟩ := gd_of h
    obtain ⟨r_4, hc_3, h⟩ := bd_of h
    refine V_callV hE hG (ci := 0) (As := []) (rest := []) (ok_f_X1_troughs hE hN hc_3) g_2 (by decide) rfl hw_X1_182 hdv_X1_troughs ⟨Nat.le_of_ble_eq_true rfl, Nat.le_of_ble_eq_true rfl⟩ rfl rfl (Nat.le_of_ble_eq_true rfl) ⟨Nat.le_of_ble_eq_true rfl, Nat.le_of_ble_eq_true rfl⟩ dX1_count_73 (V_zero rfl rfl ?_)
    cases h
    subst eQ
    exact V_iret hG dX1_count_76
  have h := if_f c_1 h
  by_cases c_5 : p1 = 1
  · have h := if_t c_5 h
    refine V_tableIn hG 77 dX1_count_1 (by rw [c_5]; decide) (by rw [c_5]; decide) (by rw [c_5]; rfl) (by decide) ?_
    refine V_aload_n hG 0 rfl dX1_count_77 ?_
    obtain ⟨g_6, h⟩ := gd_of h
    obtain ⟨r_8, hc_7, h⟩ := bd_of h
    refine V_callV hE hG (ci := 0) (As := []) (rest := []) (ok_f_X1_horses hE hN hc_7) g_6 (by decide) rfl hw_X1_184 hdv_X1_horses ⟨Nat.le_of_ble_eq_true rfl, Nat.le_of_ble_eq_true rfl⟩ rfl rfl (Nat.le_of_ble_eq_true rfl) ⟨Nat.le_of_ble_eq_true rfl, Nat.le_of_ble_eq_true rfl⟩ dX1_count_78 (V_zero rfl rfl ?_)
    cases h
    subst eQ
    exact V_iret hG dX1_count_81
  have h := if_f c_5 h
  by_cases c_9 : p1 = 2
  · have h := if_t c_9 h
    refine V_tableIn hG 82 dX1_count_1 (by rw [c_9]; decide) (by rw [c_9]; decide) (by rw [c_9]; rfl) (by decide) ?_
    refine V_aload_n hG 0 rfl dX1_count_82 ?_
    obtain ⟨g_10, h⟩ := gd_of h
    obtain ⟨a_11, hr_12, h⟩ := bd_of h
    refine gf_X1_13 hN hG g_10 hr_12 dX1_count_83 ?_
    obtain ⟨g_13, h⟩ := gd_of h
    obtain ⟨a_14, hr_15, h⟩ := bd_of h
    refine gf_X1_409 hN hG g_13 hr_15 dX1_count_86 ?_
    obtain ⟨g_16, h⟩ := gd_of h
    obtain ⟨r_18, hc_17, h⟩ := bd_of h
    refine V_callV hE hG (ci := 3) (As := []) (rest := []) (ok_f_J2_size hE hN hc_17) g_16 (by decide) rfl hw_X1_23 hdv_J2_size ⟨Nat.le_of_ble_eq_true rfl, Nat.le_of_ble_eq_true rfl⟩ rfl rfl (Nat.le_of_ble_eq_true rfl) ⟨Nat.le_of_ble_eq_true rfl, Nat.le_of_ble_eq_true rfl⟩ dX1_count_89 (V_zero rfl rfl ?_)
    cases h
    subst eQ
    exact V_iret hG dX1_count_92
  have h := if_f c_9 h
  by_cases c_19 : p1 = 3
  · have h := if_t c_19 h
    refine V_tableIn hG 93 dX1_count_1 (by rw [c_19]; decide) (by rw [c_19]; decide) (by rw [c_19]; rfl) (by decide) ?_
    refine V_aload_n hG 0 rfl dX1_count_93 ?_
    obtain ⟨g_20, h⟩ := gd_of h
    obtain ⟨a_21, hr_22, h⟩ := bd_of h
    refine gf_X1_13 hN hG g_20 hr_22 dX1_count_94 ?_
    obtain ⟨g_23, h⟩ := gd_of h
    refine gf_X1_269 hN hG g_23 dX1_count_97 ?_
    cases h
    subst eQ
    exact V_iret hG dX1_count_100
  have h := if_f c_19 h
  by_cases c_24 : p1 = 4
  · have h := if_t c_24 h
    refine V_tableIn hG 101 dX1_count_1 (by rw [c_24]; decide) (by rw [c_24]; decide) (by rw [c_24]; rfl) (by decide) ?_
    refine V_aload_n hG 0 rfl dX1_count_101 ?_
    obtain ⟨g_25, h⟩ := gd_of h
    obtain ⟨a_26, hr_27, h⟩ := bd_of h
    refine gf_X1_13 hN hG g_25 hr_27 dX1_count_102 ?_
    obtain ⟨g_28, h⟩ := gd_of h
    refine gf_X1_412 hN hG g_28 dX1_count_105 ?_
    cases h
    subst eQ
    exact V_iret hG dX1_count_108
  have h := if_f c_24 h
  by_cases c_29 : p1 = 5
  · have h := if_t c_29 h
    refine V_tableIn hG 109 dX1_count_1 (by rw [c_29]; decide) (by rw [c_29]; decide) (by rw [c_29]; rfl) (by decide) ?_
    refine V_aload_n hG 0 rfl dX1_count_109 ?_
    obtain ⟨g_30, h⟩ := gd_of h
    obtain ⟨a_31, hr_32, h⟩ := bd_of h
    refine gf_X1_101 hN hG g_30 hr_32 dX1_count_110 ?_
    obtain ⟨g_33, h⟩ := gd_of h
    refine gf_X1_274 hN hG g_33 dX1_count_113 ?_
    cases h
    subst eQ
    exact V_iret hG dX1_count_116
  have h := if_f c_29 h
  by_cases c_34 : p1 = 6
  · have h := if_t c_34 h
    refine V_tableIn hG 117 dX1_count_1 (by rw [c_34]; decide) (by rw [c_34]; decide) (by rw [c_34]; rfl) (by decide) ?_
    refine V_aload_n hG 0 rfl dX1_count_117 ?_
    obtain ⟨g_35, h⟩ := gd_of h
    obtain ⟨a_36, hr_37, h⟩ := bd_of h
    refine gf_X1_101 hN hG g_35 hr_37 dX1_count_118 ?_
    obtain ⟨g_38, h⟩ := gd_of h
    refine gf_X1_286 hN hG g_38 dX1_count_121 ?_
    cases h
    subst eQ
    exact V_iret hG dX1_count_124
  have h := if_f c_34 h
  by_cases c_39 : p1 = 7
  · have h := if_t c_39 h
    refine V_tableIn hG 125 dX1_count_1 (by rw [c_39]; decide) (by rw [c_39]; decide) (by rw [c_39]; rfl) (by decide) ?_
    refine V_aload_n hG 0 rfl dX1_count_125 ?_
    obtain ⟨g_40, h⟩ := gd_of h
    obtain ⟨a_41, hr_42, h⟩ := bd_of h
    refine gf_X1_101 hN hG g_40 hr_42 dX1_count_126 ?_
    obtain ⟨g_43, h⟩ := gd_of h
    refine gf_X1_289 hN hG g_43 dX1_count_129 ?_
    cases h
    subst eQ
    exact V_iret hG dX1_count_132
  have h := if_f c_39 h
  by_cases c_44 : p1 = 8
  · have h := if_t c_44 h
    refine V_tableIn hG 133 dX1_count_1 (by rw [c_44]; decide) (by rw [c_44]; decide) (by rw [c_44]; rfl) (by decide) ?_
    refine V_aload_n hG 0 rfl dX1_count_133 ?_
    obtain ⟨g_45, h⟩ := gd_of h
    obtain ⟨a_46, hr_47, h⟩ := bd_of h
    refine gf_X1_101 hN hG g_45 hr_47 dX1_count_134 ?_
    obtain ⟨g_48, h⟩ := gd_of h
    refine gf_X1_292 hN hG g_48 dX1_count_137 ?_
    obtain ⟨r_50, hc_49, h⟩ := bd_of h
    refine V_callS hE hG (As := [.int (mI M a_46 7)]) (rest := []) (ok_f_J18_bitCount hE hN hc_49) hw_X1_295 hdc_J18_bitCount ⟨Nat.le_of_ble_eq_true rfl, Nat.le_of_ble_eq_true rfl⟩ rfl rfl (Nat.le_of_ble_eq_true rfl) ⟨Nat.le_of_ble_eq_true rfl, Nat.le_of_ble_eq_true rfl⟩ dX1_count_140 (V_zero rfl rfl ?_)
    cases h
    subst eQ
    exact V_iret hG dX1_count_143
  have h := if_f c_44 h
  by_cases c_51 : p1 = 9
  · have h := if_t c_51 h
    refine V_tableIn hG 144 dX1_count_1 (by rw [c_51]; decide) (by rw [c_51]; decide) (by rw [c_51]; rfl) (by decide) ?_
    refine V_aload_n hG 0 rfl dX1_count_144 ?_
    obtain ⟨g_52, h⟩ := gd_of h
    obtain ⟨a_53, hr_54, h⟩ := bd_of h
    refine gf_X1_101 hN hG g_52 hr_54 dX1_count_145 ?_
    refine V_aload_n hG 0 rfl dX1_count_148 ?_
    obtain ⟨a_55, hr_56, h⟩ := bd_of h
    refine gf_X1_101 hN hG g_52 hr_56 dX1_count_149 ?_
    obtain ⟨g_57, h⟩ := gd_of h
    obtain ⟨a_58, hr_59, h⟩ := bd_of h
    refine gf_X1_236 hN hG g_57 hr_59 dX1_count_152 ?_
    refine V_aload_n hG 0 rfl dX1_count_155 ?_
    obtain ⟨r_61, hc_60, h⟩ := bd_of h
    refine V_callV hE hG (ci := 0) (As := []) (rest := [rf E a_58, rf E a_53]) (ok_f_X1_troughs hE hN hc_60) g_52 (by decide) rfl hw_X1_182 hdv_X1_troughs ⟨Nat.le_of_ble_eq_true rfl, Nat.le_of_ble_eq_true rfl⟩ rfl rfl (Nat.le_of_ble_eq_true rfl) ⟨Nat.le_of_ble_eq_true rfl, Nat.le_of_ble_eq_true rfl⟩ dX1_count_156 (V_zero rfl rfl ?_)
    obtain ⟨g_62, h⟩ := gd_of h
    obtain ⟨r_64, hc_63, h⟩ := bd_of h
    refine V_callV hE hG (ci := 5) (As := [rf E a_58, .int r_61]) (rest := []) (ok_f_X6_sum hE hN hc_63) g_62 (by decide) rfl hw_X1_415 hdv_X6_sum ⟨Nat.le_of_ble_eq_true rfl, Nat.le_of_ble_eq_true rfl⟩ rfl rfl (Nat.le_of_ble_eq_true rfl) ⟨Nat.le_of_ble_eq_true rfl, Nat.le_of_ble_eq_true rfl⟩ dX1_count_159 (V_zero rfl rfl ?_)
    cases h
    subst eQ
    exact V_iret hG dX1_count_162
  have h := if_f c_51 h
  by_cases c_65 : p1 = 10
  · have h := if_t c_65 h
    refine V_tableIn hG 163 dX1_count_1 (by rw [c_65]; decide) (by rw [c_65]; decide) (by rw [c_65]; rfl) (by decide) ?_
    refine V_aload_n hG 0 rfl dX1_count_163 ?_
    obtain ⟨g_66, h⟩ := gd_of h
    obtain ⟨a_67, hr_68, h⟩ := bd_of h
    refine gf_X1_101 hN hG g_66 hr_68 dX1_count_164 ?_
    obtain ⟨g_69, h⟩ := gd_of h
    refine gf_X1_419 hN hG g_69 dX1_count_167 ?_
    cases h
    subst eQ
    exact V_iret hG dX1_count_170
  have h := if_f c_65 h
  by_cases c_70 : p1 = 11
  · have h := if_t c_70 h
    refine V_tableIn hG 171 dX1_count_1 (by rw [c_70]; decide) (by rw [c_70]; decide) (by rw [c_70]; rfl) (by decide) ?_
    refine V_aload_n hG 0 rfl dX1_count_171 ?_
    obtain ⟨g_71, h⟩ := gd_of h
    obtain ⟨a_72, hr_73, h⟩ := bd_of h
    refine gf_X1_125 hN hG g_71 hr_73 dX1_count_172 ?_
    obtain ⟨g_74, h⟩ := gd_of h
    obtain ⟨r_76, hc_75, h⟩ := bd_of h
    refine V_callV hE hG (ci := 3) (As := []) (rest := []) (ok_f_J2_size hE hN hc_75) g_74 (by decide) rfl hw_X1_23 hdv_J2_size ⟨Nat.le_of_ble_eq_true rfl, Nat.le_of_ble_eq_true rfl⟩ rfl rfl (Nat.le_of_ble_eq_true rfl) ⟨Nat.le_of_ble_eq_true rfl, Nat.le_of_ble_eq_true rfl⟩ dX1_count_175 (V_zero rfl rfl ?_)
    cases h
    subst eQ
    exact V_iret hG dX1_count_178
  have h := if_f c_70 h
  by_cases c_77 : p1 = 12
  · have h := if_t c_77 h
    refine V_tableIn hG 179 dX1_count_1 (by rw [c_77]; decide) (by rw [c_77]; decide) (by rw [c_77]; rfl) (by decide) ?_
    refine V_aload_n hG 0 rfl dX1_count_179 ?_
    obtain ⟨g_78, h⟩ := gd_of h
    obtain ⟨r_80, hc_79, h⟩ := bd_of h
    refine V_callV hE hG (ci := 0) (As := []) (rest := []) (ok_f_X1_knownMany hE hN hc_79) g_78 (by decide) rfl hw_X1_381 hdv_X1_knownMany ⟨Nat.le_of_ble_eq_true rfl, Nat.le_of_ble_eq_true rfl⟩ rfl rfl (Nat.le_of_ble_eq_true rfl) ⟨Nat.le_of_ble_eq_true rfl, Nat.le_of_ble_eq_true rfl⟩ dX1_count_180 (V_zero rfl rfl ?_)
    cases h
    subst eQ
    exact V_iret hG dX1_count_183
  have h := if_f c_77 h
  by_cases c_81 : p1 = 13
  · have h := if_t c_81 h
    refine V_tableIn hG 184 dX1_count_1 (by rw [c_81]; decide) (by rw [c_81]; decide) (by rw [c_81]; rfl) (by decide) ?_
    refine V_aload_n hG 0 rfl dX1_count_184 ?_
    obtain ⟨g_82, h⟩ := gd_of h
    refine gf_X1_163 hN hG g_82 dX1_count_185 ?_
    cases h
    subst eQ
    exact V_iret hG dX1_count_188
  have h := if_f c_81 h
  refine V_tableOut hG 189 dX1_count_1 (by have := lv_neT c_1 (show Int32.toInt 0 = 0 from rfl); have := lv_neT c_5 (show Int32.toInt 1 = 1 from rfl); have := lv_neT c_9 (show Int32.toInt 2 = 2 from rfl); have := lv_neT c_19 (show Int32.toInt 3 = 3 from rfl); have := lv_neT c_24 (show Int32.toInt 4 = 4 from rfl); have := lv_neT c_29 (show Int32.toInt 5 = 5 from rfl); have := lv_neT c_34 (show Int32.toInt 6 = 6 from rfl); have := lv_neT c_39 (show Int32.toInt 7 = 7 from rfl); have := lv_neT c_44 (show Int32.toInt 8 = 8 from rfl); have := lv_neT c_51 (show Int32.toInt 9 = 9 from rfl); have := lv_neT c_65 (show Int32.toInt 10 = 10 from rfl); have := lv_neT c_70 (show Int32.toInt 11 = 11 from rfl); have := lv_neT c_77 (show Int32.toInt 12 = 12 from rfl); have := lv_neT c_81 (show Int32.toInt 13 = 13 from rfl); omega) (by decide) ?_
  refine V_iconst hG (-1) rfl dX1_count_189 ?_
  cases h
  subst eQ
  exact V_iret hG dX1_count_190

def f_X1_doCover_b1 (N : Nat) (p0 : Nat) (p1 : Int32) (p2 : Int32) (M : Mem) (x4_6 : Int32) (x3_7 : Int32) : Option (((Int32 × Int32) ⊕ (Int32)) ⊕ (Int32 × Int32)) :=
gd (mT M p0 = 0) (
bd (mR M p0 6) fun (a_17 : Nat) =>
gd (mT M a_17 = 2) (
if mI M a_17 4 < x4_6 then (
some (.inl (.inl (x4_6, x3_7))))
else (
bd (mR M p0 6) fun (a_21 : Nat) =>
gd (mT M a_21 = 2) (
bd (mR M a_21 0) fun (a_24 : Nat) =>
bd (f_X10_at N a_24 x4_6 M) fun (r_27 : Int32) =>
bd (mR M p0 6) fun (a_28 : Nat) =>
gd (mT M a_28 = 2) (
if x4_6 = mI M a_28 4 then (
if x4_6 - x3_7 ≤ p2 then (
be (x4_6 + 1) fun (x4_33 : Int32) =>
some (.inr (x4_33, x4_6)))
else (
some (.inl (.inr 0))))
else (
if r_27 = (-1) then (
be (x4_6 + 1) fun (x4_37 : Int32) =>
some (.inr (x4_37, x3_7)))
else (
if (p1 >>> (r_27 &&& 31)) &&& 1 = 0 then (
be (x4_6 + 1) fun (x4_43 : Int32) =>
some (.inr (x4_43, x3_7)))
else (
if x4_6 - x3_7 ≤ p2 then (
be (x4_6 + 1) fun (x4_40 : Int32) =>
some (.inr (x4_40, x4_6)))
else (
some (.inl (.inr 0)))))))))))
def f_X1_doCover (N : Nat) (p0 : Nat) (p1 : Int32) (p2 : Int32) (M : Mem) : Option (Int32) :=
bx2 (lp N (fun s_15 : Int32 × Int32 => f_X1_doCover_b1 N p0 p1 p2 M s_15.1 s_15.2) (0, 0)) (fun (x4_9 : Int32) (x3_10 : Int32) =>
some 1) (fun (w_44 : Int32) => some w_44)
def rm_f_X1_doCover : Room := { frames := 4, cells := 0, slots := 0, locals := 86 }
theorem ok_f_X1_doCover {E : En} (hE : EOk E) (hN : NOk E) {N : Nat} {p0 : Nat} {p1 : Int32} {p2 : Int32} {M : Mem} {r : Int32} (h : f_X1_doCover N p0 p1 p2 M = some r) : CM E yX1_doCover cX1_doCover 6 (some .boolean) rm_f_X1_doCover [rf E p0, .int p1, .int p2] M (some (.int r)) M := by
  unfold f_X1_doCover at h
  refine CM_introX (own := RX1) rfl (by decide +kernel) (Nat.le_of_ble_eq_true rfl) rfl (fun G hG hEn hI => ?_)
  obtain ⟨Q, eQ⟩ : ∃ Q, Q = QM E G (some (.int r)) M 0 0 := ⟨_, rfl⟩
  show V E G M 0 0 6 0 [(0, rf E p0), (1, .int p1), (2, .int p2)] [] (QM E G (some (.int r)) M 0 0)
  rw [← eQ]
  refine V_iconst hG 0 rfl dX1_doCover_0 ?_
  refine V_istore_n hG rfl [(3, .int 0), (0, rf E p0), (1, .int p1), (2, .int p2)] dX1_doCover_1 (Nat.le_of_ble_eq_true rfl) rfl ?_
  refine V_iconst hG 0 rfl dX1_doCover_2 ?_
  refine V_istore hG [(4, .int 0), (3, .int 0), (0, rf E p0), (1, .int p1), (2, .int p2)] dX1_doCover_3 (Nat.le_of_ble_eq_true rfl) rfl ?_
  obtain ⟨rr_12, hL_11, hl_13, hr_8⟩ := bx2_of h
  have J_5 : ∀ q_14 : Int32 × Int32, Sum.inl q_14 = rr_12 → V E G M 0 0 6 80 [(4, .int q_14.1), (3, .int q_14.2), (0, rf E p0), (1, .int p1), (2, .int p2)] [] Q := by
    intro q_14 e9
    obtain ⟨x4_9, x3_10⟩ := q_14
    have h := hl_13 x4_9 x3_10 e9.symm
    show V E G M 0 0 6 80 [(4, .int x4_9), (3, .int x3_10), (0, rf E p0), (1, .int p1), (2, .int p2)] [] Q
    refine V_iconst hG 1 rfl dX1_doCover_80 ?_
    cases h
    subst eQ
    exact V_zret hG (Or.inr rfl) dX1_doCover_81
  refine lp_walk (W := fun s_15 : Int32 × Int32 => V E G M 0 0 6 5 [(4, .int s_15.1), (3, .int s_15.2), (0, rf E p0), (1, .int p1), (2, .int p2)] [] Q) ?_ N (0, 0) hL_11
  intro s_15 b_1 hb_2 hk_3 hx_4
  obtain ⟨x4_6, x3_7⟩ := s_15
  have hb_2 : f_X1_doCover_b1 N p0 p1 p2 M x4_6 x3_7 = some b_1 := hb_2
  unfold f_X1_doCover_b1 at hb_2
  show V E G M 0 0 6 5 [(4, .int x4_6), (3, .int x3_7), (0, rf E p0), (1, .int p1), (2, .int p2)] [] Q
  refine V_iload hG 0 rfl dX1_doCover_5 ?_
  refine V_aload_n hG 2 rfl dX1_doCover_7 ?_
  obtain ⟨g_16, hb_2⟩ := gd_of hb_2
  obtain ⟨a_17, hr_18, hb_2⟩ := bd_of hb_2
  refine gf_X1_13 hN hG g_16 hr_18 dX1_doCover_8 ?_
  obtain ⟨g_19, hb_2⟩ := gd_of hb_2
  refine gf_X1_269 hN hG g_19 dX1_doCover_11 ?_
  refine V_icmp_gt hG 80 dX1_doCover_14 (by decide) (fun c_20 => ?_) (fun c_20 => ?_)
  · have hb_2 := if_t c_20 hb_2
    cases hb_2
    exact J_5 _ (hx_4 _ rfl)
  · have hb_2 := if_f c_20 hb_2
    refine V_aload_n hG 2 rfl dX1_doCover_17 ?_
    obtain ⟨a_21, hr_22, hb_2⟩ := bd_of hb_2
    refine gf_X1_13 hN hG g_16 hr_22 dX1_doCover_18 ?_
    obtain ⟨g_23, hb_2⟩ := gd_of hb_2
    obtain ⟨a_24, hr_25, hb_2⟩ := bd_of hb_2
    refine gf_X1_17 hN hG g_23 hr_25 dX1_doCover_21 ?_
    refine V_iload hG 0 rfl dX1_doCover_24 ?_
    obtain ⟨r_27, hc_26, hb_2⟩ := bd_of hb_2
    refine V_callS hE hG (As := [rf E a_24, .int x4_6]) (rest := []) (ok_f_X10_at hE hN hc_26) hw_X1_323 hdc_X10_at ⟨Nat.le_of_ble_eq_true rfl, Nat.le_of_ble_eq_true rfl⟩ rfl rfl (Nat.le_of_ble_eq_true rfl) ⟨Nat.le_of_ble_eq_true rfl, Nat.le_of_ble_eq_true rfl⟩ dX1_doCover_26 (V_zero rfl rfl ?_)
    refine V_istore hG [(5, .int r_27), (4, .int x4_6), (3, .int x3_7), (0, rf E p0), (1, .int p1), (2, .int p2)] dX1_doCover_29 (Nat.le_of_ble_eq_true rfl) rfl ?_
    refine V_iload hG 1 rfl dX1_doCover_31 ?_
    refine V_aload_n hG 3 rfl dX1_doCover_33 ?_
    obtain ⟨a_28, hr_29, hb_2⟩ := bd_of hb_2
    refine gf_X1_13 hN hG g_16 hr_29 dX1_doCover_34 ?_
    obtain ⟨g_30, hb_2⟩ := gd_of hb_2
    refine gf_X1_269 hN hG g_30 dX1_doCover_37 ?_
    refine V_icmp_eq hG 61 dX1_doCover_40 (by decide) (fun c_31 => ?_) (fun c_31 => ?_)
    · have hb_2 := if_t c_31 hb_2
      refine V_iload hG 1 rfl dX1_doCover_61 ?_
      refine V_iload_n hG 2 rfl dX1_doCover_63 ?_
      refine V_isub hG dX1_doCover_64 ?_
      refine V_iload_n hG 5 rfl dX1_doCover_65 ?_
      refine V_icmp_le hG 71 dX1_doCover_66 (by decide) (fun c_32 => ?_) (fun c_32 => ?_)
      · have hb_2 := if_t c_32 hb_2
        refine V_iload hG 1 rfl dX1_doCover_71 ?_
        refine V_istore_n hG rfl [(3, .int x4_6), (5, .int r_27), (4, .int x4_6), (0, rf E p0), (1, .int p1), (2, .int p2)] dX1_doCover_73 (Nat.le_of_ble_eq_true rfl) rfl ?_
        obtain ⟨x4_33, ex4_33, hb_2⟩ := be_of hb_2
        refine V_iinc hG 2 x4_33 rfl (by rw [ex4_33]; rfl) [(4, .int x4_33), (3, .int x4_6), (5, .int r_27), (0, rf E p0), (1, .int p1), (2, .int p2)] dX1_doCover_74 (Nat.le_of_ble_eq_true rfl) rfl ?_
        refine V_goto hG 5 dX1_doCover_77 (by decide) ?_
        cases hb_2
        exact V_lv [0, 1, 3, 4, 5] rfl (hk_3 _ rfl)
      · have hb_2 := if_f c_32 hb_2
        refine V_iconst hG 0 rfl dX1_doCover_69 ?_
        cases hb_2
        have e_34 := hx_4 _ rfl
        have h_35 : some 0 = some r := hr_8 _ e_34.symm
        cases h_35
        subst eQ
        exact V_zret hG (Or.inl rfl) dX1_doCover_70
    · have hb_2 := if_f c_31 hb_2
      refine V_iload hG 0 rfl dX1_doCover_43 ?_
      refine V_iconst hG (-1) rfl dX1_doCover_45 ?_
      refine V_icmp_eq hG 74 dX1_doCover_46 (by decide) (fun c_36 => ?_) (fun c_36 => ?_)
      · have hb_2 := if_t c_36 hb_2
        obtain ⟨x4_37, ex4_37, hb_2⟩ := be_of hb_2
        refine V_iinc hG 1 x4_37 rfl (by rw [ex4_37]; rfl) [(4, .int x4_37), (5, .int r_27), (3, .int x3_7), (0, rf E p0), (1, .int p1), (2, .int p2)] dX1_doCover_74 (Nat.le_of_ble_eq_true rfl) rfl ?_
        refine V_goto hG 5 dX1_doCover_77 (by decide) ?_
        cases hb_2
        exact V_lv [0, 2, 3, 4, 5] rfl (hk_3 _ rfl)
      · have hb_2 := if_f c_36 hb_2
        refine V_iload_n hG 4 rfl dX1_doCover_49 ?_
        refine V_iload hG 0 rfl dX1_doCover_50 ?_
        refine V_ishr hG dX1_doCover_52 ?_
        refine V_iconst hG 1 rfl dX1_doCover_53 ?_
        refine V_iand hG dX1_doCover_54 ?_
        refine V_if_ne hG 61 dX1_doCover_55 (by decide) (fun c_38 => ?_) (fun c_38 => ?_)
        · have hb_2 := if_f c_38 hb_2
          refine V_iload hG 1 rfl dX1_doCover_61 ?_
          refine V_iload_n hG 2 rfl dX1_doCover_63 ?_
          refine V_isub hG dX1_doCover_64 ?_
          refine V_iload_n hG 5 rfl dX1_doCover_65 ?_
          refine V_icmp_le hG 71 dX1_doCover_66 (by decide) (fun c_39 => ?_) (fun c_39 => ?_)
          · have hb_2 := if_t c_39 hb_2
            refine V_iload hG 1 rfl dX1_doCover_71 ?_
            refine V_istore_n hG rfl [(3, .int x4_6), (5, .int r_27), (4, .int x4_6), (0, rf E p0), (1, .int p1), (2, .int p2)] dX1_doCover_73 (Nat.le_of_ble_eq_true rfl) rfl ?_
            obtain ⟨x4_40, ex4_40, hb_2⟩ := be_of hb_2
            refine V_iinc hG 2 x4_40 rfl (by rw [ex4_40]; rfl) [(4, .int x4_40), (3, .int x4_6), (5, .int r_27), (0, rf E p0), (1, .int p1), (2, .int p2)] dX1_doCover_74 (Nat.le_of_ble_eq_true rfl) rfl ?_
            refine V_goto hG 5 dX1_doCover_77 (by decide) ?_
            cases hb_2
            exact V_lv [0, 1, 3, 4, 5] rfl (hk_3 _ rfl)
          · have hb_2 := if_f c_39 hb_2
            refine V_iconst hG 0 rfl dX1_doCover_69 ?_
            cases hb_2
            have e_41 := hx_4 _ rfl
            have h_42 : some 0 = some r := hr_8 _ e_41.symm
            cases h_42
            subst eQ
            exact V_zret hG (Or.inl rfl) dX1_doCover_70
        · have hb_2 := if_t c_38 hb_2
          refine V_goto hG 74 dX1_doCover_58 (by decide) ?_
          obtain ⟨x4_43, ex4_43, hb_2⟩ := be_of hb_2
          refine V_iinc hG 1 x4_43 rfl (by rw [ex4_43]; rfl) [(4, .int x4_43), (5, .int r_27), (3, .int x3_7), (0, rf E p0), (1, .int p1), (2, .int p2)] dX1_doCover_74 (Nat.le_of_ble_eq_true rfl) rfl ?_
          refine V_goto hG 5 dX1_doCover_77 (by decide) ?_
          cases hb_2
          exact V_lv [0, 2, 3, 4, 5] rfl (hk_3 _ rfl)

def f_X1_cover_b1 (N : Nat) (p0 : Nat) (p1 : Int32) (M : Mem) (x3_9 : Int32) (x2_10 : Int32) : Option ((Int32 × Int32) ⊕ (Int32 × Int32)) :=
gd (mT M p0 = 0) (
bd (f_X1_troughs p0 M) fun (r_18 : Int32) =>
if 1 <<< (r_18 &&& 31) ≤ x3_9 then (
some (.inl (x3_9, x2_10)))
else (
bd (if x2_10 = (-2) then (
bd (f_X1_doCover N p0 x3_9 p1 M) fun (r_26 : Int32) =>
if r_26 = 0 then (
some x2_10)
else (
some x3_9))
else (
bd (f_J18_bitCount x3_9 M) fun (r_29 : Int32) =>
bd (f_J18_bitCount x2_10 M) fun (r_31 : Int32) =>
if r_31 ≤ r_29 then (
some x2_10)
else (
bd (f_X1_doCover N p0 x3_9 p1 M) fun (r_34 : Int32) =>
if r_34 = 0 then (
some x2_10)
else (
some x3_9))) : Option (Int32)) fun (x2_20 : Int32) =>
be (x3_9 + 1) fun (x3_23 : Int32) =>
some (.inr (x3_23, x2_20))))
def f_X1_cover (N : Nat) (p0 : Nat) (p1 : Int32) (M : Mem) : Option (Int32) :=
bd (f_X1_in (Int32.toInt64 p1) 1 60 M) fun (r_2 : Int32) =>
if r_2 = 0 then (
some (-1))
else (
bd2 (lp N (fun s_15 : Int32 × Int32 => f_X1_cover_b1 N p0 p1 M s_15.1 s_15.2) (0, (-2))) fun (x3_11 : Int32) (x2_12 : Int32) =>
some x2_12)
def rm_f_X1_cover : Room := { frames := 5, cells := 0, slots := 0, locals := 111 }
theorem ok_f_X1_cover {E : En} (hE : EOk E) (hN : NOk E) {N : Nat} {p0 : Nat} {p1 : Int32} {M : Mem} {r : Int32} (h : f_X1_cover N p0 p1 M = some r) : CM E yX1_cover cX1_cover 4 (some .int) rm_f_X1_cover [rf E p0, .int p1] M (some (.int r)) M := by
  unfold f_X1_cover at h
  refine CM_introX (own := RX1) rfl (by decide +kernel) (Nat.le_of_ble_eq_true rfl) rfl (fun G hG hEn hI => ?_)
  obtain ⟨Q, eQ⟩ : ∃ Q, Q = QM E G (some (.int r)) M 0 0 := ⟨_, rfl⟩
  show V E G M 0 0 4 0 [(0, rf E p0), (1, .int p1)] [] (QM E G (some (.int r)) M 0 0)
  rw [← eQ]
  refine V_iload_n hG 1 rfl dX1_cover_0 ?_
  refine V_i2l hG dX1_cover_1 ?_
  refine V_lconst hG 1 rfl dX1_cover_2 ?_
  refine V_ldc2 hG q1230 dX1_cover_3 ?_
  obtain ⟨r_2, hc_1, h⟩ := bd_of h
  refine V_callS hE hG (As := [.long (Int32.toInt64 p1), .long 1, .long 60]) (rest := []) (ok_f_X1_in hE hN hc_1) hw_X1_144 hdc_X1_in ⟨Nat.le_of_ble_eq_true rfl, Nat.le_of_ble_eq_true rfl⟩ rfl rfl (Nat.le_of_ble_eq_true rfl) ⟨Nat.le_of_ble_eq_true rfl, Nat.le_of_ble_eq_true rfl⟩ dX1_cover_6 (V_zero rfl rfl ?_)
  refine V_if_ne hG 14 dX1_cover_9 (by decide) (fun c_3 => ?_) (fun c_3 => ?_)
  · have h := if_f c_3 h
    refine V_bipush hG (-2) (by decide) dX1_cover_14 ?_
    refine V_istore_n hG rfl [(2, .int (-2)), (0, rf E p0), (1, .int p1)] dX1_cover_16 (Nat.le_of_ble_eq_true rfl) rfl ?_
    refine V_iconst hG 0 rfl dX1_cover_17 ?_
    refine V_istore_n hG rfl [(3, .int 0), (2, .int (-2)), (0, rf E p0), (1, .int p1)] dX1_cover_18 (Nat.le_of_ble_eq_true rfl) rfl ?_
    obtain ⟨x3_11, x2_12, hL_13, h⟩ := bd2_of h
    have J_8 : ∀ q_14 : Int32 × Int32, q_14 = (x3_11, x2_12) → V E G M 0 0 4 63 [(3, .int q_14.1), (2, .int q_14.2), (0, rf E p0), (1, .int p1)] [] Q := by
      intro q_14 e9
      subst q_14
      show V E G M 0 0 4 63 [(3, .int x3_11), (2, .int x2_12), (0, rf E p0), (1, .int p1)] [] Q
      refine V_iload_n hG 1 rfl dX1_cover_63 ?_
      cases h
      subst eQ
      exact V_iret hG dX1_cover_64
    refine lp_walk (W := fun s_15 : Int32 × Int32 => V E G M 0 0 4 19 [(3, .int s_15.1), (2, .int s_15.2), (0, rf E p0), (1, .int p1)] [] Q) ?_ N (0, (-2)) hL_13
    intro s_15 b_4 hb_5 hk_6 hx_7
    obtain ⟨x3_9, x2_10⟩ := s_15
    have hb_5 : f_X1_cover_b1 N p0 p1 M x3_9 x2_10 = some b_4 := hb_5
    unfold f_X1_cover_b1 at hb_5
    show V E G M 0 0 4 19 [(3, .int x3_9), (2, .int x2_10), (0, rf E p0), (1, .int p1)] [] Q
    refine V_iload_n hG 0 rfl dX1_cover_19 ?_
    refine V_iconst hG 1 rfl dX1_cover_20 ?_
    refine V_aload_n hG 2 rfl dX1_cover_21 ?_
    obtain ⟨g_16, hb_5⟩ := gd_of hb_5
    obtain ⟨r_18, hc_17, hb_5⟩ := bd_of hb_5
    refine V_callV hE hG (ci := 0) (As := []) (rest := [.int 1, .int x3_9]) (ok_f_X1_troughs hE hN hc_17) g_16 (by decide) rfl hw_X1_182 hdv_X1_troughs ⟨Nat.le_of_ble_eq_true rfl, Nat.le_of_ble_eq_true rfl⟩ rfl rfl (Nat.le_of_ble_eq_true rfl) ⟨Nat.le_of_ble_eq_true rfl, Nat.le_of_ble_eq_true rfl⟩ dX1_cover_22 (V_zero rfl rfl ?_)
    refine V_ishl hG dX1_cover_25 ?_
    refine V_icmp_ge hG 63 dX1_cover_26 (by decide) (fun c_19 => ?_) (fun c_19 => ?_)
    · have hb_5 := if_t c_19 hb_5
      cases hb_5
      exact J_8 _ (hx_7 _ rfl)
    · have hb_5 := if_f c_19 hb_5
      refine V_iload_n hG 1 rfl dX1_cover_29 ?_
      refine V_bipush hG (-2) (by decide) dX1_cover_30 ?_
      obtain ⟨x2_20, hj_22, hb_5⟩ := bd_of hb_5
      have J_21 : V E G M 0 0 4 57 [(3, .int x3_9), (2, .int x2_20), (0, rf E p0), (1, .int p1)] [] Q := by
        obtain ⟨x3_23, ex3_23, hb_5⟩ := be_of hb_5
        refine V_iinc hG 0 x3_23 rfl (by rw [ex3_23]; rfl) [(3, .int x3_23), (2, .int x2_20), (0, rf E p0), (1, .int p1)] dX1_cover_57 (Nat.le_of_ble_eq_true rfl) rfl ?_
        refine V_goto hG 19 dX1_cover_60 (by decide) ?_
        cases hb_5
        exact hk_6 _ rfl
      refine V_icmp_eq hG 46 dX1_cover_32 (by decide) (fun c_24 => ?_) (fun c_24 => ?_)
      · have hj_22 := if_t c_24 hj_22
        refine V_aload_n hG 2 rfl dX1_cover_46 ?_
        refine V_iload_n hG 0 rfl dX1_cover_47 ?_
        refine V_iload_n hG 3 rfl dX1_cover_48 ?_
        obtain ⟨r_26, hc_25, hj_22⟩ := bd_of hj_22
        refine V_callV hE hG (ci := 0) (As := [.int x3_9, .int p1]) (rest := []) (ok_f_X1_doCover hE hN hc_25) g_16 (by decide) rfl hw_X1_327 hdv_X1_doCover ⟨Nat.le_of_ble_eq_true rfl, Nat.le_of_ble_eq_true rfl⟩ rfl rfl (Nat.le_of_ble_eq_true rfl) ⟨Nat.le_of_ble_eq_true rfl, Nat.le_of_ble_eq_true rfl⟩ dX1_cover_49 (V_zero rfl rfl ?_)
        refine V_if_eq hG 57 dX1_cover_52 (by decide) (fun c_27 => ?_) (fun c_27 => ?_)
        · have hj_22 := if_t c_27 hj_22
          cases hj_22
          exact J_21
        · have hj_22 := if_f c_27 hj_22
          refine V_iload_n hG 0 rfl dX1_cover_55 ?_
          refine V_istore_n hG rfl [(2, .int x3_9), (3, .int x3_9), (0, rf E p0), (1, .int p1)] dX1_cover_56 (Nat.le_of_ble_eq_true rfl) rfl ?_
          cases hj_22
          exact V_lv [1, 0, 2, 3] rfl (J_21)
      · have hj_22 := if_f c_24 hj_22
        refine V_iload_n hG 0 rfl dX1_cover_35 ?_
        obtain ⟨r_29, hc_28, hj_22⟩ := bd_of hj_22
        refine V_callS hE hG (As := [.int x3_9]) (rest := []) (ok_f_J18_bitCount hE hN hc_28) hw_X1_295 hdc_J18_bitCount ⟨Nat.le_of_ble_eq_true rfl, Nat.le_of_ble_eq_true rfl⟩ rfl rfl (Nat.le_of_ble_eq_true rfl) ⟨Nat.le_of_ble_eq_true rfl, Nat.le_of_ble_eq_true rfl⟩ dX1_cover_36 (V_zero rfl rfl ?_)
        refine V_iload_n hG 1 rfl dX1_cover_39 ?_
        obtain ⟨r_31, hc_30, hj_22⟩ := bd_of hj_22
        refine V_callS hE hG (As := [.int x2_10]) (rest := [.int r_29]) (ok_f_J18_bitCount hE hN hc_30) hw_X1_295 hdc_J18_bitCount ⟨Nat.le_of_ble_eq_true rfl, Nat.le_of_ble_eq_true rfl⟩ rfl rfl (Nat.le_of_ble_eq_true rfl) ⟨Nat.le_of_ble_eq_true rfl, Nat.le_of_ble_eq_true rfl⟩ dX1_cover_40 (V_zero rfl rfl ?_)
        refine V_icmp_ge hG 57 dX1_cover_43 (by decide) (fun c_32 => ?_) (fun c_32 => ?_)
        · have hj_22 := if_t c_32 hj_22
          cases hj_22
          exact J_21
        · have hj_22 := if_f c_32 hj_22
          refine V_aload_n hG 2 rfl dX1_cover_46 ?_
          refine V_iload_n hG 0 rfl dX1_cover_47 ?_
          refine V_iload_n hG 3 rfl dX1_cover_48 ?_
          obtain ⟨r_34, hc_33, hj_22⟩ := bd_of hj_22
          refine V_callV hE hG (ci := 0) (As := [.int x3_9, .int p1]) (rest := []) (ok_f_X1_doCover hE hN hc_33) g_16 (by decide) rfl hw_X1_327 hdv_X1_doCover ⟨Nat.le_of_ble_eq_true rfl, Nat.le_of_ble_eq_true rfl⟩ rfl rfl (Nat.le_of_ble_eq_true rfl) ⟨Nat.le_of_ble_eq_true rfl, Nat.le_of_ble_eq_true rfl⟩ dX1_cover_49 (V_zero rfl rfl ?_)
          refine V_if_eq hG 57 dX1_cover_52 (by decide) (fun c_35 => ?_) (fun c_35 => ?_)
          · have hj_22 := if_t c_35 hj_22
            cases hj_22
            exact J_21
          · have hj_22 := if_f c_35 hj_22
            refine V_iload_n hG 0 rfl dX1_cover_55 ?_
            refine V_istore_n hG rfl [(2, .int x3_9), (3, .int x3_9), (0, rf E p0), (1, .int p1)] dX1_cover_56 (Nat.le_of_ble_eq_true rfl) rfl ?_
            cases hj_22
            exact V_lv [1, 0, 2, 3] rfl (J_21)
  · have h := if_t c_3 h
    refine V_iconst hG (-1) rfl dX1_cover_12 ?_
    cases h
    subst eQ
    exact V_iret hG dX1_cover_13

def f_X1_driest_b1 (N : Nat) (p0 : Nat) (M : Mem) (x2_6 : Int32) (x1_7 : Int32) : Option ((Int32 × Int32) ⊕ (Int32 × Int32)) :=
gd (mT M p0 = 0) (
bd (f_X1_troughs p0 M) fun (r_15 : Int32) =>
if r_15 ≤ x2_6 then (
some (.inl (x2_6, x1_7)))
else (
bd (if x1_7 = (-1) then (
some x2_6)
else (
bd (mR M p0 9) fun (a_22 : Nat) =>
gd (mT M a_22 = 5) (
bd (mR M a_22 5) fun (a_25 : Nat) =>
gd (mT M a_25 = 100) (
gd (inb x2_6 (mLn M a_25)) (
bd (mR M p0 9) fun (a_29 : Nat) =>
gd (mT M a_29 = 5) (
bd (mR M a_29 5) fun (a_32 : Nat) =>
gd (mT M a_32 = 100) (
gd (inb x1_7 (mLn M a_32)) (
if mI M a_32 (Int32.toNatClampNeg x1_7) ≤ mI M a_25 (Int32.toNatClampNeg x2_6) then (
some x1_7)
else (
some x2_6)))))))) : Option (Int32)) fun (x1_17 : Int32) =>
be (x2_6 + 1) fun (x2_20 : Int32) =>
some (.inr (x2_20, x1_17))))
def f_X1_driest (N : Nat) (p0 : Nat) (M : Mem) : Option (Int32) :=
bd2 (lp N (fun s_12 : Int32 × Int32 => f_X1_driest_b1 N p0 M s_12.1 s_12.2) (0, (-1))) fun (x2_8 : Int32) (x1_9 : Int32) =>
some x1_9
def rm_f_X1_driest : Room := { frames := 2, cells := 0, slots := 0, locals := 40 }
theorem ok_f_X1_driest {E : En} (hE : EOk E) (hN : NOk E) {N : Nat} {p0 : Nat} {M : Mem} {r : Int32} (h : f_X1_driest N p0 M = some r) : CM E yX1_driest cX1_driest 3 (some .int) rm_f_X1_driest [rf E p0] M (some (.int r)) M := by
  unfold f_X1_driest at h
  refine CM_introX (own := RX1) rfl (by decide +kernel) (Nat.le_of_ble_eq_true rfl) rfl (fun G hG hEn hI => ?_)
  obtain ⟨Q, eQ⟩ : ∃ Q, Q = QM E G (some (.int r)) M 0 0 := ⟨_, rfl⟩
  show V E G M 0 0 3 0 [(0, rf E p0)] [] (QM E G (some (.int r)) M 0 0)
  rw [← eQ]
  refine V_iconst hG (-1) rfl dX1_driest_0 ?_
  refine V_istore_n hG rfl [(1, .int (-1)), (0, rf E p0)] dX1_driest_1 (Nat.le_of_ble_eq_true rfl) rfl ?_
  refine V_iconst hG 0 rfl dX1_driest_2 ?_
  refine V_istore_n hG rfl [(2, .int 0), (1, .int (-1)), (0, rf E p0)] dX1_driest_3 (Nat.le_of_ble_eq_true rfl) rfl ?_
  obtain ⟨x2_8, x1_9, hL_10, h⟩ := bd2_of h
  have J_5 : ∀ q_11 : Int32 × Int32, q_11 = (x2_8, x1_9) → V E G M 0 0 3 46 [(2, .int q_11.1), (1, .int q_11.2), (0, rf E p0)] [] Q := by
    intro q_11 e9
    subst q_11
    show V E G M 0 0 3 46 [(2, .int x2_8), (1, .int x1_9), (0, rf E p0)] [] Q
    refine V_iload_n hG 1 rfl dX1_driest_46 ?_
    cases h
    subst eQ
    exact V_iret hG dX1_driest_47
  refine lp_walk (W := fun s_12 : Int32 × Int32 => V E G M 0 0 3 4 [(2, .int s_12.1), (1, .int s_12.2), (0, rf E p0)] [] Q) ?_ N (0, (-1)) hL_10
  intro s_12 b_1 hb_2 hk_3 hx_4
  obtain ⟨x2_6, x1_7⟩ := s_12
  have hb_2 : f_X1_driest_b1 N p0 M x2_6 x1_7 = some b_1 := hb_2
  unfold f_X1_driest_b1 at hb_2
  show V E G M 0 0 3 4 [(2, .int x2_6), (1, .int x1_7), (0, rf E p0)] [] Q
  refine V_iload_n hG 0 rfl dX1_driest_4 ?_
  refine V_aload_n hG 2 rfl dX1_driest_5 ?_
  obtain ⟨g_13, hb_2⟩ := gd_of hb_2
  obtain ⟨r_15, hc_14, hb_2⟩ := bd_of hb_2
  refine V_callV hE hG (ci := 0) (As := []) (rest := [.int x2_6]) (ok_f_X1_troughs hE hN hc_14) g_13 (by decide) rfl hw_X1_182 hdv_X1_troughs ⟨Nat.le_of_ble_eq_true rfl, Nat.le_of_ble_eq_true rfl⟩ rfl rfl (Nat.le_of_ble_eq_true rfl) ⟨Nat.le_of_ble_eq_true rfl, Nat.le_of_ble_eq_true rfl⟩ dX1_driest_6 (V_zero rfl rfl ?_)
  refine V_icmp_ge hG 46 dX1_driest_9 (by decide) (fun c_16 => ?_) (fun c_16 => ?_)
  · have hb_2 := if_t c_16 hb_2
    cases hb_2
    exact J_5 _ (hx_4 _ rfl)
  · have hb_2 := if_f c_16 hb_2
    refine V_iload_n hG 1 rfl dX1_driest_12 ?_
    refine V_iconst hG (-1) rfl dX1_driest_13 ?_
    obtain ⟨x1_17, hj_19, hb_2⟩ := bd_of hb_2
    have J_18 : V E G M 0 0 3 40 [(1, .int x1_17), (2, .int x2_6), (0, rf E p0)] [] Q := by
      obtain ⟨x2_20, ex2_20, hb_2⟩ := be_of hb_2
      refine V_iinc hG 1 x2_20 rfl (by rw [ex2_20]; rfl) [(2, .int x2_20), (1, .int x1_17), (0, rf E p0)] dX1_driest_40 (Nat.le_of_ble_eq_true rfl) rfl ?_
      refine V_goto hG 4 dX1_driest_43 (by decide) ?_
      cases hb_2
      exact hk_3 _ rfl
    refine V_icmp_eq hG 38 dX1_driest_14 (by decide) (fun c_21 => ?_) (fun c_21 => ?_)
    · have hj_19 := if_t c_21 hj_19
      refine V_iload_n hG 0 rfl dX1_driest_38 ?_
      refine V_istore_n hG rfl [(1, .int x2_6), (2, .int x2_6), (0, rf E p0)] dX1_driest_39 (Nat.le_of_ble_eq_true rfl) rfl ?_
      cases hj_19
      exact J_18
    · have hj_19 := if_f c_21 hj_19
      refine V_aload_n hG 2 rfl dX1_driest_17 ?_
      obtain ⟨a_22, hr_23, hj_19⟩ := bd_of hj_19
      refine gf_X1_101 hN hG g_13 hr_23 dX1_driest_18 ?_
      obtain ⟨g_24, hj_19⟩ := gd_of hj_19
      obtain ⟨a_25, hr_26, hj_19⟩ := bd_of hj_19
      refine gf_X1_236 hN hG g_24 hr_26 dX1_driest_21 ?_
      refine V_iload_n hG 0 rfl dX1_driest_24 ?_
      obtain ⟨g_27, hj_19⟩ := gd_of hj_19
      obtain ⟨g_28, hj_19⟩ := gd_of hj_19
      refine V_iaload hG g_27 g_28 dX1_driest_25 ?_
      refine V_aload_n hG 2 rfl dX1_driest_26 ?_
      obtain ⟨a_29, hr_30, hj_19⟩ := bd_of hj_19
      refine gf_X1_101 hN hG g_13 hr_30 dX1_driest_27 ?_
      obtain ⟨g_31, hj_19⟩ := gd_of hj_19
      obtain ⟨a_32, hr_33, hj_19⟩ := bd_of hj_19
      refine gf_X1_236 hN hG g_31 hr_33 dX1_driest_30 ?_
      refine V_iload_n hG 1 rfl dX1_driest_33 ?_
      obtain ⟨g_34, hj_19⟩ := gd_of hj_19
      obtain ⟨g_35, hj_19⟩ := gd_of hj_19
      refine V_iaload hG g_34 g_35 dX1_driest_34 ?_
      refine V_icmp_ge hG 40 dX1_driest_35 (by decide) (fun c_36 => ?_) (fun c_36 => ?_)
      · have hj_19 := if_t c_36 hj_19
        cases hj_19
        exact V_lv [1, 0, 2] rfl (J_18)
      · have hj_19 := if_f c_36 hj_19
        refine V_iload_n hG 0 rfl dX1_driest_38 ?_
        refine V_istore_n hG rfl [(1, .int x2_6), (2, .int x2_6), (0, rf E p0)] dX1_driest_39 (Nat.le_of_ble_eq_true rfl) rfl ?_
        cases hj_19
        exact J_18
