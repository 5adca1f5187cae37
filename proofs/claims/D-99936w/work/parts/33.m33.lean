set_option maxRecDepth 100000
set_option maxHeartbeats 4000000
def f_X1_isRest (p0 : Nat) (p1 : Int32) (p2 : Int32) (p3 : Int32) (p4 : Int32) (M : Mem) : Option (Int32) :=
gd (mT M p0 = 0) (
bd (f_X1_has p0 p1 p2 (1 - p3) p4 M) fun (r_3 : Int32) =>
bd (f_X1_has p0 p1 p2 p3 p4 M) fun (r_5 : Int32) =>
bd (if r_5 < r_3 then (
some 0)
else (
bd (f_X1_has p0 p2 p1 (1 - p4) p3 M) fun (r_12 : Int32) =>
bd (f_X1_has p0 p2 p1 p4 p3 M) fun (r_14 : Int32) =>
if r_14 < r_12 then (
some 0)
else (
some 1)) : Option (Int32)) fun (t_6 : Int32) =>
gd (t_6 = 0 ∨ t_6 = 1) (
some t_6))
def rm_f_X1_isRest : Room := { frames := 5, cells := 0, slots := 0, locals := 109 }
theorem ok_f_X1_isRest {E : En} (hE : EOk E) (hN : NOk E) {p0 : Nat} {p1 : Int32} {p2 : Int32} {p3 : Int32} {p4 : Int32} {M : Mem} {r : Int32} (h : f_X1_isRest p0 p1 p2 p3 p4 M = some r) : CM E yX1_isRest cX1_isRest 5 (some .boolean) rm_f_X1_isRest [rf E p0, .int p1, .int p2, .int p3, .int p4] M (some (.int r)) M := by
  unfold f_X1_isRest at h
  refine CM_introX (own := RX1) rfl (by decide +kernel) (Nat.le_of_ble_eq_true rfl) rfl (fun G hG hEn hI => ?_)
  obtain ⟨Q, eQ⟩ : ∃ Q, Q = QM E G (some (.int r)) M 0 0 := ⟨_, rfl⟩
  show V E G M 0 0 5 0 [(0, rf E p0), (1, .int p1), (2, .int p2), (3, .int p3), (4, .int p4)] [] (QM E G (some (.int r)) M 0 0)
  rw [← eQ]
  refine V_aload_n hG 0 rfl dX1_isRest_0 ?_
  refine V_iload_n hG 1 rfl dX1_isRest_1 ?_
  refine V_iload_n hG 2 rfl dX1_isRest_2 ?_
  refine V_iconst hG 1 rfl dX1_isRest_3 ?_
  refine V_iload_n hG 3 rfl dX1_isRest_4 ?_
  refine V_isub hG dX1_isRest_5 ?_
  refine V_iload hG 4 rfl dX1_isRest_6 ?_
  obtain ⟨g_1, h⟩ := gd_of h
  obtain ⟨r_3, hc_2, h⟩ := bd_of h
  refine V_callV hE hG (ci := 0) (As := [.int p1, .int p2, .int (1 - p3), .int p4]) (rest := []) (ok_f_X1_has hE hN hc_2) g_1 (by decide) rfl hw_X1_335 hdv_X1_has ⟨Nat.le_of_ble_eq_true rfl, Nat.le_of_ble_eq_true rfl⟩ rfl rfl (Nat.le_of_ble_eq_true rfl) ⟨Nat.le_of_ble_eq_true rfl, Nat.le_of_ble_eq_true rfl⟩ dX1_isRest_8 (V_zero rfl rfl ?_)
  refine V_aload_n hG 0 rfl dX1_isRest_11 ?_
  refine V_iload_n hG 1 rfl dX1_isRest_12 ?_
  refine V_iload_n hG 2 rfl dX1_isRest_13 ?_
  refine V_iload_n hG 3 rfl dX1_isRest_14 ?_
  refine V_iload hG 4 rfl dX1_isRest_15 ?_
  obtain ⟨r_5, hc_4, h⟩ := bd_of h
  refine V_callV hE hG (ci := 0) (As := [.int p1, .int p2, .int p3, .int p4]) (rest := [.int r_3]) (ok_f_X1_has hE hN hc_4) g_1 (by decide) rfl hw_X1_335 hdv_X1_has ⟨Nat.le_of_ble_eq_true rfl, Nat.le_of_ble_eq_true rfl⟩ rfl rfl (Nat.le_of_ble_eq_true rfl) ⟨Nat.le_of_ble_eq_true rfl, Nat.le_of_ble_eq_true rfl⟩ dX1_isRest_17 (V_zero rfl rfl ?_)
  obtain ⟨t_6, hj_8, h⟩ := bd_of h
  have J_7 : V E G M 0 0 5 51 [(0, rf E p0), (1, .int p1), (2, .int p2), (3, .int p3), (4, .int p4)] [.int t_6] Q := by
    obtain ⟨g_9, h⟩ := gd_of h
    cases h
    subst eQ
    exact V_zret hG g_9 dX1_isRest_51
  refine V_icmp_gt hG 50 dX1_isRest_20 (by decide) (fun c_10 => ?_) (fun c_10 => ?_)
  · have hj_8 := if_t c_10 hj_8
    refine V_iconst hG 0 rfl dX1_isRest_50 ?_
    cases hj_8
    exact J_7
  · have hj_8 := if_f c_10 hj_8
    refine V_aload_n hG 0 rfl dX1_isRest_23 ?_
    refine V_iload_n hG 2 rfl dX1_isRest_24 ?_
    refine V_iload_n hG 1 rfl dX1_isRest_25 ?_
    refine V_iconst hG 1 rfl dX1_isRest_26 ?_
    refine V_iload hG 4 rfl dX1_isRest_27 ?_
    refine V_isub hG dX1_isRest_29 ?_
    refine V_iload_n hG 3 rfl dX1_isRest_30 ?_
    obtain ⟨r_12, hc_11, hj_8⟩ := bd_of hj_8
    refine V_callV hE hG (ci := 0) (As := [.int p2, .int p1, .int (1 - p4), .int p3]) (rest := []) (ok_f_X1_has hE hN hc_11) g_1 (by decide) rfl hw_X1_335 hdv_X1_has ⟨Nat.le_of_ble_eq_true rfl, Nat.le_of_ble_eq_true rfl⟩ rfl rfl (Nat.le_of_ble_eq_true rfl) ⟨Nat.le_of_ble_eq_true rfl, Nat.le_of_ble_eq_true rfl⟩ dX1_isRest_31 (V_zero rfl rfl ?_)
    refine V_aload_n hG 0 rfl dX1_isRest_34 ?_
    refine V_iload_n hG 2 rfl dX1_isRest_35 ?_
    refine V_iload_n hG 1 rfl dX1_isRest_36 ?_
    refine V_iload hG 4 rfl dX1_isRest_37 ?_
    refine V_iload_n hG 3 rfl dX1_isRest_39 ?_
    obtain ⟨r_14, hc_13, hj_8⟩ := bd_of hj_8
    refine V_callV hE hG (ci := 0) (As := [.int p2, .int p1, .int p4, .int p3]) (rest := [.int r_12]) (ok_f_X1_has hE hN hc_13) g_1 (by decide) rfl hw_X1_335 hdv_X1_has ⟨Nat.le_of_ble_eq_true rfl, Nat.le_of_ble_eq_true rfl⟩ rfl rfl (Nat.le_of_ble_eq_true rfl) ⟨Nat.le_of_ble_eq_true rfl, Nat.le_of_ble_eq_true rfl⟩ dX1_isRest_40 (V_zero rfl rfl ?_)
    refine V_icmp_gt hG 50 dX1_isRest_43 (by decide) (fun c_15 => ?_) (fun c_15 => ?_)
    · have hj_8 := if_t c_15 hj_8
      refine V_iconst hG 0 rfl dX1_isRest_50 ?_
      cases hj_8
      exact J_7
    · have hj_8 := if_f c_15 hj_8
      refine V_iconst hG 1 rfl dX1_isRest_46 ?_
      refine V_goto hG 51 dX1_isRest_47 (by decide) ?_
      cases hj_8
      exact J_7

def f_X20_isSo (p0 : Nat) (p1 : Nat) (M : Mem) : Option (Int32) :=
gd (mT M p1 = 5) (
bd (mR M p1 5) fun (a_2 : Nat) =>
gd (mT M p0 = 14) (
gd (mT M a_2 = 100) (
gd (inb (mI M p0 1) (mLn M a_2)) (
be (if mI M a_2 (Int32.toNatClampNeg (mI M p0 1)) < mI M p0 2 then (
0)
else (
1) : Int32) fun (y_10 : Int32) =>
gd (mT M p0 = 14) (
be (if y_10 = mI M p0 3 then (
1)
else (
0) : Int32) fun (y_15 : Int32) =>
gd (y_15 = 0 ∨ y_15 = 1) (
some y_15))))))
def rm_f_X20_isSo : Room := { frames := 0, cells := 0, slots := 0, locals := 0 }
theorem ok_f_X20_isSo {E : En} (hE : EOk E) (hN : NOk E) {p0 : Nat} {p1 : Nat} {M : Mem} {r : Int32} (h : f_X20_isSo p0 p1 M = some r) : CM E yX20_isSo cX20_isSo 2 (some .boolean) rm_f_X20_isSo [rf E p0, rf E p1] M (some (.int r)) M := by
  unfold f_X20_isSo at h
  refine CM_introX (own := RX20) rfl (by decide +kernel) (Nat.le_of_ble_eq_true rfl) rfl (fun G hG hEn hI => ?_)
  obtain ⟨Q, eQ⟩ : ∃ Q, Q = QM E G (some (.int r)) M 0 0 := ⟨_, rfl⟩
  show V E G M 0 0 2 0 [(0, rf E p0), (1, rf E p1)] [] (QM E G (some (.int r)) M 0 0)
  rw [← eQ]
  refine V_aload_n hG 1 rfl dX20_isSo_0 ?_
  obtain ⟨g_1, h⟩ := gd_of h
  obtain ⟨a_2, hr_3, h⟩ := bd_of h
  refine gf_X20_23 hN hG g_1 hr_3 dX20_isSo_1 ?_
  refine V_aload_n hG 0 rfl dX20_isSo_4 ?_
  obtain ⟨g_4, h⟩ := gd_of h
  refine gf_X20_13 hN hG g_4 dX20_isSo_5 ?_
  obtain ⟨g_5, h⟩ := gd_of h
  obtain ⟨g_6, h⟩ := gd_of h
  refine V_iaload hG g_5 g_6 dX20_isSo_8 ?_
  refine V_aload_n hG 0 rfl dX20_isSo_9 ?_
  refine gf_X20_16 hN hG g_4 dX20_isSo_10 ?_
  obtain ⟨t_7, et_7, h⟩ := be_of h
  have J_8 : ∀ y_10 : Int32, y_10 = t_7 → V E G M 0 0 2 21 [(0, rf E p0), (1, rf E p1)] [.int y_10] Q := by
    intro y_10 ey
    subst ey
    refine V_aload_n hG 0 rfl dX20_isSo_21 ?_
    obtain ⟨g_11, h⟩ := gd_of h
    refine gf_X20_19 hN hG g_11 dX20_isSo_22 ?_
    obtain ⟨t_12, et_12, h⟩ := be_of h
    have J_13 : ∀ y_15 : Int32, y_15 = t_12 → V E G M 0 0 2 33 [(0, rf E p0), (1, rf E p1)] [.int y_15] Q := by
      intro y_15 ey
      subst ey
      obtain ⟨g_16, h⟩ := gd_of h
      cases h
      subst eQ
      exact V_zret hG g_16 dX20_isSo_33
    refine V_icmp_ne hG 32 dX20_isSo_25 (by decide) (fun c_14 => ?_) (fun c_14 => ?_)
    · refine V_iconst hG 0 rfl dX20_isSo_32 ?_
      exact J_13 _ (by rw [et_12, if_neg c_14])
    · refine V_iconst hG 1 rfl dX20_isSo_28 ?_
      refine V_goto hG 33 dX20_isSo_29 (by decide) ?_
      exact J_13 _ (by rw [et_12, if_pos c_14])
  refine V_icmp_lt hG 20 dX20_isSo_13 (by decide) (fun c_9 => ?_) (fun c_9 => ?_)
  · refine V_iconst hG 0 rfl dX20_isSo_20 ?_
    exact J_8 _ (by rw [et_7, if_pos c_9])
  · refine V_iconst hG 1 rfl dX20_isSo_16 ?_
    refine V_goto hG 21 dX20_isSo_17 (by decide) ?_
    exact J_8 _ (by rw [et_7, if_neg c_9])

def f_X20_hours (p0 : Nat) (M : Mem) : Option (Int32) :=
gd (mT M p0 = 14) (
some (mI M p0 0))
def rm_f_X20_hours : Room := { frames := 0, cells := 0, slots := 0, locals := 0 }
theorem ok_f_X20_hours {E : En} (hE : EOk E) (hN : NOk E) {p0 : Nat} {M : Mem} {r : Int32} (h : f_X20_hours p0 M = some r) : CM E yX20_hours cX20_hours 1 (some .int) rm_f_X20_hours [rf E p0] M (some (.int r)) M := by
  unfold f_X20_hours at h
  refine CM_introX (own := RX20) rfl (by decide +kernel) (Nat.le_of_ble_eq_true rfl) rfl (fun G hG hEn hI => ?_)
  obtain ⟨Q, eQ⟩ : ∃ Q, Q = QM E G (some (.int r)) M 0 0 := ⟨_, rfl⟩
  show V E G M 0 0 1 0 [(0, rf E p0)] [] (QM E G (some (.int r)) M 0 0)
  rw [← eQ]
  refine V_aload_n hG 0 rfl dX20_hours_0 ?_
  obtain ⟨g_1, h⟩ := gd_of h
  refine gf_X20_7 hN hG g_1 dX20_hours_1 ?_
  cases h
  subst eQ
  exact V_iret hG dX20_hours_4

def f_X1_keep (N : Nat) (p0 : Nat) (M : Mem) : Option (Int32 × Mem) :=
gd (mT M p0 = 0) (
bd (mR M p0 11) fun (a_2 : Nat) =>
bd (mR M p0 9) fun (a_4 : Nat) =>
gd (mT M a_2 = 5) (
bd (f_X6_become N a_2 a_4 M) fun (M_8 : Mem) =>
gd (mT M_8 p0 = 0) (
be (sI M_8 p0 13 1) fun (M_10 : Mem) =>
bd (mR M_10 p0 9) fun (a_12 : Nat) =>
gd (mT M_10 a_12 = 5) (
some (mI M_10 a_12 6, M_10)))))
def rm_f_X1_keep : Room := { frames := 1, cells := 0, slots := 0, locals := 22 }
theorem ok_f_X1_keep {E : En} (hE : EOk E) (hN : NOk E) {N : Nat} {p0 : Nat} {M : Mem} {r : Int32} {M' : Mem} (h : f_X1_keep N p0 M = some (r, M')) : CM E yX1_keep cX1_keep 1 (some .int) rm_f_X1_keep [rf E p0] M (some (.int r)) M' := by
  unfold f_X1_keep at h
  refine CM_introX (own := RX1) rfl (by decide +kernel) (Nat.le_of_ble_eq_true rfl) rfl (fun G hG hEn hI => ?_)
  obtain ⟨Q, eQ⟩ : ∃ Q, Q = QM E G (some (.int r)) M' 0 0 := ⟨_, rfl⟩
  show V E G M 0 0 1 0 [(0, rf E p0)] [] (QM E G (some (.int r)) M' 0 0)
  rw [← eQ]
  refine V_aload_n hG 0 rfl dX1_keep_0 ?_
  obtain ⟨g_1, h⟩ := gd_of h
  obtain ⟨a_2, hr_3, h⟩ := bd_of h
  refine gf_X1_108 hN hG g_1 hr_3 dX1_keep_1 ?_
  refine V_aload_n hG 0 rfl dX1_keep_4 ?_
  obtain ⟨a_4, hr_5, h⟩ := bd_of h
  refine gf_X1_101 hN hG g_1 hr_5 dX1_keep_5 ?_
  obtain ⟨g_6, h⟩ := gd_of h
  obtain ⟨M_8, hc_7, h⟩ := bd_of h
  refine V_callV hE hG (ci := 5) (As := [rf E a_4]) (rest := []) (ok_f_X6_become hE hN hc_7) g_6 (by decide) rfl hw_X1_254 hdv_X6_become ⟨Nat.le_of_ble_eq_true rfl, Nat.le_of_ble_eq_true rfl⟩ rfl rfl (Nat.le_of_ble_eq_true rfl) ⟨Nat.le_of_ble_eq_true rfl, Nat.le_of_ble_eq_true rfl⟩ dX1_keep_8 (V_zero rfl rfl ?_)
  refine V_aload_n hG 0 rfl dX1_keep_11 ?_
  refine V_iconst hG 1 rfl dX1_keep_12 ?_
  obtain ⟨g_9, h⟩ := gd_of h
  obtain ⟨M_10, eM_10, h⟩ := be_of h
  refine pf_X1_166 hN hG g_9 (Or.inr rfl) eM_10 dX1_keep_13 ?_
  have g_11 : mT M_10 p0 = 0 := by rw [eM_10]; exact g_9
  refine V_aload_n hG 0 rfl dX1_keep_16 ?_
  obtain ⟨a_12, hr_13, h⟩ := bd_of h
  refine gf_X1_101 hN hG g_11 hr_13 dX1_keep_17 ?_
  obtain ⟨g_14, h⟩ := gd_of h
  refine gf_X1_274 hN hG g_14 dX1_keep_20 ?_
  cases h
  subst eQ
  exact V_iret hG dX1_keep_23

def f_X1_known (p0 : Nat) (p1 : Int32) (M : Mem) : Option (Int32 × Mem) :=
gd (mT M p0 = 0) (
bd (mR M p0 16) fun (a_2 : Nat) =>
gd (mT M a_2 = 3) (
bd (f_J2_size a_2 M) fun (r_6 : Int32) =>
bd (f_X1_in (Int32.toInt64 p1) (-1) (Int32.toInt64 r_6) M) fun (r_8 : Int32) =>
if r_8 = 0 then (
some (0, M))
else (
be (sI M p0 18 p1) fun (M_10 : Mem) =>
some (1, M_10))))
def rm_f_X1_known : Room := { frames := 1, cells := 0, slots := 0, locals := 25 }
theorem ok_f_X1_known {E : En} (hE : EOk E) (hN : NOk E) {p0 : Nat} {p1 : Int32} {M : Mem} {r : Int32} {M' : Mem} (h : f_X1_known p0 p1 M = some (r, M')) : CM E yX1_known cX1_known 2 (some .boolean) rm_f_X1_known [rf E p0, .int p1] M (some (.int r)) M' := by
  unfold f_X1_known at h
  refine CM_introX (own := RX1) rfl (by decide +kernel) (Nat.le_of_ble_eq_true rfl) rfl (fun G hG hEn hI => ?_)
  obtain ⟨Q, eQ⟩ : ∃ Q, Q = QM E G (some (.int r)) M' 0 0 := ⟨_, rfl⟩
  show V E G M 0 0 2 0 [(0, rf E p0), (1, .int p1)] [] (QM E G (some (.int r)) M' 0 0)
  rw [← eQ]
  refine V_iload_n hG 1 rfl dX1_known_0 ?_
  refine V_i2l hG dX1_known_1 ?_
  refine V_ldc2 hG q1315 dX1_known_2 ?_
  refine V_aload_n hG 0 rfl dX1_known_5 ?_
  obtain ⟨g_1, h⟩ := gd_of h
  obtain ⟨a_2, hr_3, h⟩ := bd_of h
  refine gf_X1_125 hN hG g_1 hr_3 dX1_known_6 ?_
  obtain ⟨g_4, h⟩ := gd_of h
  obtain ⟨r_6, hc_5, h⟩ := bd_of h
  refine V_callV hE hG (ci := 3) (As := []) (rest := [.long (-1), .long (Int32.toInt64 p1)]) (ok_f_J2_size hE hN hc_5) g_4 (by decide) rfl hw_X1_23 hdv_J2_size ⟨Nat.le_of_ble_eq_true rfl, Nat.le_of_ble_eq_true rfl⟩ rfl rfl (Nat.le_of_ble_eq_true rfl) ⟨Nat.le_of_ble_eq_true rfl, Nat.le_of_ble_eq_true rfl⟩ dX1_known_9 (V_zero rfl rfl ?_)
  refine V_i2l hG dX1_known_12 ?_
  obtain ⟨r_8, hc_7, h⟩ := bd_of h
  refine V_callS hE hG (As := [.long (Int32.toInt64 p1), .long (-1), .long (Int32.toInt64 r_6)]) (rest := []) (ok_f_X1_in hE hN hc_7) hw_X1_144 hdc_X1_in ⟨Nat.le_of_ble_eq_true rfl, Nat.le_of_ble_eq_true rfl⟩ rfl rfl (Nat.le_of_ble_eq_true rfl) ⟨Nat.le_of_ble_eq_true rfl, Nat.le_of_ble_eq_true rfl⟩ dX1_known_13 (V_zero rfl rfl ?_)
  refine V_if_ne hG 21 dX1_known_16 (by decide) (fun c_9 => ?_) (fun c_9 => ?_)
  · have h := if_f c_9 h
    refine V_aload_n hG 0 rfl dX1_known_21 ?_
    refine V_iload_n hG 1 rfl dX1_known_22 ?_
    obtain ⟨M_10, eM_10, h⟩ := be_of h
    refine pf_X1_132 hN hG g_1 eM_10 dX1_known_23 ?_
    have g_11 : mT M_10 p0 = 0 := by rw [eM_10]; exact g_1
    have g_12 : mT M_10 a_2 = 3 := by rw [eM_10]; exact g_4
    refine V_iconst hG 1 rfl dX1_known_26 ?_
    cases h
    subst eQ
    exact V_zret hG (Or.inr rfl) dX1_known_27
  · have h := if_t c_9 h
    refine V_iconst hG 0 rfl dX1_known_19 ?_
    cases h
    subst eQ
    exact V_zret hG (Or.inl rfl) dX1_known_20

def f_X1_lead (N : Nat) (LC LZ : Nat) (p0 : Nat) (p1 : Int32) (p2 : Int32) (M : Mem) : Option (Int32 × Mem) :=
gd (mT M p0 = 0) (
gd (mN M ≤ LC ∧ mZ M ≤ LZ) (
bd (f_X1_isHorse p0 p1 M) fun (r_4 : Int32) =>
if r_4 = 0 then (
gd (mN M ≤ LC ∧ mZ M ≤ LZ) (
some (0, M)))
else (
bd (mR M p0 6) fun (a_7 : Nat) =>
gd (mT M a_7 = 2) (
gd (mN M ≤ LC ∧ mZ M ≤ LZ) (
bd (f_X1_in (Int32.toInt64 p2) 0 (Int32.toInt64 (mI M a_7 4)) M) fun (r_12 : Int32) =>
if r_12 = 0 then (
gd (mN M ≤ LC ∧ mZ M ≤ LZ) (
some (0, M)))
else (
bd (mR M p0 9) fun (a_15 : Nat) =>
gd (mT M a_15 = 5) (
gd (mN M ≤ LC ∧ mZ M ≤ LZ) (
bd (f_X6_isOn a_15 p1 M) fun (r_20 : Int32) =>
if r_20 = 0 then (
gd (mN M ≤ LC ∧ mZ M ≤ LZ) (
some (0, M)))
else (
bd (mR M p0 9) fun (a_23 : Nat) =>
gd (mT M a_23 = 5) (
bd (mR M a_23 0) fun (a_26 : Nat) =>
gd (mT M a_26 = 100) (
gd (inb p1 (mLn M a_26)) (
be (fun (u_32 : Unit) =>
gd (mT M p0 = 0) (
gd (mN M ≤ LC ∧ mZ M ≤ LZ) (
bd (f_X1_keepNow N LC LZ p0 M) fun (M_36 : Mem) =>
gd (mT M_36 p0 = 0) (
bd (mR M_36 p0 9) fun (a_38 : Nat) =>
gd (mT M_36 a_38 = 5) (
bd (mR M_36 a_38 0) fun (a_41 : Nat) =>
gd (mT M_36 a_41 = 100) (
gd (inb p1 (mLn M_36 a_41)) (
be (sI M_36 a_41 (Int32.toNatClampNeg p1) p2) fun (M_45 : Mem) =>
bd (mR M_45 p0 9) fun (a_49 : Nat) =>
gd (mT M_45 a_49 = 5) (
bd (mR M_45 a_49 2) fun (a_52 : Nat) =>
gd (mT M_45 a_52 = 100) (
gd (inb p1 (mLn M_45 a_52)) (
be (sI M_45 a_52 (Int32.toNatClampNeg p1) (-1)) fun (M_56 : Mem) =>
gd (mN M_56 ≤ LC ∧ mZ M_56 ≤ LZ) (
some (1, M_56)))))))))))) fun (k_30 : Unit → Option (Int32 × Mem)) =>
if mI M a_26 (Int32.toNatClampNeg p1) = p2 then (
bd (mR M p0 9) fun (a_64 : Nat) =>
gd (mT M a_64 = 5) (
bd (mR M a_64 2) fun (a_67 : Nat) =>
gd (mT M a_67 = 100) (
gd (inb p1 (mLn M a_67)) (
if mI M a_67 (Int32.toNatClampNeg p1) = (-1) then (
gd (mN M ≤ LC ∧ mZ M ≤ LZ) (
some (0, M)))
else (
k_30 (()))))))
else (
k_30 (()))))))))))))))
def rm_f_X1_lead (LC LZ : Nat) (M : Mem) : Room := { frames := 3, cells := LC - mN M, slots := LZ - mZ M, locals := 83 }
theorem ok_f_X1_lead {E : En} (hE : EOk E) (hN : NOk E) {N : Nat} {LC LZ : Nat} {p0 : Nat} {p1 : Int32} {p2 : Int32} {M : Mem} {r : Int32} {M' : Mem} (h : f_X1_lead N LC LZ p0 p1 p2 M = some (r, M')) : CM E yX1_lead cX1_lead 3 (some .boolean) (rm_f_X1_lead LC LZ M) [rf E p0, .int p1, .int p2] M (some (.int r)) M' := by
  unfold f_X1_lead at h
  refine CM_introX (own := RX1) rfl (by decide +kernel) (Nat.le_of_ble_eq_true rfl) rfl (fun G hG hEn hI => ?_)
  obtain ⟨Q, eQ⟩ : ∃ Q, Q = QM E G (some (.int r)) M' (LC - mN M) (LZ - mZ M) := ⟨_, rfl⟩
  show V E G M 0 0 3 0 [(0, rf E p0), (1, .int p1), (2, .int p2)] [] (QM E G (some (.int r)) M' (LC - mN M) (LZ - mZ M))
  rw [← eQ]
  refine V_aload_n hG 0 rfl dX1_lead_0 ?_
  refine V_iload_n hG 1 rfl dX1_lead_1 ?_
  obtain ⟨g_1, h⟩ := gd_of h
  obtain ⟨g_2, h⟩ := gd_of h
  refine V_narrow hEn (fun n1 n2 n3 => ?_)
  obtain ⟨r_4, hc_3, h⟩ := bd_of h
  refine V_callV hE hG (ci := 0) (As := [.int p1]) (rest := []) (ok_f_X1_isHorse hE hN hc_3) g_1 (by decide) rfl hw_X1_186 hdv_X1_isHorse ⟨Nat.le_of_ble_eq_true rfl, Nat.le_of_ble_eq_true rfl⟩ rfl rfl (Nat.le_of_ble_eq_true rfl) ⟨by show _ + 0 ≤ LC - mN M; omega, by show _ + 0 ≤ LZ - mZ M; omega⟩ dX1_lead_2 ?_
  refine V_if_eq hG 62 dX1_lead_5 (by decide) (fun c_5 => ?_) (fun c_5 => ?_)
  · have h := if_t c_5 h
    refine V_iconst hG 0 rfl dX1_lead_62 ?_
    obtain ⟨g_6, h⟩ := gd_of h
    refine V_narrow hEn (fun n1 n2 n3 => V_widen (k := LC - mN M) (n := LZ - mZ M) (by omega) (by omega) ?_)
    cases h
    subst eQ
    exact V_zret hG (Or.inl rfl) dX1_lead_63
  · have h := if_f c_5 h
    refine V_iload_n hG 2 rfl dX1_lead_8 ?_
    refine V_i2l hG dX1_lead_9 ?_
    refine V_lconst hG 0 rfl dX1_lead_10 ?_
    refine V_aload_n hG 0 rfl dX1_lead_11 ?_
    obtain ⟨a_7, hr_8, h⟩ := bd_of h
    refine gf_X1_13 hN hG g_1 hr_8 dX1_lead_12 ?_
    obtain ⟨g_9, h⟩ := gd_of h
    refine gf_X1_269 hN hG g_9 dX1_lead_15 ?_
    refine V_i2l hG dX1_lead_18 ?_
    obtain ⟨g_10, h⟩ := gd_of h
    refine V_narrow hEn (fun n1 n2 n3 => ?_)
    obtain ⟨r_12, hc_11, h⟩ := bd_of h
    refine V_callS hE hG (As := [.long (Int32.toInt64 p2), .long 0, .long (Int32.toInt64 (mI M a_7 4))]) (rest := []) (ok_f_X1_in hE hN hc_11) hw_X1_144 hdc_X1_in ⟨Nat.le_of_ble_eq_true rfl, Nat.le_of_ble_eq_true rfl⟩ rfl rfl (Nat.le_of_ble_eq_true rfl) ⟨by show _ + 0 ≤ LC - mN M; omega, by show _ + 0 ≤ LZ - mZ M; omega⟩ dX1_lead_19 ?_
    refine V_if_eq hG 62 dX1_lead_22 (by decide) (fun c_13 => ?_) (fun c_13 => ?_)
    · have h := if_t c_13 h
      refine V_iconst hG 0 rfl dX1_lead_62 ?_
      obtain ⟨g_14, h⟩ := gd_of h
      refine V_narrow hEn (fun n1 n2 n3 => V_widen (k := LC - mN M) (n := LZ - mZ M) (by omega) (by omega) ?_)
      cases h
      subst eQ
      exact V_zret hG (Or.inl rfl) dX1_lead_63
    · have h := if_f c_13 h
      refine V_aload_n hG 0 rfl dX1_lead_25 ?_
      obtain ⟨a_15, hr_16, h⟩ := bd_of h
      refine gf_X1_101 hN hG g_1 hr_16 dX1_lead_26 ?_
      refine V_iload_n hG 1 rfl dX1_lead_29 ?_
      obtain ⟨g_17, h⟩ := gd_of h
      obtain ⟨g_18, h⟩ := gd_of h
      refine V_narrow hEn (fun n1 n2 n3 => ?_)
      obtain ⟨r_20, hc_19, h⟩ := bd_of h
      refine V_callV hE hG (ci := 5) (As := [.int p1]) (rest := []) (ok_f_X6_isOn hE hN hc_19) g_17 (by decide) rfl hw_X1_219 hdv_X6_isOn ⟨Nat.le_of_ble_eq_true rfl, Nat.le_of_ble_eq_true rfl⟩ rfl rfl (Nat.le_of_ble_eq_true rfl) ⟨by show _ + 0 ≤ LC - mN M; omega, by show _ + 0 ≤ LZ - mZ M; omega⟩ dX1_lead_30 ?_
      refine V_if_eq hG 62 dX1_lead_33 (by decide) (fun c_21 => ?_) (fun c_21 => ?_)
      · have h := if_t c_21 h
        refine V_iconst hG 0 rfl dX1_lead_62 ?_
        obtain ⟨g_22, h⟩ := gd_of h
        refine V_narrow hEn (fun n1 n2 n3 => V_widen (k := LC - mN M) (n := LZ - mZ M) (by omega) (by omega) ?_)
        cases h
        subst eQ
        exact V_zret hG (Or.inl rfl) dX1_lead_63
      · have h := if_f c_21 h
        refine V_aload_n hG 0 rfl dX1_lead_36 ?_
        obtain ⟨a_23, hr_24, h⟩ := bd_of h
        refine gf_X1_101 hN hG g_1 hr_24 dX1_lead_37 ?_
        obtain ⟨g_25, h⟩ := gd_of h
        obtain ⟨a_26, hr_27, h⟩ := bd_of h
        refine gf_X1_200 hN hG g_25 hr_27 dX1_lead_40 ?_
        refine V_iload_n hG 1 rfl dX1_lead_43 ?_
        obtain ⟨g_28, h⟩ := gd_of h
        obtain ⟨g_29, h⟩ := gd_of h
        refine V_iaload hG g_28 g_29 dX1_lead_44 ?_
        refine V_iload_n hG 2 rfl dX1_lead_45 ?_
        obtain ⟨k_30, ek_30, h⟩ := bek1_of h
        have J_31 : ∀ (u_32 : Unit), k_30 u_32 = some (r, M') → V E G M (mN M - mN M) (mZ M - mZ M) 3 64 [(0, rf E p0), (1, .int p1), (2, .int p2)] [] Q := by
          intro u_32 h
          have h := ek_30 _ _ h
          refine V_aload_n hG 0 rfl dX1_lead_64 ?_
          obtain ⟨g_33, h⟩ := gd_of h
          obtain ⟨g_34, h⟩ := gd_of h
          refine V_narrow hEn (fun n1 n2 n3 => ?_)
          obtain ⟨M_36, hc_35, h⟩ := bd_of h
          refine V_callV hE hG (ci := 0) (As := []) (rest := []) (ok_f_X1_keepNow hE hN hc_35) g_33 (by decide) rfl hw_X1_258 hdv_X1_keepNow ⟨Nat.le_of_ble_eq_true rfl, Nat.le_of_ble_eq_true rfl⟩ rfl rfl (Nat.le_of_ble_eq_true rfl) ⟨by show _ + (LC - mN M) ≤ LC - mN M; omega, by show _ + (LZ - mZ M) ≤ LZ - mZ M; omega⟩ dX1_lead_65 ?_
          refine V_aload_n hG 0 rfl dX1_lead_68 ?_
          obtain ⟨g_37, h⟩ := gd_of h
          obtain ⟨a_38, hr_39, h⟩ := bd_of h
          refine gf_X1_101 hN hG g_37 hr_39 dX1_lead_69 ?_
          obtain ⟨g_40, h⟩ := gd_of h
          obtain ⟨a_41, hr_42, h⟩ := bd_of h
          refine gf_X1_200 hN hG g_40 hr_42 dX1_lead_72 ?_
          refine V_iload_n hG 1 rfl dX1_lead_75 ?_
          refine V_iload_n hG 2 rfl dX1_lead_76 ?_
          obtain ⟨g_43, h⟩ := gd_of h
          obtain ⟨g_44, h⟩ := gd_of h
          obtain ⟨M_45, eM_45, h⟩ := be_of h
          refine W_iastore hG g_43 g_44 M_45 eM_45 dX1_lead_77 ?_
          have g_46 : mT M_45 p0 = 0 := by rw [eM_45]; exact g_37
          have g_47 : mT M_45 a_38 = 5 := by rw [eM_45]; exact g_40
          have g_48 : mT M_45 a_41 = 100 := by rw [eM_45]; exact g_43
          refine V_aload_n hG 0 rfl dX1_lead_78 ?_
          obtain ⟨a_49, hr_50, h⟩ := bd_of h
          refine gf_X1_101 hN hG g_46 hr_50 dX1_lead_79 ?_
          obtain ⟨g_51, h⟩ := gd_of h
          obtain ⟨a_52, hr_53, h⟩ := bd_of h
          refine gf_X1_209 hN hG g_51 hr_53 dX1_lead_82 ?_
          refine V_iload_n hG 1 rfl dX1_lead_85 ?_
          refine V_iconst hG (-1) rfl dX1_lead_86 ?_
          obtain ⟨g_54, h⟩ := gd_of h
          obtain ⟨g_55, h⟩ := gd_of h
          obtain ⟨M_56, eM_56, h⟩ := be_of h
          refine W_iastore hG g_54 g_55 M_56 eM_56 dX1_lead_87 ?_
          have g_57 : mT M_56 p0 = 0 := by rw [eM_56]; exact g_46
          have g_58 : mT M_56 a_38 = 5 := by rw [eM_56]; exact g_47
          have g_59 : mT M_56 a_41 = 100 := by rw [eM_56]; exact g_48
          have g_60 : mT M_56 a_49 = 5 := by rw [eM_56]; exact g_51
          have g_61 : mT M_56 a_52 = 100 := by rw [eM_56]; exact g_54
          refine V_iconst hG 1 rfl dX1_lead_88 ?_
          obtain ⟨g_62, h⟩ := gd_of h
          refine V_narrow hEn (fun n1 n2 n3 => V_widen (k := LC - mN M) (n := LZ - mZ M) (by omega) (by omega) ?_)
          cases h
          subst eQ
          exact V_zret hG (Or.inr rfl) dX1_lead_89
        refine V_icmp_ne hG 64 dX1_lead_46 (by decide) (fun c_63 => ?_) (fun c_63 => ?_)
        · have h := if_f c_63 h
          exact V_narrow hEn (fun _ _ _ => J_31 (()) h)
        · have h := if_t c_63 h
          refine V_aload_n hG 0 rfl dX1_lead_49 ?_
          obtain ⟨a_64, hr_65, h⟩ := bd_of h
          refine gf_X1_101 hN hG g_1 hr_65 dX1_lead_50 ?_
          obtain ⟨g_66, h⟩ := gd_of h
          obtain ⟨a_67, hr_68, h⟩ := bd_of h
          refine gf_X1_209 hN hG g_66 hr_68 dX1_lead_53 ?_
          refine V_iload_n hG 1 rfl dX1_lead_56 ?_
          obtain ⟨g_69, h⟩ := gd_of h
          obtain ⟨g_70, h⟩ := gd_of h
          refine V_iaload hG g_69 g_70 dX1_lead_57 ?_
          refine V_iconst hG (-1) rfl dX1_lead_58 ?_
          refine V_icmp_ne hG 64 dX1_lead_59 (by decide) (fun c_71 => ?_) (fun c_71 => ?_)
          · have h := if_f c_71 h
            exact V_narrow hEn (fun _ _ _ => J_31 (()) h)
          · have h := if_t c_71 h
            refine V_iconst hG 0 rfl dX1_lead_62 ?_
            obtain ⟨g_72, h⟩ := gd_of h
            refine V_narrow hEn (fun n1 n2 n3 => V_widen (k := LC - mN M) (n := LZ - mZ M) (by omega) (by omega) ?_)
            cases h
            subst eQ
            exact V_zret hG (Or.inl rfl) dX1_lead_63

def f_X1_leg_b1 (N : Nat) (p0 : Nat) (p1 : Int32) (p2 : Int32) (p3 : Int32) (x4_6 : Int32) (S_7 : Mem) : Option ((Int32 × Mem) ⊕ (Int32 × Mem)) :=
gd (mT S_7 p0 = 0) (
bd (f_X1_troughs p0 S_7) fun (r_15 : Int32) =>
if r_15 ≤ x4_6 then (
some (.inl (x4_6, S_7)))
else (
bd (f_X1_trough p0 x4_6 S_7) fun (r_18 : Nat) =>
gd (mT S_7 r_18 = 7) (
bd (f_X1_legHours p0 p1 p2 (mI S_7 r_18 0) S_7) fun (r_21 : Int32) =>
be (p3 + r_21) fun (x5_22 : Int32) =>
bd2 (if x5_22 < 100 then (
bd (mR S_7 p0 9) fun (a_29 : Nat) =>
gd (mT S_7 a_29 = 5) (
bd (mR S_7 a_29 5) fun (a_32 : Nat) =>
gd (mT S_7 a_32 = 100) (
gd (inb x4_6 (mLn S_7 a_32)) (
be (if mI S_7 a_32 (Int32.toNatClampNeg x4_6) ≤ 0 then (
x5_22)
else (
0) : Int32) fun (y_39 : Int32) =>
gd (mT S_7 p0 = 0) (
bd (mR S_7 p0 15) fun (a_41 : Nat) =>
gd (mT S_7 a_41 = 100) (
gd (inb x4_6 (mLn S_7 a_41)) (
if mI S_7 a_41 (Int32.toNatClampNeg x4_6) = (-1) then (
bd (mR S_7 p0 15) fun (a_46 : Nat) =>
gd (mT S_7 a_46 = 100) (
gd (inb x4_6 (mLn S_7 a_46)) (
be (sI S_7 a_46 (Int32.toNatClampNeg x4_6) y_39) fun (M_50 : Mem) =>
some (y_39, M_50))))
else (
bd (mR S_7 p0 15) fun (a_54 : Nat) =>
gd (mT S_7 a_54 = 100) (
gd (inb x4_6 (mLn S_7 a_54)) (
if mI S_7 a_54 (Int32.toNatClampNeg x4_6) ≤ y_39 then (
some (y_39, S_7))
else (
bd (mR S_7 p0 15) fun (a_59 : Nat) =>
gd (mT S_7 a_59 = 100) (
gd (inb x4_6 (mLn S_7 a_59)) (
be (sI S_7 a_59 (Int32.toNatClampNeg x4_6) y_39) fun (M_63 : Mem) =>
some (y_39, M_63))))))))))))))
else (
some (x5_22, S_7)) : Option (Int32 × Mem)) fun (x5_23 : Int32) (M_24 : Mem) =>
be (x4_6 + 1) fun (x4_27 : Int32) =>
some (.inr (x4_27, M_24)))))
def f_X1_leg (N : Nat) (p0 : Nat) (p1 : Int32) (p2 : Int32) (p3 : Int32) (M : Mem) : Option (Mem) :=
bd2 (lp N (fun s_12 : Int32 × Mem => f_X1_leg_b1 N p0 p1 p2 p3 s_12.1 s_12.2) (0, M)) fun (x4_8 : Int32) (S_9 : Mem) =>
some S_9
def rm_f_X1_leg : Room := { frames := 5, cells := 0, slots := 0, locals := 108 }
theorem ok_f_X1_leg {E : En} (hE : EOk E) (hN : NOk E) {N : Nat} {p0 : Nat} {p1 : Int32} {p2 : Int32} {p3 : Int32} {M : Mem}  {M' : Mem} (h : f_X1_leg N p0 p1 p2 p3 M = some M') : CM E yX1_leg cX1_leg 6 none rm_f_X1_leg [rf E p0, .int p1, .int p2, .int p3] M none M' := by
  unfold f_X1_leg at h
  refine CM_introX (own := RX1) rfl (by decide +kernel) (Nat.le_of_ble_eq_true rfl) rfl (fun G hG hEn hI => ?_)
  obtain ⟨Q, eQ⟩ : ∃ Q, Q = QM E G none M' 0 0 := ⟨_, rfl⟩
  show V E G M 0 0 6 0 [(0, rf E p0), (1, .int p1), (2, .int p2), (3, .int p3)] [] (QM E G none M' 0 0)
  rw [← eQ]
  refine V_iconst hG 0 rfl dX1_leg_0 ?_
  refine V_istore hG [(4, .int 0), (0, rf E p0), (1, .int p1), (2, .int p2), (3, .int p3)] dX1_leg_1 (Nat.le_of_ble_eq_true rfl) rfl ?_
  obtain ⟨x4_8, S_9, hL_10, h⟩ := bd2_of h
  have J_5 : ∀ q_11 : Int32 × Mem, q_11 = (x4_8, S_9) → V E G q_11.2 0 0 6 95 [(4, .int q_11.1), (0, rf E p0), (1, .int p1), (2, .int p2), (3, .int p3)] [] Q := by
    intro q_11 e9
    subst q_11
    show V E G S_9 0 0 6 95 [(4, .int x4_8), (0, rf E p0), (1, .int p1), (2, .int p2), (3, .int p3)] [] Q
    cases h
    subst eQ
    exact V_vret hG dX1_leg_95
  refine lp_walk (W := fun s_12 : Int32 × Mem => V E G s_12.2 0 0 6 3 [(4, .int s_12.1), (0, rf E p0), (1, .int p1), (2, .int p2), (3, .int p3)] [] Q) ?_ N (0, M) hL_10
  intro s_12 b_1 hb_2 hk_3 hx_4
  obtain ⟨x4_6, S_7⟩ := s_12
  have hb_2 : f_X1_leg_b1 N p0 p1 p2 p3 x4_6 S_7 = some b_1 := hb_2
  unfold f_X1_leg_b1 at hb_2
  show V E G S_7 0 0 6 3 [(4, .int x4_6), (0, rf E p0), (1, .int p1), (2, .int p2), (3, .int p3)] [] Q
  refine V_iload hG 0 rfl dX1_leg_3 ?_
  refine V_aload_n hG 1 rfl dX1_leg_5 ?_
  obtain ⟨g_13, hb_2⟩ := gd_of hb_2
  obtain ⟨r_15, hc_14, hb_2⟩ := bd_of hb_2
  refine V_callV hE hG (ci := 0) (As := []) (rest := [.int x4_6]) (ok_f_X1_troughs hE hN hc_14) g_13 (by decide) rfl hw_X1_182 hdv_X1_troughs ⟨Nat.le_of_ble_eq_true rfl, Nat.le_of_ble_eq_true rfl⟩ rfl rfl (Nat.le_of_ble_eq_true rfl) ⟨Nat.le_of_ble_eq_true rfl, Nat.le_of_ble_eq_true rfl⟩ dX1_leg_6 (V_zero rfl rfl ?_)
  refine V_icmp_ge hG 95 dX1_leg_9 (by decide) (fun c_16 => ?_) (fun c_16 => ?_)
  · have hb_2 := if_t c_16 hb_2
    cases hb_2
    exact J_5 _ (hx_4 _ rfl)
  · have hb_2 := if_f c_16 hb_2
    refine V_iload_n hG 4 rfl dX1_leg_12 ?_
    refine V_aload_n hG 1 rfl dX1_leg_13 ?_
    refine V_iload_n hG 2 rfl dX1_leg_14 ?_
    refine V_iload_n hG 3 rfl dX1_leg_15 ?_
    refine V_aload_n hG 1 rfl dX1_leg_16 ?_
    refine V_iload hG 0 rfl dX1_leg_17 ?_
    obtain ⟨r_18, hc_17, hb_2⟩ := bd_of hb_2
    refine V_callV hE hG (ci := 0) (As := [.int x4_6]) (rest := [.int p2, .int p1, rf E p0, .int p3]) (ok_f_X1_trough hE hN hc_17) g_13 (by decide) rfl hw_X1_228 hdv_X1_trough ⟨Nat.le_of_ble_eq_true rfl, Nat.le_of_ble_eq_true rfl⟩ rfl rfl (Nat.le_of_ble_eq_true rfl) ⟨Nat.le_of_ble_eq_true rfl, Nat.le_of_ble_eq_true rfl⟩ dX1_leg_19 (V_zero rfl rfl ?_)
    obtain ⟨g_19, hb_2⟩ := gd_of hb_2
    refine gf_X1_232 hN hG g_19 dX1_leg_22 ?_
    obtain ⟨r_21, hc_20, hb_2⟩ := bd_of hb_2
    refine V_callV hE hG (ci := 0) (As := [.int p1, .int p2, .int (mI S_7 r_18 0)]) (rest := [.int p3]) (ok_f_X1_legHours hE hN hc_20) g_13 (by decide) rfl hw_X1_312 hdv_X1_legHours ⟨Nat.le_of_ble_eq_true rfl, Nat.le_of_ble_eq_true rfl⟩ rfl rfl (Nat.le_of_ble_eq_true rfl) ⟨Nat.le_of_ble_eq_true rfl, Nat.le_of_ble_eq_true rfl⟩ dX1_leg_25 (V_zero rfl rfl ?_)
    refine V_iadd hG dX1_leg_28 ?_
    obtain ⟨x5_22, ex5_22, hb_2⟩ := be_of hb_2
    refine V_topi ex5_22 ?_
    refine V_istore hG [(5, .int x5_22), (4, .int x4_6), (0, rf E p0), (1, .int p1), (2, .int p2), (3, .int p3)] dX1_leg_29 (Nat.le_of_ble_eq_true rfl) rfl ?_
    refine V_iload hG 0 rfl dX1_leg_31 ?_
    refine V_bipush hG 100 (by decide) dX1_leg_33 ?_
    obtain ⟨x5_23, M_24, hj_26, hb_2⟩ := bd2_of hb_2
    have J_25 : V E G M_24 0 0 6 89 [(5, .int x5_23), (4, .int x4_6), (0, rf E p0), (1, .int p1), (2, .int p2), (3, .int p3)] [] Q := by
      obtain ⟨x4_27, ex4_27, hb_2⟩ := be_of hb_2
      refine V_iinc hG 1 x4_27 rfl (by rw [ex4_27]; rfl) [(4, .int x4_27), (5, .int x5_23), (0, rf E p0), (1, .int p1), (2, .int p2), (3, .int p3)] dX1_leg_89 (Nat.le_of_ble_eq_true rfl) rfl ?_
      refine V_goto hG 3 dX1_leg_92 (by decide) ?_
      cases hb_2
      exact V_lv [0, 2, 3, 4, 5] rfl (hk_3 _ rfl)
    refine V_icmp_lt hG 41 dX1_leg_35 (by decide) (fun c_28 => ?_) (fun c_28 => ?_)
    · have hj_26 := if_t c_28 hj_26
      refine V_aload_n hG 2 rfl dX1_leg_41 ?_
      obtain ⟨a_29, hr_30, hj_26⟩ := bd_of hj_26
      refine gf_X1_101 hN hG g_13 hr_30 dX1_leg_42 ?_
      obtain ⟨g_31, hj_26⟩ := gd_of hj_26
      obtain ⟨a_32, hr_33, hj_26⟩ := bd_of hj_26
      refine gf_X1_236 hN hG g_31 hr_33 dX1_leg_45 ?_
      refine V_iload hG 1 rfl dX1_leg_48 ?_
      obtain ⟨g_34, hj_26⟩ := gd_of hj_26
      obtain ⟨g_35, hj_26⟩ := gd_of hj_26
      refine V_iaload hG g_34 g_35 dX1_leg_50 ?_
      obtain ⟨x5_36, ex5_36, hj_26⟩ := be_of hj_26
      have J_37 : ∀ y_39 : Int32, y_39 = x5_36 → V E G S_7 0 0 6 57 [(5, .int y_39), (4, .int x4_6), (0, rf E p0), (1, .int p1), (2, .int p2), (3, .int p3)] [] Q := by
        intro y_39 ey
        subst ey
        refine V_aload_n hG 2 rfl dX1_leg_57 ?_
        obtain ⟨g_40, hj_26⟩ := gd_of hj_26
        obtain ⟨a_41, hr_42, hj_26⟩ := bd_of hj_26
        refine gf_X1_119 hN hG g_40 hr_42 dX1_leg_58 ?_
        refine V_iload hG 1 rfl dX1_leg_61 ?_
        obtain ⟨g_43, hj_26⟩ := gd_of hj_26
        obtain ⟨g_44, hj_26⟩ := gd_of hj_26
        refine V_iaload hG g_43 g_44 dX1_leg_63 ?_
        refine V_iconst hG (-1) rfl dX1_leg_64 ?_
        refine V_icmp_eq hG 80 dX1_leg_65 (by decide) (fun c_45 => ?_) (fun c_45 => ?_)
        · have hj_26 := if_t c_45 hj_26
          refine V_aload_n hG 2 rfl dX1_leg_80 ?_
          obtain ⟨a_46, hr_47, hj_26⟩ := bd_of hj_26
          refine gf_X1_119 hN hG g_40 hr_47 dX1_leg_81 ?_
          refine V_iload hG 1 rfl dX1_leg_84 ?_
          refine V_iload hG 0 rfl dX1_leg_86 ?_
          obtain ⟨g_48, hj_26⟩ := gd_of hj_26
          obtain ⟨g_49, hj_26⟩ := gd_of hj_26
          obtain ⟨M_50, eM_50, hj_26⟩ := be_of hj_26
          refine W_iastore hG g_48 g_49 M_50 eM_50 dX1_leg_88 ?_
          have g_51 : mT M_50 p0 = 0 := by rw [eM_50]; exact g_40
          have g_52 : mT M_50 a_41 = 100 := by rw [eM_50]; exact g_43
          have g_53 : mT M_50 a_46 = 100 := by rw [eM_50]; exact g_48
          cases hj_26
          exact J_25
        · have hj_26 := if_f c_45 hj_26
          refine V_iload hG 0 rfl dX1_leg_68 ?_
          refine V_aload_n hG 2 rfl dX1_leg_70 ?_
          obtain ⟨a_54, hr_55, hj_26⟩ := bd_of hj_26
          refine gf_X1_119 hN hG g_40 hr_55 dX1_leg_71 ?_
          refine V_iload hG 1 rfl dX1_leg_74 ?_
          obtain ⟨g_56, hj_26⟩ := gd_of hj_26
          obtain ⟨g_57, hj_26⟩ := gd_of hj_26
          refine V_iaload hG g_56 g_57 dX1_leg_76 ?_
          refine V_icmp_ge hG 89 dX1_leg_77 (by decide) (fun c_58 => ?_) (fun c_58 => ?_)
          · have hj_26 := if_t c_58 hj_26
            cases hj_26
            exact J_25
          · have hj_26 := if_f c_58 hj_26
            refine V_aload_n hG 2 rfl dX1_leg_80 ?_
            obtain ⟨a_59, hr_60, hj_26⟩ := bd_of hj_26
            refine gf_X1_119 hN hG g_40 hr_60 dX1_leg_81 ?_
            refine V_iload hG 1 rfl dX1_leg_84 ?_
            refine V_iload hG 0 rfl dX1_leg_86 ?_
            obtain ⟨g_61, hj_26⟩ := gd_of hj_26
            obtain ⟨g_62, hj_26⟩ := gd_of hj_26
            obtain ⟨M_63, eM_63, hj_26⟩ := be_of hj_26
            refine W_iastore hG g_61 g_62 M_63 eM_63 dX1_leg_88 ?_
            have g_64 : mT M_63 p0 = 0 := by rw [eM_63]; exact g_40
            have g_65 : mT M_63 a_41 = 100 := by rw [eM_63]; exact g_43
            have g_66 : mT M_63 a_54 = 100 := by rw [eM_63]; exact g_56
            have g_67 : mT M_63 a_59 = 100 := by rw [eM_63]; exact g_61
            cases hj_26
            exact J_25
      refine V_if_le hG 57 dX1_leg_51 (by decide) (fun c_38 => ?_) (fun c_38 => ?_)
      · exact J_37 _ (by rw [ex5_36, if_pos c_38])
      · refine V_iconst hG 0 rfl dX1_leg_54 ?_
        refine V_istore hG [(5, .int 0), (4, .int x4_6), (0, rf E p0), (1, .int p1), (2, .int p2), (3, .int p3)] dX1_leg_55 (Nat.le_of_ble_eq_true rfl) rfl ?_
        exact J_37 _ (by rw [ex5_36, if_neg c_38])
    · have hj_26 := if_f c_28 hj_26
      refine V_goto hG 89 dX1_leg_38 (by decide) ?_
      cases hj_26
      exact J_25

def f_X9_find_b1 (N : Nat) (p0 : Nat) (p1 : Int32) (M : Mem) (x2_6 : Int32) : Option (((Int32) ⊕ (Int32)) ⊕ (Int32)) :=
gd (mT M p0 = 3) (
bd (f_J2_size p0 M) fun (r_16 : Int32) =>
if r_16 ≤ x2_6 then (
some (.inl (.inl x2_6)))
else (
bd (f_J2_get p0 x2_6 M) fun (r_19 : Nat) =>
gd (mT M r_19 = 7 ∨ mT M r_19 = 8) (
if mI M r_19 1 = p1 then (
some (.inl (.inr x2_6)))
else (
be (x2_6 + 1) fun (x2_22 : Int32) =>
some (.inr x2_22)))))
def f_X9_find (N : Nat) (p0 : Nat) (p1 : Int32) (M : Mem) : Option (Int32) :=
bx (lp N (fun s_13 : Int32 => f_X9_find_b1 N p0 p1 M s_13) 0) (fun (x2_8 : Int32) =>
some (-1)) (fun (w_25 : Int32) => some w_25)
def rm_f_X9_find : Room := { frames := 3, cells := 0, slots := 0, locals := 64 }
theorem ok_f_X9_find {E : En} (hE : EOk E) (hN : NOk E) {N : Nat} {p0 : Nat} {p1 : Int32} {M : Mem} {r : Int32} (h : f_X9_find N p0 p1 M = some r) : CM E yX9_find cX9_find 3 (some .int) rm_f_X9_find [rf E p0, .int p1] M (some (.int r)) M := by
  unfold f_X9_find at h
  refine CM_introX (own := RX9) rfl (by decide +kernel) (Nat.le_of_ble_eq_true rfl) rfl (fun G hG hEn hI => ?_)
  obtain ⟨Q, eQ⟩ : ∃ Q, Q = QM E G (some (.int r)) M 0 0 := ⟨_, rfl⟩
  show V E G M 0 0 3 0 [(0, rf E p0), (1, .int p1)] [] (QM E G (some (.int r)) M 0 0)
  rw [← eQ]
  refine V_iconst hG 0 rfl dX9_find_0 ?_
  refine V_istore_n hG rfl [(2, .int 0), (0, rf E p0), (1, .int p1)] dX9_find_1 (Nat.le_of_ble_eq_true rfl) rfl ?_
  obtain ⟨rr_10, hL_9, hl_11, hr_7⟩ := bx_of h
  have J_5 : ∀ q_12 : Int32, Sum.inl q_12 = rr_10 → V E G M 0 0 3 33 [(2, .int q_12), (0, rf E p0), (1, .int p1)] [] Q := by
    intro q_12 e9
    obtain ⟨x2_8, rfl⟩ : ∃ z, z = q_12 := ⟨_, rfl⟩
    have h := hl_11 x2_8 e9.symm
    show V E G M 0 0 3 33 [(2, .int x2_8), (0, rf E p0), (1, .int p1)] [] Q
    refine V_iconst hG (-1) rfl dX9_find_33 ?_
    cases h
    subst eQ
    exact V_iret hG dX9_find_34
  refine lp_walk (W := fun s_13 : Int32 => V E G M 0 0 3 2 [(2, .int s_13), (0, rf E p0), (1, .int p1)] [] Q) ?_ N 0 hL_9
  intro s_13 b_1 hb_2 hk_3 hx_4
  obtain ⟨x2_6, rfl⟩ : ∃ z, z = s_13 := ⟨_, rfl⟩
  have hb_2 : f_X9_find_b1 N p0 p1 M x2_6 = some b_1 := hb_2
  unfold f_X9_find_b1 at hb_2
  show V E G M 0 0 3 2 [(2, .int x2_6), (0, rf E p0), (1, .int p1)] [] Q
  refine V_iload_n hG 0 rfl dX9_find_2 ?_
  refine V_aload_n hG 1 rfl dX9_find_3 ?_
  obtain ⟨g_14, hb_2⟩ := gd_of hb_2
  obtain ⟨r_16, hc_15, hb_2⟩ := bd_of hb_2
  refine V_callV hE hG (ci := 3) (As := []) (rest := [.int x2_6]) (ok_f_J2_size hE hN hc_15) g_14 (by decide) rfl hw_X9_15 hdv_J2_size ⟨Nat.le_of_ble_eq_true rfl, Nat.le_of_ble_eq_true rfl⟩ rfl rfl (Nat.le_of_ble_eq_true rfl) ⟨Nat.le_of_ble_eq_true rfl, Nat.le_of_ble_eq_true rfl⟩ dX9_find_4 (V_zero rfl rfl ?_)
  refine V_icmp_ge hG 33 dX9_find_7 (by decide) (fun c_17 => ?_) (fun c_17 => ?_)
  · have hb_2 := if_t c_17 hb_2
    cases hb_2
    exact J_5 _ (hx_4 _ rfl)
  · have hb_2 := if_f c_17 hb_2
    refine V_aload_n hG 1 rfl dX9_find_10 ?_
    refine V_iload_n hG 0 rfl dX9_find_11 ?_
    obtain ⟨r_19, hc_18, hb_2⟩ := bd_of hb_2
    refine V_callV hE hG (ci := 3) (As := [.int x2_6]) (rest := []) (ok_f_J2_get hE hN hc_18) g_14 (by decide) rfl hw_X9_21 hdv_J2_get ⟨Nat.le_of_ble_eq_true rfl, Nat.le_of_ble_eq_true rfl⟩ rfl rfl (Nat.le_of_ble_eq_true rfl) ⟨Nat.le_of_ble_eq_true rfl, Nat.le_of_ble_eq_true rfl⟩ dX9_find_12 (V_zero rfl rfl ?_)
    obtain ⟨g_20, hb_2⟩ := gd_of hb_2
    refine ck_X9_10 hN hG g_20 dX9_find_15 ?_
    refine gf_X9_9 hN hG g_20 dX9_find_18 ?_
    refine V_iload_n hG 2 rfl dX9_find_21 ?_
    refine V_icmp_ne hG 27 dX9_find_22 (by decide) (fun c_21 => ?_) (fun c_21 => ?_)
    · have hb_2 := if_f c_21 hb_2
      obtain ⟨x2_22, ex2_22, hb_2⟩ := be_of hb_2
      refine V_iinc hG 0 x2_22 rfl (by rw [ex2_22]; rfl) [(2, .int x2_22), (0, rf E p0), (1, .int p1)] dX9_find_27 (Nat.le_of_ble_eq_true rfl) rfl ?_
      refine V_goto hG 2 dX9_find_30 (by decide) ?_
      cases hb_2
      exact hk_3 _ rfl
    · have hb_2 := if_t c_21 hb_2
      refine V_iload_n hG 0 rfl dX9_find_25 ?_
      cases hb_2
      have e_23 := hx_4 _ rfl
      have h_24 : some x2_6 = some r := hr_7 _ e_23.symm
      cases h_24
      subst eQ
      exact V_iret hG dX9_find_26

def f_X1_named (N : Nat) (p0 : Nat) (p1 : Int32) (p2 : Int32) (M : Mem) : Option (Int32) :=
bd (if p1 = 0 then (
gd (mT M p0 = 0) (
bd (mR M p0 6) fun (a_15 : Nat) =>
gd (mT M a_15 = 2) (
bd (mR M a_15 0) fun (a_18 : Nat) =>
bd (f_X9_find N a_18 p2 M) fun (r_21 : Int32) =>
some r_21)))
else (
if p1 = 1 then (
gd (mT M p0 = 0) (
bd (mR M p0 6) fun (a_7 : Nat) =>
gd (mT M a_7 = 2) (
bd (mR M a_7 1) fun (a_10 : Nat) =>
bd (f_X9_find N a_10 p2 M) fun (r_13 : Int32) =>
some r_13)))
else (
some (-1))) : Option (Int32)) fun (t_1 : Int32) =>
some t_1
def rm_f_X1_named : Room := { frames := 4, cells := 0, slots := 0, locals := 86 }
theorem ok_f_X1_named {E : En} (hE : EOk E) (hN : NOk E) {N : Nat} {p0 : Nat} {p1 : Int32} {p2 : Int32} {M : Mem} {r : Int32} (h : f_X1_named N p0 p1 p2 M = some r) : CM E yX1_named cX1_named 3 (some .int) rm_f_X1_named [rf E p0, .int p1, .int p2] M (some (.int r)) M := by
  unfold f_X1_named at h
  refine CM_introX (own := RX1) rfl (by decide +kernel) (Nat.le_of_ble_eq_true rfl) rfl (fun G hG hEn hI => ?_)
  obtain ⟨Q, eQ⟩ : ∃ Q, Q = QM E G (some (.int r)) M 0 0 := ⟨_, rfl⟩
  show V E G M 0 0 3 0 [(0, rf E p0), (1, .int p1), (2, .int p2)] [] (QM E G (some (.int r)) M 0 0)
  rw [← eQ]
  refine V_iload_n hG 1 rfl dX1_named_0 ?_
  obtain ⟨t_1, hj_3, h⟩ := bd_of h
  have J_2 : V E G M 0 0 3 38 [(0, rf E p0), (1, .int p1), (2, .int p2)] [.int t_1] Q := by
    cases h
    subst eQ
    exact V_iret hG dX1_named_38
  refine V_if_ne hG 18 dX1_named_1 (by decide) (fun c_4 => ?_) (fun c_4 => ?_)
  · have hj_3 := if_f c_4 hj_3
    refine V_iload_n hG 1 rfl dX1_named_18 ?_
    refine V_iconst hG 1 rfl dX1_named_19 ?_
    refine V_icmp_ne hG 37 dX1_named_20 (by decide) (fun c_5 => ?_) (fun c_5 => ?_)
    · have hj_3 := if_f c_5 hj_3
      refine V_iconst hG (-1) rfl dX1_named_37 ?_
      cases hj_3
      exact J_2
    · have hj_3 := if_t c_5 hj_3
      refine V_aload_n hG 0 rfl dX1_named_23 ?_
      obtain ⟨g_6, hj_3⟩ := gd_of hj_3
      obtain ⟨a_7, hr_8, hj_3⟩ := bd_of hj_3
      refine gf_X1_13 hN hG g_6 hr_8 dX1_named_24 ?_
      obtain ⟨g_9, hj_3⟩ := gd_of hj_3
      obtain ⟨a_10, hr_11, hj_3⟩ := bd_of hj_3
      refine gf_X1_35 hN hG g_9 hr_11 dX1_named_27 ?_
      refine V_iload_n hG 2 rfl dX1_named_30 ?_
      obtain ⟨r_13, hc_12, hj_3⟩ := bd_of hj_3
      refine V_callS hE hG (As := [rf E a_10, .int p2]) (rest := []) (ok_f_X9_find hE hN hc_12) hw_X1_176 hdc_X9_find ⟨Nat.le_of_ble_eq_true rfl, Nat.le_of_ble_eq_true rfl⟩ rfl rfl (Nat.le_of_ble_eq_true rfl) ⟨Nat.le_of_ble_eq_true rfl, Nat.le_of_ble_eq_true rfl⟩ dX1_named_31 (V_zero rfl rfl ?_)
      refine V_goto hG 38 dX1_named_34 (by decide) ?_
      cases hj_3
      exact J_2
  · have hj_3 := if_t c_4 hj_3
    refine V_aload_n hG 0 rfl dX1_named_4 ?_
    obtain ⟨g_14, hj_3⟩ := gd_of hj_3
    obtain ⟨a_15, hr_16, hj_3⟩ := bd_of hj_3
    refine gf_X1_13 hN hG g_14 hr_16 dX1_named_5 ?_
    obtain ⟨g_17, hj_3⟩ := gd_of hj_3
    obtain ⟨a_18, hr_19, hj_3⟩ := bd_of hj_3
    refine gf_X1_17 hN hG g_17 hr_19 dX1_named_8 ?_
    refine V_iload_n hG 2 rfl dX1_named_11 ?_
    obtain ⟨r_21, hc_20, hj_3⟩ := bd_of hj_3
    refine V_callS hE hG (As := [rf E a_18, .int p2]) (rest := []) (ok_f_X9_find hE hN hc_20) hw_X1_176 hdc_X9_find ⟨Nat.le_of_ble_eq_true rfl, Nat.le_of_ble_eq_true rfl⟩ rfl rfl (Nat.le_of_ble_eq_true rfl) ⟨Nat.le_of_ble_eq_true rfl, Nat.le_of_ble_eq_true rfl⟩ dX1_named_12 (V_zero rfl rfl ?_)
    refine V_goto hG 38 dX1_named_15 (by decide) ?_
    cases hj_3
    exact J_2

def f_X1_nearest_b1 (N : Nat) (p0 : Nat) (p1 : Int32) (M : Mem) (x3_10 : Int32) (x2_11 : Int32) : Option ((Int32 × Int32) ⊕ (Int32 × Int32)) :=
gd (mT M p0 = 0) (
bd (f_X1_troughs p0 M) fun (r_19 : Int32) =>
if r_19 ≤ x3_10 then (
some (.inl (x3_10, x2_11)))
else (
bd (if x2_11 = (-2) then (
some x3_10)
else (
bd (f_X1_trough p0 x3_10 M) fun (r_27 : Nat) =>
gd (mT M r_27 = 7) (
bd (mR M p0 9) fun (a_29 : Nat) =>
gd (mT M a_29 = 5) (
bd (mR M a_29 0) fun (a_32 : Nat) =>
gd (mT M a_32 = 100) (
gd (inb p1 (mLn M a_32)) (
bd (f_J8_abs ((mI M r_27 0) - (mI M a_32 (Int32.toNatClampNeg p1))) M) fun (r_37 : Int32) =>
bd (f_X1_trough p0 x2_11 M) fun (r_39 : Nat) =>
gd (mT M r_39 = 7) (
bd (mR M p0 9) fun (a_41 : Nat) =>
gd (mT M a_41 = 5) (
bd (mR M a_41 0) fun (a_44 : Nat) =>
gd (mT M a_44 = 100) (
gd (inb p1 (mLn M a_44)) (
bd (f_J8_abs ((mI M r_39 0) - (mI M a_44 (Int32.toNatClampNeg p1))) M) fun (r_49 : Int32) =>
if r_49 ≤ r_37 then (
some x2_11)
else (
some x3_10)))))))))) : Option (Int32)) fun (x2_21 : Int32) =>
be (x3_10 + 1) fun (x3_24 : Int32) =>
some (.inr (x3_24, x2_21))))
def f_X1_nearest (N : Nat) (p0 : Nat) (p1 : Int32) (M : Mem) : Option (Int32) :=
gd (mT M p0 = 0) (
bd (f_X1_isHorse p0 p1 M) fun (r_3 : Int32) =>
if r_3 = 0 then (
some (-1))
else (
bd2 (lp N (fun s_16 : Int32 × Int32 => f_X1_nearest_b1 N p0 p1 M s_16.1 s_16.2) (0, (-2))) fun (x3_12 : Int32) (x2_13 : Int32) =>
some x2_13))
def rm_f_X1_nearest : Room := { frames := 4, cells := 0, slots := 0, locals := 85 }
theorem ok_f_X1_nearest {E : En} (hE : EOk E) (hN : NOk E) {N : Nat} {p0 : Nat} {p1 : Int32} {M : Mem} {r : Int32} (h : f_X1_nearest N p0 p1 M = some r) : CM E yX1_nearest cX1_nearest 4 (some .int) rm_f_X1_nearest [rf E p0, .int p1] M (some (.int r)) M := by
  unfold f_X1_nearest at h
  refine CM_introX (own := RX1) rfl (by decide +kernel) (Nat.le_of_ble_eq_true rfl) rfl (fun G hG hEn hI => ?_)
  obtain ⟨Q, eQ⟩ : ∃ Q, Q = QM E G (some (.int r)) M 0 0 := ⟨_, rfl⟩
  show V E G M 0 0 4 0 [(0, rf E p0), (1, .int p1)] [] (QM E G (some (.int r)) M 0 0)
  rw [← eQ]
  refine V_aload_n hG 0 rfl dX1_nearest_0 ?_
  refine V_iload_n hG 1 rfl dX1_nearest_1 ?_
  obtain ⟨g_1, h⟩ := gd_of h
  obtain ⟨r_3, hc_2, h⟩ := bd_of h
  refine V_callV hE hG (ci := 0) (As := [.int p1]) (rest := []) (ok_f_X1_isHorse hE hN hc_2) g_1 (by decide) rfl hw_X1_186 hdv_X1_isHorse ⟨Nat.le_of_ble_eq_true rfl, Nat.le_of_ble_eq_true rfl⟩ rfl rfl (Nat.le_of_ble_eq_true rfl) ⟨Nat.le_of_ble_eq_true rfl, Nat.le_of_ble_eq_true rfl⟩ dX1_nearest_2 (V_zero rfl rfl ?_)
  refine V_if_ne hG 10 dX1_nearest_5 (by decide) (fun c_4 => ?_) (fun c_4 => ?_)
  · have h := if_f c_4 h
    refine V_bipush hG (-2) (by decide) dX1_nearest_10 ?_
    refine V_istore_n hG rfl [(2, .int (-2)), (0, rf E p0), (1, .int p1)] dX1_nearest_12 (Nat.le_of_ble_eq_true rfl) rfl ?_
    refine V_iconst hG 0 rfl dX1_nearest_13 ?_
    refine V_istore_n hG rfl [(3, .int 0), (2, .int (-2)), (0, rf E p0), (1, .int p1)] dX1_nearest_14 (Nat.le_of_ble_eq_true rfl) rfl ?_
    obtain ⟨x3_12, x2_13, hL_14, h⟩ := bd2_of h
    have J_9 : ∀ q_15 : Int32 × Int32, q_15 = (x3_12, x2_13) → V E G M 0 0 4 82 [(3, .int q_15.1), (2, .int q_15.2), (0, rf E p0), (1, .int p1)] [] Q := by
      intro q_15 e9
      subst q_15
      show V E G M 0 0 4 82 [(3, .int x3_12), (2, .int x2_13), (0, rf E p0), (1, .int p1)] [] Q
      refine V_iload_n hG 1 rfl dX1_nearest_82 ?_
      cases h
      subst eQ
      exact V_iret hG dX1_nearest_83
    refine lp_walk (W := fun s_16 : Int32 × Int32 => V E G M 0 0 4 15 [(3, .int s_16.1), (2, .int s_16.2), (0, rf E p0), (1, .int p1)] [] Q) ?_ N (0, (-2)) hL_14
    intro s_16 b_5 hb_6 hk_7 hx_8
    obtain ⟨x3_10, x2_11⟩ := s_16
    have hb_6 : f_X1_nearest_b1 N p0 p1 M x3_10 x2_11 = some b_5 := hb_6
    unfold f_X1_nearest_b1 at hb_6
    show V E G M 0 0 4 15 [(3, .int x3_10), (2, .int x2_11), (0, rf E p0), (1, .int p1)] [] Q
    refine V_iload_n hG 0 rfl dX1_nearest_15 ?_
    refine V_aload_n hG 2 rfl dX1_nearest_16 ?_
    obtain ⟨g_17, hb_6⟩ := gd_of hb_6
    obtain ⟨r_19, hc_18, hb_6⟩ := bd_of hb_6
    refine V_callV hE hG (ci := 0) (As := []) (rest := [.int x3_10]) (ok_f_X1_troughs hE hN hc_18) g_17 (by decide) rfl hw_X1_182 hdv_X1_troughs ⟨Nat.le_of_ble_eq_true rfl, Nat.le_of_ble_eq_true rfl⟩ rfl rfl (Nat.le_of_ble_eq_true rfl) ⟨Nat.le_of_ble_eq_true rfl, Nat.le_of_ble_eq_true rfl⟩ dX1_nearest_17 (V_zero rfl rfl ?_)
    refine V_icmp_ge hG 82 dX1_nearest_20 (by decide) (fun c_20 => ?_) (fun c_20 => ?_)
    · have hb_6 := if_t c_20 hb_6
      cases hb_6
      exact J_9 _ (hx_8 _ rfl)
    · have hb_6 := if_f c_20 hb_6
      refine V_iload_n hG 1 rfl dX1_nearest_23 ?_
      refine V_bipush hG (-2) (by decide) dX1_nearest_24 ?_
      obtain ⟨x2_21, hj_23, hb_6⟩ := bd_of hb_6
      have J_22 : V E G M 0 0 4 76 [(2, .int x2_21), (3, .int x3_10), (0, rf E p0), (1, .int p1)] [] Q := by
        obtain ⟨x3_24, ex3_24, hb_6⟩ := be_of hb_6
        refine V_iinc hG 1 x3_24 rfl (by rw [ex3_24]; rfl) [(3, .int x3_24), (2, .int x2_21), (0, rf E p0), (1, .int p1)] dX1_nearest_76 (Nat.le_of_ble_eq_true rfl) rfl ?_
        refine V_goto hG 15 dX1_nearest_79 (by decide) ?_
        cases hb_6
        exact hk_7 _ rfl
      refine V_icmp_eq hG 74 dX1_nearest_26 (by decide) (fun c_25 => ?_) (fun c_25 => ?_)
      · have hj_23 := if_t c_25 hj_23
        refine V_iload_n hG 0 rfl dX1_nearest_74 ?_
        refine V_istore_n hG rfl [(2, .int x3_10), (3, .int x3_10), (0, rf E p0), (1, .int p1)] dX1_nearest_75 (Nat.le_of_ble_eq_true rfl) rfl ?_
        cases hj_23
        exact J_22
      · have hj_23 := if_f c_25 hj_23
        refine V_aload_n hG 2 rfl dX1_nearest_29 ?_
        refine V_iload_n hG 0 rfl dX1_nearest_30 ?_
        obtain ⟨r_27, hc_26, hj_23⟩ := bd_of hj_23
        refine V_callV hE hG (ci := 0) (As := [.int x3_10]) (rest := []) (ok_f_X1_trough hE hN hc_26) g_17 (by decide) rfl hw_X1_228 hdv_X1_trough ⟨Nat.le_of_ble_eq_true rfl, Nat.le_of_ble_eq_true rfl⟩ rfl rfl (Nat.le_of_ble_eq_true rfl) ⟨Nat.le_of_ble_eq_true rfl, Nat.le_of_ble_eq_true rfl⟩ dX1_nearest_31 (V_zero rfl rfl ?_)
        obtain ⟨g_28, hj_23⟩ := gd_of hj_23
        refine gf_X1_232 hN hG g_28 dX1_nearest_34 ?_
        refine V_aload_n hG 2 rfl dX1_nearest_37 ?_
        obtain ⟨a_29, hr_30, hj_23⟩ := bd_of hj_23
        refine gf_X1_101 hN hG g_17 hr_30 dX1_nearest_38 ?_
        obtain ⟨g_31, hj_23⟩ := gd_of hj_23
        obtain ⟨a_32, hr_33, hj_23⟩ := bd_of hj_23
        refine gf_X1_200 hN hG g_31 hr_33 dX1_nearest_41 ?_
        refine V_iload_n hG 3 rfl dX1_nearest_44 ?_
        obtain ⟨g_34, hj_23⟩ := gd_of hj_23
        obtain ⟨g_35, hj_23⟩ := gd_of hj_23
        refine V_iaload hG g_34 g_35 dX1_nearest_45 ?_
        refine V_isub hG dX1_nearest_46 ?_
        obtain ⟨r_37, hc_36, hj_23⟩ := bd_of hj_23
        refine V_callS hE hG (As := [.int ((mI M r_27 0) - (mI M a_32 (Int32.toNatClampNeg p1)))]) (rest := []) (ok_f_J8_abs hE hN hc_36) hw_X1_261 hdc_J8_abs ⟨Nat.le_of_ble_eq_true rfl, Nat.le_of_ble_eq_true rfl⟩ rfl rfl (Nat.le_of_ble_eq_true rfl) ⟨Nat.le_of_ble_eq_true rfl, Nat.le_of_ble_eq_true rfl⟩ dX1_nearest_47 (V_zero rfl rfl ?_)
        refine V_aload_n hG 2 rfl dX1_nearest_50 ?_
        refine V_iload_n hG 1 rfl dX1_nearest_51 ?_
        obtain ⟨r_39, hc_38, hj_23⟩ := bd_of hj_23
        refine V_callV hE hG (ci := 0) (As := [.int x2_11]) (rest := [.int r_37]) (ok_f_X1_trough hE hN hc_38) g_17 (by decide) rfl hw_X1_228 hdv_X1_trough ⟨Nat.le_of_ble_eq_true rfl, Nat.le_of_ble_eq_true rfl⟩ rfl rfl (Nat.le_of_ble_eq_true rfl) ⟨Nat.le_of_ble_eq_true rfl, Nat.le_of_ble_eq_true rfl⟩ dX1_nearest_52 (V_zero rfl rfl ?_)
        obtain ⟨g_40, hj_23⟩ := gd_of hj_23
        refine gf_X1_232 hN hG g_40 dX1_nearest_55 ?_
        refine V_aload_n hG 2 rfl dX1_nearest_58 ?_
        obtain ⟨a_41, hr_42, hj_23⟩ := bd_of hj_23
        refine gf_X1_101 hN hG g_17 hr_42 dX1_nearest_59 ?_
        obtain ⟨g_43, hj_23⟩ := gd_of hj_23
        obtain ⟨a_44, hr_45, hj_23⟩ := bd_of hj_23
        refine gf_X1_200 hN hG g_43 hr_45 dX1_nearest_62 ?_
        refine V_iload_n hG 3 rfl dX1_nearest_65 ?_
        obtain ⟨g_46, hj_23⟩ := gd_of hj_23
        obtain ⟨g_47, hj_23⟩ := gd_of hj_23
        refine V_iaload hG g_46 g_47 dX1_nearest_66 ?_
        refine V_isub hG dX1_nearest_67 ?_
        obtain ⟨r_49, hc_48, hj_23⟩ := bd_of hj_23
        refine V_callS hE hG (As := [.int ((mI M r_39 0) - (mI M a_44 (Int32.toNatClampNeg p1)))]) (rest := [.int r_37]) (ok_f_J8_abs hE hN hc_48) hw_X1_261 hdc_J8_abs ⟨Nat.le_of_ble_eq_true rfl, Nat.le_of_ble_eq_true rfl⟩ rfl rfl (Nat.le_of_ble_eq_true rfl) ⟨Nat.le_of_ble_eq_true rfl, Nat.le_of_ble_eq_true rfl⟩ dX1_nearest_68 (V_zero rfl rfl ?_)
        refine V_icmp_ge hG 76 dX1_nearest_71 (by decide) (fun c_50 => ?_) (fun c_50 => ?_)
        · have hj_23 := if_t c_50 hj_23
          cases hj_23
          exact V_lv [1, 0, 2, 3] rfl (J_22)
        · have hj_23 := if_f c_50 hj_23
          refine V_iload_n hG 0 rfl dX1_nearest_74 ?_
          refine V_istore_n hG rfl [(2, .int x3_10), (3, .int x3_10), (0, rf E p0), (1, .int p1)] dX1_nearest_75 (Nat.le_of_ble_eq_true rfl) rfl ?_
          cases hj_23
          exact J_22
  · have h := if_t c_4 h
    refine V_iconst hG (-1) rfl dX1_nearest_8 ?_
    cases h
    subst eQ
    exact V_iret hG dX1_nearest_9

def f_X1_orNone (p0 : Int32) (M : Mem) : Option (Int32) :=
be (if p0 = (-1) then (
(-2))
else (
p0) : Int32) fun (y_4 : Int32) =>
some y_4
def rm_f_X1_orNone : Room := { frames := 0, cells := 0, slots := 0, locals := 0 }
theorem ok_f_X1_orNone {E : En} (hE : EOk E) (hN : NOk E) {p0 : Int32} {M : Mem} {r : Int32} (h : f_X1_orNone p0 M = some r) : CM E yX1_orNone cX1_orNone 1 (some .int) rm_f_X1_orNone [.int p0] M (some (.int r)) M := by
  unfold f_X1_orNone at h
  refine CM_introX (own := RX1) rfl (by decide +kernel) (Nat.le_of_ble_eq_true rfl) rfl (fun G hG hEn hI => ?_)
  obtain ⟨Q, eQ⟩ : ∃ Q, Q = QM E G (some (.int r)) M 0 0 := ⟨_, rfl⟩
  show V E G M 0 0 1 0 [(0, .int p0)] [] (QM E G (some (.int r)) M 0 0)
  rw [← eQ]
  refine V_iload_n hG 0 rfl dX1_orNone_0 ?_
  refine V_iconst hG (-1) rfl dX1_orNone_1 ?_
  obtain ⟨t_1, et_1, h⟩ := be_of h
  have J_2 : ∀ y_4 : Int32, y_4 = t_1 → V E G M 0 0 1 11 [(0, .int p0)] [.int y_4] Q := by
    intro y_4 ey
    subst ey
    cases h
    subst eQ
    exact V_iret hG dX1_orNone_11
  refine V_icmp_ne hG 10 dX1_orNone_2 (by decide) (fun c_3 => ?_) (fun c_3 => ?_)
  · refine V_iload_n hG 0 rfl dX1_orNone_10 ?_
    exact J_2 _ (by rw [et_1, if_neg c_3])
  · refine V_bipush hG (-2) (by decide) dX1_orNone_5 ?_
    refine V_goto hG 11 dX1_orNone_7 (by decide) ?_
    exact J_2 _ (by rw [et_1, if_pos c_3])

def f_X1_peace (p0 : Nat) (p1 : Int32) (p2 : Int32) (M : Mem) : Option (Int32) :=
bd (f_X1_in (Int32.toInt64 p1) 0 3 M) fun (r_2 : Int32) =>
if r_2 = 0 then (
some (-1))
else (
bd (f_X1_in (Int32.toInt64 p2) 0 3 M) fun (r_5 : Int32) =>
if r_5 = 0 then (
some (-1))
else (
if p1 = p2 then (
some (-1))
else (
be ((4 * p1) + p2) fun (x3_8 : Int32) =>
gd (mT M p0 = 0) (
bd (mR M p0 9) fun (a_10 : Nat) =>
gd (mT M a_10 = 5) (
bd (mR M p0 9) fun (a_13 : Nat) =>
gd (mT M a_13 = 5) (
some ((((mI M a_10 15) >>> (x3_8 &&& 31)) &&& (((mI M a_13 16) >>> (x3_8 &&& 31)) ^^^ (-1))) &&& 1)))))))
def rm_f_X1_peace : Room := { frames := 1, cells := 0, slots := 0, locals := 25 }
theorem ok_f_X1_peace {E : En} (hE : EOk E) (hN : NOk E) {p0 : Nat} {p1 : Int32} {p2 : Int32} {M : Mem} {r : Int32} (h : f_X1_peace p0 p1 p2 M = some r) : CM E yX1_peace cX1_peace 4 (some .int) rm_f_X1_peace [rf E p0, .int p1, .int p2] M (some (.int r)) M := by
  unfold f_X1_peace at h
  refine CM_introX (own := RX1) rfl (by decide +kernel) (Nat.le_of_ble_eq_true rfl) rfl (fun G hG hEn hI => ?_)
  obtain ⟨Q, eQ⟩ : ∃ Q, Q = QM E G (some (.int r)) M 0 0 := ⟨_, rfl⟩
  show V E G M 0 0 4 0 [(0, rf E p0), (1, .int p1), (2, .int p2)] [] (QM E G (some (.int r)) M 0 0)
  rw [← eQ]
  refine V_iload_n hG 1 rfl dX1_peace_0 ?_
  refine V_i2l hG dX1_peace_1 ?_
  refine V_lconst hG 0 rfl dX1_peace_2 ?_
  refine V_ldc2 hG q1324 dX1_peace_3 ?_
  obtain ⟨r_2, hc_1, h⟩ := bd_of h
  refine V_callS hE hG (As := [.long (Int32.toInt64 p1), .long 0, .long 3]) (rest := []) (ok_f_X1_in hE hN hc_1) hw_X1_144 hdc_X1_in ⟨Nat.le_of_ble_eq_true rfl, Nat.le_of_ble_eq_true rfl⟩ rfl rfl (Nat.le_of_ble_eq_true rfl) ⟨Nat.le_of_ble_eq_true rfl, Nat.le_of_ble_eq_true rfl⟩ dX1_peace_6 (V_zero rfl rfl ?_)
  refine V_if_eq hG 29 dX1_peace_9 (by decide) (fun c_3 => ?_) (fun c_3 => ?_)
  · have h := if_t c_3 h
    refine V_iconst hG (-1) rfl dX1_peace_29 ?_
    cases h
    subst eQ
    exact V_iret hG dX1_peace_30
  · have h := if_f c_3 h
    refine V_iload_n hG 2 rfl dX1_peace_12 ?_
    refine V_i2l hG dX1_peace_13 ?_
    refine V_lconst hG 0 rfl dX1_peace_14 ?_
    refine V_ldc2 hG q1324 dX1_peace_15 ?_
    obtain ⟨r_5, hc_4, h⟩ := bd_of h
    refine V_callS hE hG (As := [.long (Int32.toInt64 p2), .long 0, .long 3]) (rest := []) (ok_f_X1_in hE hN hc_4) hw_X1_144 hdc_X1_in ⟨Nat.le_of_ble_eq_true rfl, Nat.le_of_ble_eq_true rfl⟩ rfl rfl (Nat.le_of_ble_eq_true rfl) ⟨Nat.le_of_ble_eq_true rfl, Nat.le_of_ble_eq_true rfl⟩ dX1_peace_18 (V_zero rfl rfl ?_)
    refine V_if_eq hG 29 dX1_peace_21 (by decide) (fun c_6 => ?_) (fun c_6 => ?_)
    · have h := if_t c_6 h
      refine V_iconst hG (-1) rfl dX1_peace_29 ?_
      cases h
      subst eQ
      exact V_iret hG dX1_peace_30
    · have h := if_f c_6 h
      refine V_iload_n hG 1 rfl dX1_peace_24 ?_
      refine V_iload_n hG 2 rfl dX1_peace_25 ?_
      refine V_icmp_ne hG 31 dX1_peace_26 (by decide) (fun c_7 => ?_) (fun c_7 => ?_)
      · have h := if_f c_7 h
        refine V_iconst hG 4 rfl dX1_peace_31 ?_
        refine V_iload_n hG 1 rfl dX1_peace_32 ?_
        refine V_imul hG dX1_peace_33 ?_
        refine V_iload_n hG 2 rfl dX1_peace_34 ?_
        refine V_iadd hG dX1_peace_35 ?_
        obtain ⟨x3_8, ex3_8, h⟩ := be_of h
        refine V_topi ex3_8 ?_
        refine V_istore_n hG rfl [(3, .int x3_8), (0, rf E p0), (1, .int p1), (2, .int p2)] dX1_peace_36 (Nat.le_of_ble_eq_true rfl) rfl ?_
        refine V_aload_n hG 1 rfl dX1_peace_37 ?_
        obtain ⟨g_9, h⟩ := gd_of h
        obtain ⟨a_10, hr_11, h⟩ := bd_of h
        refine gf_X1_101 hN hG g_9 hr_11 dX1_peace_38 ?_
        obtain ⟨g_12, h⟩ := gd_of h
        refine gf_X1_360 hN hG g_12 dX1_peace_41 ?_
        refine V_iload_n hG 0 rfl dX1_peace_44 ?_
        refine V_ishr hG dX1_peace_45 ?_
        refine V_aload_n hG 1 rfl dX1_peace_46 ?_
        obtain ⟨a_13, hr_14, h⟩ := bd_of h
        refine gf_X1_101 hN hG g_9 hr_14 dX1_peace_47 ?_
        obtain ⟨g_15, h⟩ := gd_of h
        refine gf_X1_363 hN hG g_15 dX1_peace_50 ?_
        refine V_iload_n hG 0 rfl dX1_peace_53 ?_
        refine V_ishr hG dX1_peace_54 ?_
        refine V_iconst hG (-1) rfl dX1_peace_55 ?_
        refine V_ixor hG dX1_peace_56 ?_
        refine V_iand hG dX1_peace_57 ?_
        refine V_iconst hG 1 rfl dX1_peace_58 ?_
        refine V_iand hG dX1_peace_59 ?_
        cases h
        subst eQ
        exact V_iret hG dX1_peace_60
      · have h := if_t c_7 h
        refine V_iconst hG (-1) rfl dX1_peace_29 ?_
        cases h
        subst eQ
        exact V_iret hG dX1_peace_30

def f_X1_reach_b1 (N : Nat) (p0 : Nat) (p1 : Int32) (M_15 : Mem) (x3_23 : Int32) (x2_24 : Int32) : Option ((Int32 × Int32) ⊕ (Int32 × Int32)) :=
gd (mT M_15 p0 = 0) (
bd (f_X1_troughs p0 M_15) fun (r_32 : Int32) =>
if r_32 ≤ x3_23 then (
some (.inl (x3_23, x2_24)))
else (
bd (mR M_15 p0 15) fun (a_34 : Nat) =>
gd (mT M_15 a_34 = 100) (
gd (inb x3_23 (mLn M_15 a_34)) (
be (if mI M_15 a_34 (Int32.toNatClampNeg x3_23) = (-1) then (
0)
else (
1 <<< (x3_23 &&& 31)) : Int32) fun (y_41 : Int32) =>
be (x2_24 ||| y_41) fun (x2_42 : Int32) =>
be (x3_23 + 1) fun (x3_43 : Int32) =>
some (.inr (x3_43, x2_42))))))
def f_X1_reach (N : Nat) (p0 : Nat) (p1 : Int32) (M : Mem) : Option (Int32 × Mem) :=
gd (mT M p0 = 0) (
bd (f_X1_isHorse p0 p1 M) fun (r_3 : Int32) =>
if r_3 = 0 then (
some ((-1), M))
else (
bd (mR M p0 15) fun (a_5 : Nat) =>
bd (f_X1_clear N p0 a_5 M) fun (M_8 : Mem) =>
gd (mT M_8 p0 = 0) (
bd (mR M_8 p0 9) fun (a_10 : Nat) =>
gd (mT M_8 a_10 = 5) (
bd (f_X6_isOn a_10 p1 M_8) fun (r_14 : Int32) =>
bd (if r_14 = 0 then (
some M_8)
else (
bd (mR M_8 p0 9) fun (a_45 : Nat) =>
gd (mT M_8 a_45 = 5) (
bd (mR M_8 a_45 0) fun (a_48 : Nat) =>
gd (mT M_8 a_48 = 100) (
gd (inb p1 (mLn M_8 a_48)) (
bd (mR M_8 p0 9) fun (a_52 : Nat) =>
gd (mT M_8 a_52 = 5) (
bd (mR M_8 a_52 1) fun (a_55 : Nat) =>
gd (mT M_8 a_55 = 100) (
gd (inb p1 (mLn M_8 a_55)) (
bd (f_X1_leg N p0 p1 (mI M_8 a_48 (Int32.toNatClampNeg p1)) (mI M_8 a_55 (Int32.toNatClampNeg p1)) M_8) fun (M_60 : Mem) =>
some M_60))))))) : Option (Mem)) fun (M_15 : Mem) =>
bd2 (lp N (fun s_29 : Int32 × Int32 => f_X1_reach_b1 N p0 p1 M_15 s_29.1 s_29.2) (0, 0)) fun (x3_25 : Int32) (x2_26 : Int32) =>
some (x2_26, M_15)))))
def rm_f_X1_reach : Room := { frames := 6, cells := 0, slots := 0, locals := 133 }
theorem ok_f_X1_reach {E : En} (hE : EOk E) (hN : NOk E) {N : Nat} {p0 : Nat} {p1 : Int32} {M : Mem} {r : Int32} {M' : Mem} (h : f_X1_reach N p0 p1 M = some (r, M')) : CM E yX1_reach cX1_reach 4 (some .int) rm_f_X1_reach [rf E p0, .int p1] M (some (.int r)) M' := by
  unfold f_X1_reach at h
  refine CM_introX (own := RX1) rfl (by decide +kernel) (Nat.le_of_ble_eq_true rfl) rfl (fun G hG hEn hI => ?_)
  obtain ⟨Q, eQ⟩ : ∃ Q, Q = QM E G (some (.int r)) M' 0 0 := ⟨_, rfl⟩
  show V E G M 0 0 4 0 [(0, rf E p0), (1, .int p1)] [] (QM E G (some (.int r)) M' 0 0)
  rw [← eQ]
  refine V_aload_n hG 0 rfl dX1_reach_0 ?_
  refine V_iload_n hG 1 rfl dX1_reach_1 ?_
  obtain ⟨g_1, h⟩ := gd_of h
  obtain ⟨r_3, hc_2, h⟩ := bd_of h
  refine V_callV hE hG (ci := 0) (As := [.int p1]) (rest := []) (ok_f_X1_isHorse hE hN hc_2) g_1 (by decide) rfl hw_X1_186 hdv_X1_isHorse ⟨Nat.le_of_ble_eq_true rfl, Nat.le_of_ble_eq_true rfl⟩ rfl rfl (Nat.le_of_ble_eq_true rfl) ⟨Nat.le_of_ble_eq_true rfl, Nat.le_of_ble_eq_true rfl⟩ dX1_reach_2 (V_zero rfl rfl ?_)
  refine V_if_ne hG 10 dX1_reach_5 (by decide) (fun c_4 => ?_) (fun c_4 => ?_)
  · have h := if_f c_4 h
    refine V_aload_n hG 0 rfl dX1_reach_10 ?_
    refine V_aload_n hG 0 rfl dX1_reach_11 ?_
    obtain ⟨a_5, hr_6, h⟩ := bd_of h
    refine gf_X1_119 hN hG g_1 hr_6 dX1_reach_12 ?_
    obtain ⟨M_8, hc_7, h⟩ := bd_of h
    refine V_callV hE hG (ci := 0) (As := [rf E a_5]) (rest := []) (ok_f_X1_clear hE hN hc_7) g_1 (by decide) rfl hw_X1_316 hdv_X1_clear ⟨Nat.le_of_ble_eq_true rfl, Nat.le_of_ble_eq_true rfl⟩ rfl rfl (Nat.le_of_ble_eq_true rfl) ⟨Nat.le_of_ble_eq_true rfl, Nat.le_of_ble_eq_true rfl⟩ dX1_reach_15 (V_zero rfl rfl ?_)
    refine V_aload_n hG 0 rfl dX1_reach_18 ?_
    obtain ⟨g_9, h⟩ := gd_of h
    obtain ⟨a_10, hr_11, h⟩ := bd_of h
    refine gf_X1_101 hN hG g_9 hr_11 dX1_reach_19 ?_
    refine V_iload_n hG 1 rfl dX1_reach_22 ?_
    obtain ⟨g_12, h⟩ := gd_of h
    obtain ⟨r_14, hc_13, h⟩ := bd_of h
    refine V_callV hE hG (ci := 5) (As := [.int p1]) (rest := []) (ok_f_X6_isOn hE hN hc_13) g_12 (by decide) rfl hw_X1_219 hdv_X6_isOn ⟨Nat.le_of_ble_eq_true rfl, Nat.le_of_ble_eq_true rfl⟩ rfl rfl (Nat.le_of_ble_eq_true rfl) ⟨Nat.le_of_ble_eq_true rfl, Nat.le_of_ble_eq_true rfl⟩ dX1_reach_23 (V_zero rfl rfl ?_)
    obtain ⟨M_15, hj_17, h⟩ := bd_of h
    have J_16 : V E G M_15 0 0 4 52 [(0, rf E p0), (1, .int p1)] [] Q := by
      refine V_iconst hG 0 rfl dX1_reach_52 ?_
      refine V_istore_n hG rfl [(2, .int 0), (0, rf E p0), (1, .int p1)] dX1_reach_53 (Nat.le_of_ble_eq_true rfl) rfl ?_
      refine V_iconst hG 0 rfl dX1_reach_54 ?_
      refine V_istore_n hG rfl [(3, .int 0), (2, .int 0), (0, rf E p0), (1, .int p1)] dX1_reach_55 (Nat.le_of_ble_eq_true rfl) rfl ?_
      obtain ⟨x3_25, x2_26, hL_27, h⟩ := bd2_of h
      have J_22 : ∀ q_28 : Int32 × Int32, q_28 = (x3_25, x2_26) → V E G M_15 0 0 4 90 [(3, .int q_28.1), (2, .int q_28.2), (0, rf E p0), (1, .int p1)] [] Q := by
        intro q_28 e9
        subst q_28
        show V E G M_15 0 0 4 90 [(3, .int x3_25), (2, .int x2_26), (0, rf E p0), (1, .int p1)] [] Q
        refine V_iload_n hG 1 rfl dX1_reach_90 ?_
        cases h
        subst eQ
        exact V_iret hG dX1_reach_91
      refine lp_walk (W := fun s_29 : Int32 × Int32 => V E G M_15 0 0 4 56 [(3, .int s_29.1), (2, .int s_29.2), (0, rf E p0), (1, .int p1)] [] Q) ?_ N (0, 0) hL_27
      intro s_29 b_18 hb_19 hk_20 hx_21
      obtain ⟨x3_23, x2_24⟩ := s_29
      have hb_19 : f_X1_reach_b1 N p0 p1 M_15 x3_23 x2_24 = some b_18 := hb_19
      unfold f_X1_reach_b1 at hb_19
      show V E G M_15 0 0 4 56 [(3, .int x3_23), (2, .int x2_24), (0, rf E p0), (1, .int p1)] [] Q
      refine V_iload_n hG 0 rfl dX1_reach_56 ?_
      refine V_aload_n hG 2 rfl dX1_reach_57 ?_
      obtain ⟨g_30, hb_19⟩ := gd_of hb_19
      obtain ⟨r_32, hc_31, hb_19⟩ := bd_of hb_19
      refine V_callV hE hG (ci := 0) (As := []) (rest := [.int x3_23]) (ok_f_X1_troughs hE hN hc_31) g_30 (by decide) rfl hw_X1_182 hdv_X1_troughs ⟨Nat.le_of_ble_eq_true rfl, Nat.le_of_ble_eq_true rfl⟩ rfl rfl (Nat.le_of_ble_eq_true rfl) ⟨Nat.le_of_ble_eq_true rfl, Nat.le_of_ble_eq_true rfl⟩ dX1_reach_58 (V_zero rfl rfl ?_)
      refine V_icmp_ge hG 90 dX1_reach_61 (by decide) (fun c_33 => ?_) (fun c_33 => ?_)
      · have hb_19 := if_t c_33 hb_19
        cases hb_19
        exact J_22 _ (hx_21 _ rfl)
      · have hb_19 := if_f c_33 hb_19
        refine V_iload_n hG 1 rfl dX1_reach_64 ?_
        refine V_aload_n hG 2 rfl dX1_reach_65 ?_
        obtain ⟨a_34, hr_35, hb_19⟩ := bd_of hb_19
        refine gf_X1_119 hN hG g_30 hr_35 dX1_reach_66 ?_
        refine V_iload_n hG 0 rfl dX1_reach_69 ?_
        obtain ⟨g_36, hb_19⟩ := gd_of hb_19
        obtain ⟨g_37, hb_19⟩ := gd_of hb_19
        refine V_iaload hG g_36 g_37 dX1_reach_70 ?_
        refine V_iconst hG (-1) rfl dX1_reach_71 ?_
        obtain ⟨t_38, et_38, hb_19⟩ := be_of hb_19
        have J_39 : ∀ y_41 : Int32, y_41 = t_38 → V E G M_15 0 0 4 82 [(3, .int x3_23), (2, .int x2_24), (0, rf E p0), (1, .int p1)] [.int y_41, .int x2_24] Q := by
          intro y_41 ey
          subst ey
          refine V_ior hG dX1_reach_82 ?_
          obtain ⟨x2_42, ex2_42, hb_19⟩ := be_of hb_19
          refine V_topi ex2_42 ?_
          refine V_istore_n hG rfl [(2, .int x2_42), (3, .int x3_23), (0, rf E p0), (1, .int p1)] dX1_reach_83 (Nat.le_of_ble_eq_true rfl) rfl ?_
          obtain ⟨x3_43, ex3_43, hb_19⟩ := be_of hb_19
          refine V_iinc hG 1 x3_43 rfl (by rw [ex3_43]; rfl) [(3, .int x3_43), (2, .int x2_42), (0, rf E p0), (1, .int p1)] dX1_reach_84 (Nat.le_of_ble_eq_true rfl) rfl ?_
          refine V_goto hG 56 dX1_reach_87 (by decide) ?_
          cases hb_19
          exact hk_20 _ rfl
        refine V_icmp_eq hG 81 dX1_reach_72 (by decide) (fun c_40 => ?_) (fun c_40 => ?_)
        · refine V_iconst hG 0 rfl dX1_reach_81 ?_
          exact J_39 _ (by rw [et_38, if_pos c_40])
        · refine V_iconst hG 1 rfl dX1_reach_75 ?_
          refine V_iload_n hG 0 rfl dX1_reach_76 ?_
          refine V_ishl hG dX1_reach_77 ?_
          refine V_goto hG 82 dX1_reach_78 (by decide) ?_
          exact J_39 _ (by rw [et_38, if_neg c_40])
    refine V_if_eq hG 52 dX1_reach_26 (by decide) (fun c_44 => ?_) (fun c_44 => ?_)
    · have hj_17 := if_t c_44 hj_17
      cases hj_17
      exact J_16
    · have hj_17 := if_f c_44 hj_17
      refine V_aload_n hG 0 rfl dX1_reach_29 ?_
      refine V_iload_n hG 1 rfl dX1_reach_30 ?_
      refine V_aload_n hG 0 rfl dX1_reach_31 ?_
      obtain ⟨a_45, hr_46, hj_17⟩ := bd_of hj_17
      refine gf_X1_101 hN hG g_9 hr_46 dX1_reach_32 ?_
      obtain ⟨g_47, hj_17⟩ := gd_of hj_17
      obtain ⟨a_48, hr_49, hj_17⟩ := bd_of hj_17
      refine gf_X1_200 hN hG g_47 hr_49 dX1_reach_35 ?_
      refine V_iload_n hG 1 rfl dX1_reach_38 ?_
      obtain ⟨g_50, hj_17⟩ := gd_of hj_17
      obtain ⟨g_51, hj_17⟩ := gd_of hj_17
      refine V_iaload hG g_50 g_51 dX1_reach_39 ?_
      refine V_aload_n hG 0 rfl dX1_reach_40 ?_
      obtain ⟨a_52, hr_53, hj_17⟩ := bd_of hj_17
      refine gf_X1_101 hN hG g_9 hr_53 dX1_reach_41 ?_
      obtain ⟨g_54, hj_17⟩ := gd_of hj_17
      obtain ⟨a_55, hr_56, hj_17⟩ := bd_of hj_17
      refine gf_X1_203 hN hG g_54 hr_56 dX1_reach_44 ?_
      refine V_iload_n hG 1 rfl dX1_reach_47 ?_
      obtain ⟨g_57, hj_17⟩ := gd_of hj_17
      obtain ⟨g_58, hj_17⟩ := gd_of hj_17
      refine V_iaload hG g_57 g_58 dX1_reach_48 ?_
      obtain ⟨M_60, hc_59, hj_17⟩ := bd_of hj_17
      refine V_callV hE hG (ci := 0) (As := [.int p1, .int (mI M_8 a_48 (Int32.toNatClampNeg p1)), .int (mI M_8 a_55 (Int32.toNatClampNeg p1))]) (rest := []) (ok_f_X1_leg hE hN hc_59) g_9 (by decide) rfl hw_X1_319 hdv_X1_leg ⟨Nat.le_of_ble_eq_true rfl, Nat.le_of_ble_eq_true rfl⟩ rfl rfl (Nat.le_of_ble_eq_true rfl) ⟨Nat.le_of_ble_eq_true rfl, Nat.le_of_ble_eq_true rfl⟩ dX1_reach_49 (V_zero rfl rfl ?_)
      cases hj_17
      exact J_16
  · have h := if_t c_4 h
    refine V_iconst hG (-1) rfl dX1_reach_8 ?_
    cases h
    subst eQ
    exact V_iret hG dX1_reach_9

def f_X1_restOf_b1 (N : Nat) (p0 : Nat) (p1 : Int32) (p2 : Int32) (p3 : Int32) (M : Mem) (x5_6 : Int32) (x4_7 : Int32) : Option (((Int32 × Int32) ⊕ (Int32)) ⊕ (Int32 × Int32)) :=
if 4 ≤ x5_6 then (
some (.inl (.inl (x5_6, x4_7))))
else (
gd (mT M p0 = 0) (
bd (f_X1_isRest p0 p1 p2 (x5_6 / 2) (x5_6 - x5_6 / 2 * 2) M) fun (r_23 : Int32) =>
if r_23 = 0 then (
be (x5_6 + 1) fun (x5_30 : Int32) =>
some (.inr (x5_30, x4_7)))
else (
if x4_7 = p3 then (
some (.inl (.inr ((10 * (x5_6 / 2)) + (x5_6 - x5_6 / 2 * 2)))))
else (
be (x4_7 + 1) fun (x4_26 : Int32) =>
be (x5_6 + 1) fun (x5_27 : Int32) =>
some (.inr (x5_27, x4_26))))))
def f_X1_restOf (N : Nat) (p0 : Nat) (p1 : Int32) (p2 : Int32) (p3 : Int32) (M : Mem) : Option (Int32) :=
bx2 (lp N (fun s_19 : Int32 × Int32 => f_X1_restOf_b1 N p0 p1 p2 p3 M s_19.1 s_19.2) (0, 0)) (fun (x5_9 : Int32) (x4_10 : Int32) =>
be (if p3 = (-1) then (
x4_10)
else (
(-2)) : Int32) fun (y_18 : Int32) =>
some y_18) (fun (w_31 : Int32) => some w_31)
def rm_f_X1_restOf : Room := { frames := 6, cells := 0, slots := 0, locals := 133 }
theorem ok_f_X1_restOf {E : En} (hE : EOk E) (hN : NOk E) {N : Nat} {p0 : Nat} {p1 : Int32} {p2 : Int32} {p3 : Int32} {M : Mem} {r : Int32} (h : f_X1_restOf N p0 p1 p2 p3 M = some r) : CM E yX1_restOf cX1_restOf 6 (some .int) rm_f_X1_restOf [rf E p0, .int p1, .int p2, .int p3] M (some (.int r)) M := by
  unfold f_X1_restOf at h
  refine CM_introX (own := RX1) rfl (by decide +kernel) (Nat.le_of_ble_eq_true rfl) rfl (fun G hG hEn hI => ?_)
  obtain ⟨Q, eQ⟩ : ∃ Q, Q = QM E G (some (.int r)) M 0 0 := ⟨_, rfl⟩
  show V E G M 0 0 6 0 [(0, rf E p0), (1, .int p1), (2, .int p2), (3, .int p3)] [] (QM E G (some (.int r)) M 0 0)
  rw [← eQ]
  refine V_iconst hG 0 rfl dX1_restOf_0 ?_
  refine V_istore hG [(4, .int 0), (0, rf E p0), (1, .int p1), (2, .int p2), (3, .int p3)] dX1_restOf_1 (Nat.le_of_ble_eq_true rfl) rfl ?_
  refine V_iconst hG 0 rfl dX1_restOf_3 ?_
  refine V_istore hG [(5, .int 0), (4, .int 0), (0, rf E p0), (1, .int p1), (2, .int p2), (3, .int p3)] dX1_restOf_4 (Nat.le_of_ble_eq_true rfl) rfl ?_
  obtain ⟨rr_12, hL_11, hl_13, hr_8⟩ := bx2_of h
  have J_5 : ∀ q_14 : Int32 × Int32, Sum.inl q_14 = rr_12 → V E G M 0 0 6 60 [(5, .int q_14.1), (4, .int q_14.2), (0, rf E p0), (1, .int p1), (2, .int p2), (3, .int p3)] [] Q := by
    intro q_14 e9
    obtain ⟨x5_9, x4_10⟩ := q_14
    have h := hl_13 x5_9 x4_10 e9.symm
    show V E G M 0 0 6 60 [(5, .int x5_9), (4, .int x4_10), (0, rf E p0), (1, .int p1), (2, .int p2), (3, .int p3)] [] Q
    refine V_iload_n hG 5 rfl dX1_restOf_60 ?_
    refine V_iconst hG (-1) rfl dX1_restOf_61 ?_
    obtain ⟨t_15, et_15, h⟩ := be_of h
    have J_16 : ∀ y_18 : Int32, y_18 = t_15 → V E G M 0 0 6 72 [(5, .int x5_9), (4, .int x4_10), (0, rf E p0), (1, .int p1), (2, .int p2), (3, .int p3)] [.int y_18] Q := by
      intro y_18 ey
      subst ey
      cases h
      subst eQ
      exact V_iret hG dX1_restOf_72
    refine V_icmp_ne hG 70 dX1_restOf_62 (by decide) (fun c_17 => ?_) (fun c_17 => ?_)
    · refine V_bipush hG (-2) (by decide) dX1_restOf_70 ?_
      exact J_16 _ (by rw [et_15, if_neg c_17])
    · refine V_iload hG 1 rfl dX1_restOf_65 ?_
      refine V_goto hG 72 dX1_restOf_67 (by decide) ?_
      exact J_16 _ (by rw [et_15, if_pos c_17])
  refine lp_walk (W := fun s_19 : Int32 × Int32 => V E G M 0 0 6 6 [(5, .int s_19.1), (4, .int s_19.2), (0, rf E p0), (1, .int p1), (2, .int p2), (3, .int p3)] [] Q) ?_ N (0, 0) hL_11
  intro s_19 b_1 hb_2 hk_3 hx_4
  obtain ⟨x5_6, x4_7⟩ := s_19
  have hb_2 : f_X1_restOf_b1 N p0 p1 p2 p3 M x5_6 x4_7 = some b_1 := hb_2
  unfold f_X1_restOf_b1 at hb_2
  show V E G M 0 0 6 6 [(5, .int x5_6), (4, .int x4_7), (0, rf E p0), (1, .int p1), (2, .int p2), (3, .int p3)] [] Q
  refine V_iload hG 0 rfl dX1_restOf_6 ?_
  refine V_iconst hG 4 rfl dX1_restOf_8 ?_
  refine V_icmp_ge hG 60 dX1_restOf_9 (by decide) (fun c_20 => ?_) (fun c_20 => ?_)
  · have hb_2 := if_t c_20 hb_2
    cases hb_2
    exact J_5 _ (hx_4 _ rfl)
  · have hb_2 := if_f c_20 hb_2
    refine V_aload_n hG 2 rfl dX1_restOf_12 ?_
    refine V_iload_n hG 3 rfl dX1_restOf_13 ?_
    refine V_iload_n hG 4 rfl dX1_restOf_14 ?_
    refine V_iload hG 0 rfl dX1_restOf_15 ?_
    refine V_iconst hG 2 rfl dX1_restOf_17 ?_
    refine V_idiv hG (by decide) dX1_restOf_18 ?_
    refine V_iload hG 0 rfl dX1_restOf_19 ?_
    refine V_iconst hG 2 rfl dX1_restOf_21 ?_
    refine V_irem hG (by decide) dX1_restOf_22 ?_
    obtain ⟨g_21, hb_2⟩ := gd_of hb_2
    obtain ⟨r_23, hc_22, hb_2⟩ := bd_of hb_2
    refine V_callV hE hG (ci := 0) (As := [.int p1, .int p2, .int (x5_6 / 2), .int (x5_6 - x5_6 / 2 * 2)]) (rest := []) (ok_f_X1_isRest hE hN hc_22) g_21 (by decide) rfl hw_X1_339 hdv_X1_isRest ⟨Nat.le_of_ble_eq_true rfl, Nat.le_of_ble_eq_true rfl⟩ rfl rfl (Nat.le_of_ble_eq_true rfl) ⟨Nat.le_of_ble_eq_true rfl, Nat.le_of_ble_eq_true rfl⟩ dX1_restOf_23 (V_zero rfl rfl ?_)
    refine V_if_ne hG 32 dX1_restOf_26 (by decide) (fun c_24 => ?_) (fun c_24 => ?_)
    · have hb_2 := if_f c_24 hb_2
      refine V_iload hG 1 rfl dX1_restOf_32 ?_
      refine V_iload_n hG 5 rfl dX1_restOf_34 ?_
      refine V_icmp_ne hG 51 dX1_restOf_35 (by decide) (fun c_25 => ?_) (fun c_25 => ?_)
      · have hb_2 := if_f c_25 hb_2
        obtain ⟨x4_26, ex4_26, hb_2⟩ := be_of hb_2
        refine V_iinc hG 1 x4_26 rfl (by rw [ex4_26]; rfl) [(4, .int x4_26), (5, .int x5_6), (0, rf E p0), (1, .int p1), (2, .int p2), (3, .int p3)] dX1_restOf_51 (Nat.le_of_ble_eq_true rfl) rfl ?_
        obtain ⟨x5_27, ex5_27, hb_2⟩ := be_of hb_2
        refine V_iinc hG 1 x5_27 rfl (by rw [ex5_27]; rfl) [(5, .int x5_27), (4, .int x4_26), (0, rf E p0), (1, .int p1), (2, .int p2), (3, .int p3)] dX1_restOf_54 (Nat.le_of_ble_eq_true rfl) rfl ?_
        refine V_goto hG 6 dX1_restOf_57 (by decide) ?_
        cases hb_2
        exact hk_3 _ rfl
      · have hb_2 := if_t c_25 hb_2
        refine V_bipush hG 10 (by decide) dX1_restOf_38 ?_
        refine V_iload hG 0 rfl dX1_restOf_40 ?_
        refine V_iconst hG 2 rfl dX1_restOf_42 ?_
        refine V_idiv hG (by decide) dX1_restOf_43 ?_
        refine V_imul hG dX1_restOf_44 ?_
        refine V_iload hG 0 rfl dX1_restOf_45 ?_
        refine V_iconst hG 2 rfl dX1_restOf_47 ?_
        refine V_irem hG (by decide) dX1_restOf_48 ?_
        refine V_iadd hG dX1_restOf_49 ?_
        cases hb_2
        have e_28 := hx_4 _ rfl
        have h_29 : some ((10 * (x5_6 / 2)) + (x5_6 - x5_6 / 2 * 2)) = some r := hr_8 _ e_28.symm
        cases h_29
        subst eQ
        exact V_iret hG dX1_restOf_50
    · have hb_2 := if_t c_24 hb_2
      refine V_goto hG 54 dX1_restOf_29 (by decide) ?_
      obtain ⟨x5_30, ex5_30, hb_2⟩ := be_of hb_2
      refine V_iinc hG 0 x5_30 rfl (by rw [ex5_30]; rfl) [(5, .int x5_30), (4, .int x4_7), (0, rf E p0), (1, .int p1), (2, .int p2), (3, .int p3)] dX1_restOf_54 (Nat.le_of_ble_eq_true rfl) rfl ?_
      refine V_goto hG 6 dX1_restOf_57 (by decide) ?_
      cases hb_2
      exact hk_3 _ rfl

def f_X1_rest (N : Nat) (p0 : Nat) (p1 : Int32) (p2 : Int32) (p3 : Int32) (M : Mem) : Option (Int32) :=
gd (mT M p0 = 0) (
bd (f_X1_areTwo p0 p1 p2 M) fun (r_3 : Int32) =>
bd (if r_3 = 0 then (
some (-1))
else (
if p3 < 0 then (
some (-1))
else (
bd (f_X1_restOf N p0 p1 p2 p3 M) fun (r_10 : Int32) =>
some r_10)) : Option (Int32)) fun (t_4 : Int32) =>
some t_4)
def rm_f_X1_rest : Room := { frames := 7, cells := 0, slots := 0, locals := 158 }
theorem ok_f_X1_rest {E : En} (hE : EOk E) (hN : NOk E) {N : Nat} {p0 : Nat} {p1 : Int32} {p2 : Int32} {p3 : Int32} {M : Mem} {r : Int32} (h : f_X1_rest N p0 p1 p2 p3 M = some r) : CM E yX1_rest cX1_rest 4 (some .int) rm_f_X1_rest [rf E p0, .int p1, .int p2, .int p3] M (some (.int r)) M := by
  unfold f_X1_rest at h
  refine CM_introX (own := RX1) rfl (by decide +kernel) (Nat.le_of_ble_eq_true rfl) rfl (fun G hG hEn hI => ?_)
  obtain ⟨Q, eQ⟩ : ∃ Q, Q = QM E G (some (.int r)) M 0 0 := ⟨_, rfl⟩
  show V E G M 0 0 4 0 [(0, rf E p0), (1, .int p1), (2, .int p2), (3, .int p3)] [] (QM E G (some (.int r)) M 0 0)
  rw [← eQ]
  refine V_aload_n hG 0 rfl dX1_rest_0 ?_
  refine V_iload_n hG 1 rfl dX1_rest_1 ?_
  refine V_iload_n hG 2 rfl dX1_rest_2 ?_
  obtain ⟨g_1, h⟩ := gd_of h
  obtain ⟨r_3, hc_2, h⟩ := bd_of h
  refine V_callV hE hG (ci := 0) (As := [.int p1, .int p2]) (rest := []) (ok_f_X1_areTwo hE hN hc_2) g_1 (by decide) rfl hw_X1_303 hdv_X1_areTwo ⟨Nat.le_of_ble_eq_true rfl, Nat.le_of_ble_eq_true rfl⟩ rfl rfl (Nat.le_of_ble_eq_true rfl) ⟨Nat.le_of_ble_eq_true rfl, Nat.le_of_ble_eq_true rfl⟩ dX1_rest_3 (V_zero rfl rfl ?_)
  obtain ⟨t_4, hj_6, h⟩ := bd_of h
  have J_5 : V E G M 0 0 4 24 [(0, rf E p0), (1, .int p1), (2, .int p2), (3, .int p3)] [.int t_4] Q := by
    cases h
    subst eQ
    exact V_iret hG dX1_rest_24
  refine V_if_eq hG 23 dX1_rest_6 (by decide) (fun c_7 => ?_) (fun c_7 => ?_)
  · have hj_6 := if_t c_7 hj_6
    refine V_iconst hG (-1) rfl dX1_rest_23 ?_
    cases hj_6
    exact J_5
  · have hj_6 := if_f c_7 hj_6
    refine V_iload_n hG 3 rfl dX1_rest_9 ?_
    refine V_if_lt hG 23 dX1_rest_10 (by decide) (fun c_8 => ?_) (fun c_8 => ?_)
    · have hj_6 := if_t c_8 hj_6
      refine V_iconst hG (-1) rfl dX1_rest_23 ?_
      cases hj_6
      exact J_5
    · have hj_6 := if_f c_8 hj_6
      refine V_aload_n hG 0 rfl dX1_rest_13 ?_
      refine V_iload_n hG 1 rfl dX1_rest_14 ?_
      refine V_iload_n hG 2 rfl dX1_rest_15 ?_
      refine V_iload_n hG 3 rfl dX1_rest_16 ?_
      obtain ⟨r_10, hc_9, hj_6⟩ := bd_of hj_6
      refine V_callV hE hG (ci := 0) (As := [.int p1, .int p2, .int p3]) (rest := []) (ok_f_X1_restOf hE hN hc_9) g_1 (by decide) rfl hw_X1_343 hdv_X1_restOf ⟨Nat.le_of_ble_eq_true rfl, Nat.le_of_ble_eq_true rfl⟩ rfl rfl (Nat.le_of_ble_eq_true rfl) ⟨Nat.le_of_ble_eq_true rfl, Nat.le_of_ble_eq_true rfl⟩ dX1_rest_17 (V_zero rfl rfl ?_)
      refine V_goto hG 24 dX1_rest_20 (by decide) ?_
      cases hj_6
      exact J_5

def f_X1_rests (N : Nat) (p0 : Nat) (p1 : Int32) (p2 : Int32) (M : Mem) : Option (Int32) :=
gd (mT M p0 = 0) (
bd (f_X1_areTwo p0 p1 p2 M) fun (r_3 : Int32) =>
bd (if r_3 = 0 then (
some (-1))
else (
bd (f_X1_restOf N p0 p1 p2 (-1) M) fun (r_9 : Int32) =>
some r_9) : Option (Int32)) fun (t_4 : Int32) =>
some t_4)
def rm_f_X1_rests : Room := { frames := 7, cells := 0, slots := 0, locals := 158 }
theorem ok_f_X1_rests {E : En} (hE : EOk E) (hN : NOk E) {N : Nat} {p0 : Nat} {p1 : Int32} {p2 : Int32} {M : Mem} {r : Int32} (h : f_X1_rests N p0 p1 p2 M = some r) : CM E yX1_rests cX1_rests 3 (some .int) rm_f_X1_rests [rf E p0, .int p1, .int p2] M (some (.int r)) M := by
  unfold f_X1_rests at h
  refine CM_introX (own := RX1) rfl (by decide +kernel) (Nat.le_of_ble_eq_true rfl) rfl (fun G hG hEn hI => ?_)
  obtain ⟨Q, eQ⟩ : ∃ Q, Q = QM E G (some (.int r)) M 0 0 := ⟨_, rfl⟩
  show V E G M 0 0 3 0 [(0, rf E p0), (1, .int p1), (2, .int p2)] [] (QM E G (some (.int r)) M 0 0)
  rw [← eQ]
  refine V_aload_n hG 0 rfl dX1_rests_0 ?_
  refine V_iload_n hG 1 rfl dX1_rests_1 ?_
  refine V_iload_n hG 2 rfl dX1_rests_2 ?_
  obtain ⟨g_1, h⟩ := gd_of h
  obtain ⟨r_3, hc_2, h⟩ := bd_of h
  refine V_callV hE hG (ci := 0) (As := [.int p1, .int p2]) (rest := []) (ok_f_X1_areTwo hE hN hc_2) g_1 (by decide) rfl hw_X1_303 hdv_X1_areTwo ⟨Nat.le_of_ble_eq_true rfl, Nat.le_of_ble_eq_true rfl⟩ rfl rfl (Nat.le_of_ble_eq_true rfl) ⟨Nat.le_of_ble_eq_true rfl, Nat.le_of_ble_eq_true rfl⟩ dX1_rests_3 (V_zero rfl rfl ?_)
  obtain ⟨t_4, hj_6, h⟩ := bd_of h
  have J_5 : V E G M 0 0 3 20 [(0, rf E p0), (1, .int p1), (2, .int p2)] [.int t_4] Q := by
    cases h
    subst eQ
    exact V_iret hG dX1_rests_20
  refine V_if_eq hG 19 dX1_rests_6 (by decide) (fun c_7 => ?_) (fun c_7 => ?_)
  · have hj_6 := if_t c_7 hj_6
    refine V_iconst hG (-1) rfl dX1_rests_19 ?_
    cases hj_6
    exact J_5
  · have hj_6 := if_f c_7 hj_6
    refine V_aload_n hG 0 rfl dX1_rests_9 ?_
    refine V_iload_n hG 1 rfl dX1_rests_10 ?_
    refine V_iload_n hG 2 rfl dX1_rests_11 ?_
    refine V_iconst hG (-1) rfl dX1_rests_12 ?_
    obtain ⟨r_9, hc_8, hj_6⟩ := bd_of hj_6
    refine V_callV hE hG (ci := 0) (As := [.int p1, .int p2, .int (-1)]) (rest := []) (ok_f_X1_restOf hE hN hc_8) g_1 (by decide) rfl hw_X1_343 hdv_X1_restOf ⟨Nat.le_of_ble_eq_true rfl, Nat.le_of_ble_eq_true rfl⟩ rfl rfl (Nat.le_of_ble_eq_true rfl) ⟨Nat.le_of_ble_eq_true rfl, Nat.le_of_ble_eq_true rfl⟩ dX1_rests_13 (V_zero rfl rfl ?_)
    refine V_goto hG 20 dX1_rests_16 (by decide) ?_
    cases hj_6
    exact J_5

def f_X1_round_b1 (N : Nat) (x4_15 : Int32) (p0 : Nat) (p1 : Int32) (M : Mem) (x5_21 : Int32) (x3_22 : Int32) (x2_23 : Int32) : Option ((Int32 × Int32 × Int32) ⊕ (Int32 × Int32 × Int32)) :=
gd (mT M p0 = 0) (
bd (f_X1_troughs p0 M) fun (r_38 : Int32) =>
if r_38 ≤ x5_21 then (
some (.inl (x5_21, x3_22, x2_23)))
else (
bd (f_X1_trough p0 x5_21 M) fun (r_41 : Nat) =>
gd (mT M r_41 = 7) (
bd (f_J8_min x2_23 (mI M r_41 0) M) fun (r_44 : Int32) =>
bd (f_X1_trough p0 x5_21 M) fun (r_46 : Nat) =>
gd (mT M r_46 = 7) (
bd (f_J8_max x3_22 (mI M r_46 0) M) fun (r_49 : Int32) =>
be (x5_21 + 1) fun (x5_50 : Int32) =>
some (.inr (x5_50, r_49, r_44))))))
def f_X1_round (N : Nat) (p0 : Nat) (p1 : Int32) (M : Mem) : Option (Int32) :=
gd (mT M p0 = 0) (
bd (f_X1_isHorse p0 p1 M) fun (r_3 : Int32) =>
if r_3 = 0 then (
some (-1))
else (
bd (f_X1_troughs p0 M) fun (r_6 : Int32) =>
if r_6 = 0 then (
some 0)
else (
bd (mR M p0 9) fun (a_8 : Nat) =>
gd (mT M a_8 = 5) (
bd (mR M a_8 0) fun (a_11 : Nat) =>
gd (mT M a_11 = 100) (
gd (inb p1 (mLn M a_11)) (
be (mI M a_11 (Int32.toNatClampNeg p1)) fun (x4_15 : Int32) =>
bd3 (lp N (fun s_35 : Int32 × Int32 × Int32 => f_X1_round_b1 N x4_15 p0 p1 M s_35.1 s_35.2.1 s_35.2.2) (0, 0, 60)) fun (x5_24 : Int32) (x3_25 : Int32) (x2_26 : Int32) =>
bd (f_J8_abs (x4_15 - x2_26) M) fun (r_30 : Int32) =>
bd (f_J8_abs (x4_15 - x3_25) M) fun (r_32 : Int32) =>
bd (f_J8_min r_30 r_32 M) fun (r_34 : Int32) =>
some ((x3_25 - x2_26) + r_34)))))))
def rm_f_X1_round : Room := { frames := 4, cells := 0, slots := 0, locals := 85 }
theorem ok_f_X1_round {E : En} (hE : EOk E) (hN : NOk E) {N : Nat} {p0 : Nat} {p1 : Int32} {M : Mem} {r : Int32} (h : f_X1_round N p0 p1 M = some r) : CM E yX1_round cX1_round 6 (some .int) rm_f_X1_round [rf E p0, .int p1] M (some (.int r)) M := by
  unfold f_X1_round at h
  refine CM_introX (own := RX1) rfl (by decide +kernel) (Nat.le_of_ble_eq_true rfl) rfl (fun G hG hEn hI => ?_)
  obtain ⟨Q, eQ⟩ : ∃ Q, Q = QM E G (some (.int r)) M 0 0 := ⟨_, rfl⟩
  show V E G M 0 0 6 0 [(0, rf E p0), (1, .int p1)] [] (QM E G (some (.int r)) M 0 0)
  rw [← eQ]
  refine V_aload_n hG 0 rfl dX1_round_0 ?_
  refine V_iload_n hG 1 rfl dX1_round_1 ?_
  obtain ⟨g_1, h⟩ := gd_of h
  obtain ⟨r_3, hc_2, h⟩ := bd_of h
  refine V_callV hE hG (ci := 0) (As := [.int p1]) (rest := []) (ok_f_X1_isHorse hE hN hc_2) g_1 (by decide) rfl hw_X1_186 hdv_X1_isHorse ⟨Nat.le_of_ble_eq_true rfl, Nat.le_of_ble_eq_true rfl⟩ rfl rfl (Nat.le_of_ble_eq_true rfl) ⟨Nat.le_of_ble_eq_true rfl, Nat.le_of_ble_eq_true rfl⟩ dX1_round_2 (V_zero rfl rfl ?_)
  refine V_if_ne hG 10 dX1_round_5 (by decide) (fun c_4 => ?_) (fun c_4 => ?_)
  · have h := if_f c_4 h
    refine V_aload_n hG 0 rfl dX1_round_10 ?_
    obtain ⟨r_6, hc_5, h⟩ := bd_of h
    refine V_callV hE hG (ci := 0) (As := []) (rest := []) (ok_f_X1_troughs hE hN hc_5) g_1 (by decide) rfl hw_X1_182 hdv_X1_troughs ⟨Nat.le_of_ble_eq_true rfl, Nat.le_of_ble_eq_true rfl⟩ rfl rfl (Nat.le_of_ble_eq_true rfl) ⟨Nat.le_of_ble_eq_true rfl, Nat.le_of_ble_eq_true rfl⟩ dX1_round_11 (V_zero rfl rfl ?_)
    refine V_if_ne hG 19 dX1_round_14 (by decide) (fun c_7 => ?_) (fun c_7 => ?_)
    · have h := if_f c_7 h
      refine V_bipush hG 60 (by decide) dX1_round_19 ?_
      refine V_istore_n hG rfl [(2, .int 60), (0, rf E p0), (1, .int p1)] dX1_round_21 (Nat.le_of_ble_eq_true rfl) rfl ?_
      refine V_iconst hG 0 rfl dX1_round_22 ?_
      refine V_istore_n hG rfl [(3, .int 0), (2, .int 60), (0, rf E p0), (1, .int p1)] dX1_round_23 (Nat.le_of_ble_eq_true rfl) rfl ?_
      refine V_aload_n hG 2 rfl dX1_round_24 ?_
      obtain ⟨a_8, hr_9, h⟩ := bd_of h
      refine gf_X1_101 hN hG g_1 hr_9 dX1_round_25 ?_
      obtain ⟨g_10, h⟩ := gd_of h
      obtain ⟨a_11, hr_12, h⟩ := bd_of h
      refine gf_X1_200 hN hG g_10 hr_12 dX1_round_28 ?_
      refine V_iload_n hG 3 rfl dX1_round_31 ?_
      obtain ⟨g_13, h⟩ := gd_of h
      obtain ⟨g_14, h⟩ := gd_of h
      refine V_iaload hG g_13 g_14 dX1_round_32 ?_
      obtain ⟨x4_15, ex4_15, h⟩ := be_of h
      refine V_topi ex4_15 ?_
      refine V_istore hG [(4, .int x4_15), (3, .int 0), (2, .int 60), (0, rf E p0), (1, .int p1)] dX1_round_33 (Nat.le_of_ble_eq_true rfl) rfl ?_
      refine V_iconst hG 0 rfl dX1_round_35 ?_
      refine V_istore hG [(5, .int 0), (4, .int x4_15), (3, .int 0), (2, .int 60), (0, rf E p0), (1, .int p1)] dX1_round_36 (Nat.le_of_ble_eq_true rfl) rfl ?_
      obtain ⟨x5_24, x3_25, x2_26, hL_27, h⟩ := bd3_of h
      have J_20 : ∀ q_28 : Int32 × Int32 × Int32, q_28 = (x5_24, x3_25, x2_26) → V E G M 0 0 6 81 [(5, .int q_28.1), (4, .int x4_15), (3, .int q_28.2.1), (2, .int q_28.2.2), (0, rf E p0), (1, .int p1)] [] Q := by
        intro q_28 e9
        subst q_28
        show V E G M 0 0 6 81 [(5, .int x5_24), (4, .int x4_15), (3, .int x3_25), (2, .int x2_26), (0, rf E p0), (1, .int p1)] [] Q
        refine V_iload_n hG 2 rfl dX1_round_81 ?_
        refine V_iload_n hG 3 rfl dX1_round_82 ?_
        refine V_isub hG dX1_round_83 ?_
        refine V_iload hG 1 rfl dX1_round_84 ?_
        refine V_iload_n hG 3 rfl dX1_round_86 ?_
        refine V_isub hG dX1_round_87 ?_
        obtain ⟨r_30, hc_29, h⟩ := bd_of h
        refine V_callS hE hG (As := [.int (x4_15 - x2_26)]) (rest := [.int (x3_25 - x2_26)]) (ok_f_J8_abs hE hN hc_29) hw_X1_261 hdc_J8_abs ⟨Nat.le_of_ble_eq_true rfl, Nat.le_of_ble_eq_true rfl⟩ rfl rfl (Nat.le_of_ble_eq_true rfl) ⟨Nat.le_of_ble_eq_true rfl, Nat.le_of_ble_eq_true rfl⟩ dX1_round_88 (V_zero rfl rfl ?_)
        refine V_iload hG 1 rfl dX1_round_91 ?_
        refine V_iload_n hG 2 rfl dX1_round_93 ?_
        refine V_isub hG dX1_round_94 ?_
        obtain ⟨r_32, hc_31, h⟩ := bd_of h
        refine V_callS hE hG (As := [.int (x4_15 - x3_25)]) (rest := [.int r_30, .int (x3_25 - x2_26)]) (ok_f_J8_abs hE hN hc_31) hw_X1_261 hdc_J8_abs ⟨Nat.le_of_ble_eq_true rfl, Nat.le_of_ble_eq_true rfl⟩ rfl rfl (Nat.le_of_ble_eq_true rfl) ⟨Nat.le_of_ble_eq_true rfl, Nat.le_of_ble_eq_true rfl⟩ dX1_round_95 (V_zero rfl rfl ?_)
        obtain ⟨r_34, hc_33, h⟩ := bd_of h
        refine V_callS hE hG (As := [.int r_30, .int r_32]) (rest := [.int (x3_25 - x2_26)]) (ok_f_J8_min hE hN hc_33) hw_X1_266 hdc_J8_min ⟨Nat.le_of_ble_eq_true rfl, Nat.le_of_ble_eq_true rfl⟩ rfl rfl (Nat.le_of_ble_eq_true rfl) ⟨Nat.le_of_ble_eq_true rfl, Nat.le_of_ble_eq_true rfl⟩ dX1_round_98 (V_zero rfl rfl ?_)
        refine V_iadd hG dX1_round_101 ?_
        cases h
        subst eQ
        exact V_iret hG dX1_round_102
      refine lp_walk (W := fun s_35 : Int32 × Int32 × Int32 => V E G M 0 0 6 38 [(5, .int s_35.1), (4, .int x4_15), (3, .int s_35.2.1), (2, .int s_35.2.2), (0, rf E p0), (1, .int p1)] [] Q) ?_ N (0, 0, 60) hL_27
      intro s_35 b_16 hb_17 hk_18 hx_19
      obtain ⟨x5_21, x3_22, x2_23⟩ := s_35
      have hb_17 : f_X1_round_b1 N x4_15 p0 p1 M x5_21 x3_22 x2_23 = some b_16 := hb_17
      unfold f_X1_round_b1 at hb_17
      show V E G M 0 0 6 38 [(5, .int x5_21), (4, .int x4_15), (3, .int x3_22), (2, .int x2_23), (0, rf E p0), (1, .int p1)] [] Q
      refine V_iload hG 0 rfl dX1_round_38 ?_
      refine V_aload_n hG 4 rfl dX1_round_40 ?_
      obtain ⟨g_36, hb_17⟩ := gd_of hb_17
      obtain ⟨r_38, hc_37, hb_17⟩ := bd_of hb_17
      refine V_callV hE hG (ci := 0) (As := []) (rest := [.int x5_21]) (ok_f_X1_troughs hE hN hc_37) g_36 (by decide) rfl hw_X1_182 hdv_X1_troughs ⟨Nat.le_of_ble_eq_true rfl, Nat.le_of_ble_eq_true rfl⟩ rfl rfl (Nat.le_of_ble_eq_true rfl) ⟨Nat.le_of_ble_eq_true rfl, Nat.le_of_ble_eq_true rfl⟩ dX1_round_41 (V_zero rfl rfl ?_)
      refine V_icmp_ge hG 81 dX1_round_44 (by decide) (fun c_39 => ?_) (fun c_39 => ?_)
      · have hb_17 := if_t c_39 hb_17
        cases hb_17
        exact J_20 _ (hx_19 _ rfl)
      · have hb_17 := if_f c_39 hb_17
        refine V_iload_n hG 3 rfl dX1_round_47 ?_
        refine V_aload_n hG 4 rfl dX1_round_48 ?_
        refine V_iload hG 0 rfl dX1_round_49 ?_
        obtain ⟨r_41, hc_40, hb_17⟩ := bd_of hb_17
        refine V_callV hE hG (ci := 0) (As := [.int x5_21]) (rest := [.int x2_23]) (ok_f_X1_trough hE hN hc_40) g_36 (by decide) rfl hw_X1_228 hdv_X1_trough ⟨Nat.le_of_ble_eq_true rfl, Nat.le_of_ble_eq_true rfl⟩ rfl rfl (Nat.le_of_ble_eq_true rfl) ⟨Nat.le_of_ble_eq_true rfl, Nat.le_of_ble_eq_true rfl⟩ dX1_round_51 (V_zero rfl rfl ?_)
        obtain ⟨g_42, hb_17⟩ := gd_of hb_17
        refine gf_X1_232 hN hG g_42 dX1_round_54 ?_
        obtain ⟨r_44, hc_43, hb_17⟩ := bd_of hb_17
        refine V_callS hE hG (As := [.int x2_23, .int (mI M r_41 0)]) (rest := []) (ok_f_J8_min hE hN hc_43) hw_X1_266 hdc_J8_min ⟨Nat.le_of_ble_eq_true rfl, Nat.le_of_ble_eq_true rfl⟩ rfl rfl (Nat.le_of_ble_eq_true rfl) ⟨Nat.le_of_ble_eq_true rfl, Nat.le_of_ble_eq_true rfl⟩ dX1_round_57 (V_zero rfl rfl ?_)
        refine V_istore_n hG rfl [(2, .int r_44), (5, .int x5_21), (4, .int x4_15), (3, .int x3_22), (0, rf E p0), (1, .int p1)] dX1_round_60 (Nat.le_of_ble_eq_true rfl) rfl ?_
        refine V_iload_n hG 3 rfl dX1_round_61 ?_
        refine V_aload_n hG 4 rfl dX1_round_62 ?_
        refine V_iload hG 1 rfl dX1_round_63 ?_
        obtain ⟨r_46, hc_45, hb_17⟩ := bd_of hb_17
        refine V_callV hE hG (ci := 0) (As := [.int x5_21]) (rest := [.int x3_22]) (ok_f_X1_trough hE hN hc_45) g_36 (by decide) rfl hw_X1_228 hdv_X1_trough ⟨Nat.le_of_ble_eq_true rfl, Nat.le_of_ble_eq_true rfl⟩ rfl rfl (Nat.le_of_ble_eq_true rfl) ⟨Nat.le_of_ble_eq_true rfl, Nat.le_of_ble_eq_true rfl⟩ dX1_round_65 (V_zero rfl rfl ?_)
        obtain ⟨g_47, hb_17⟩ := gd_of hb_17
        refine gf_X1_232 hN hG g_47 dX1_round_68 ?_
        obtain ⟨r_49, hc_48, hb_17⟩ := bd_of hb_17
        refine V_callS hE hG (As := [.int x3_22, .int (mI M r_46 0)]) (rest := []) (ok_f_J8_max hE hN hc_48) hw_X1_330 hdc_J8_max ⟨Nat.le_of_ble_eq_true rfl, Nat.le_of_ble_eq_true rfl⟩ rfl rfl (Nat.le_of_ble_eq_true rfl) ⟨Nat.le_of_ble_eq_true rfl, Nat.le_of_ble_eq_true rfl⟩ dX1_round_71 (V_zero rfl rfl ?_)
        refine V_istore_n hG rfl [(3, .int r_49), (2, .int r_44), (5, .int x5_21), (4, .int x4_15), (0, rf E p0), (1, .int p1)] dX1_round_74 (Nat.le_of_ble_eq_true rfl) rfl ?_
        obtain ⟨x5_50, ex5_50, hb_17⟩ := be_of hb_17
        refine V_iinc hG 2 x5_50 rfl (by rw [ex5_50]; rfl) [(5, .int x5_50), (3, .int r_49), (2, .int r_44), (4, .int x4_15), (0, rf E p0), (1, .int p1)] dX1_round_75 (Nat.le_of_ble_eq_true rfl) rfl ?_
        refine V_goto hG 38 dX1_round_78 (by decide) ?_
        cases hb_17
        exact V_lv [0, 3, 1, 2, 4, 5] rfl (hk_18 _ rfl)
    · have h := if_t c_7 h
      refine V_iconst hG 0 rfl dX1_round_17 ?_
      cases h
      subst eQ
      exact V_iret hG dX1_round_18
  · have h := if_t c_4 h
    refine V_iconst hG (-1) rfl dX1_round_8 ?_
    cases h
    subst eQ
    exact V_iret hG dX1_round_9
