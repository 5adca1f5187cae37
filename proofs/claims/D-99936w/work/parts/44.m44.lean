set_option maxRecDepth 100000
set_option maxHeartbeats 4000000
def f_X5_by (N : Nat) (p0 : Nat) (p1 : Nat) (p2 : Int32) (p3 : Int32) (p4 : Int32) (M : Mem) : Option (Int32 × Mem) :=
gd (mT M p1 = 5) (
bd (f_X6_name N p1 p2 M) fun (M_3 : Mem) =>
gd (mT M_3 p0 = 4) (
bd (mR M_3 p0 1) fun (a_5 : Nat) =>
gd (mT M_3 a_5 = 0) (
bd (f_X1_wk a_5 p3 M_3) fun (r_9 : Int64) =>
bd (f_X1_within r_9 0 99 p4 M_3) fun (r_11 : Int32) =>
some (r_11, M_3))))
def rm_f_X5_by : Room := { frames := 200, cells := 0, slots := 0, locals := 4007 }
theorem ok_f_X5_by {E : En} (hE : EOk E) (hN : NOk E) {N : Nat} {p0 : Nat} {p1 : Nat} {p2 : Int32} {p3 : Int32} {p4 : Int32} {M : Mem} {r : Int32} {M' : Mem} (h : f_X5_by N p0 p1 p2 p3 p4 M = some (r, M')) : CM E yX5_by cX5_by 5 (some .int) rm_f_X5_by [rf E p0, rf E p1, .int p2, .int p3, .int p4] M (some (.int r)) M' := by
  unfold f_X5_by at h
  refine CM_introX (own := RX5) rfl (by decide +kernel) (Nat.le_of_ble_eq_true rfl) rfl (fun G hG hEn hI => ?_)
  obtain ⟨Q, eQ⟩ : ∃ Q, Q = QM E G (some (.int r)) M' 0 0 := ⟨_, rfl⟩
  show V E G M 0 0 5 0 [(0, rf E p0), (1, rf E p1), (2, .int p2), (3, .int p3), (4, .int p4)] [] (QM E G (some (.int r)) M' 0 0)
  rw [← eQ]
  refine V_aload_n hG 1 rfl dX5_by_0 ?_
  refine V_iload_n hG 2 rfl dX5_by_1 ?_
  obtain ⟨g_1, h⟩ := gd_of h
  obtain ⟨M_3, hc_2, h⟩ := bd_of h
  refine V_callV hE hG (ci := 5) (As := [.int p2]) (rest := []) (ok_f_X6_name hE hN hc_2) g_1 (by decide) rfl hw_X5_15 hdv_X6_name ⟨Nat.le_of_ble_eq_true rfl, Nat.le_of_ble_eq_true rfl⟩ rfl rfl (Nat.le_of_ble_eq_true rfl) ⟨Nat.le_of_ble_eq_true rfl, Nat.le_of_ble_eq_true rfl⟩ dX5_by_2 (V_zero rfl rfl ?_)
  refine V_aload_n hG 0 rfl dX5_by_5 ?_
  obtain ⟨g_4, h⟩ := gd_of h
  obtain ⟨a_5, hr_6, h⟩ := bd_of h
  refine gf_X5_3 hN hG g_4 hr_6 dX5_by_6 ?_
  refine V_iload_n hG 3 rfl dX5_by_9 ?_
  obtain ⟨g_7, h⟩ := gd_of h
  obtain ⟨r_9, hc_8, h⟩ := bd_of h
  refine W_callVNW hE hG hN (ci := 0) (As := [.int p3]) (rest := []) (ok_f_X1_wk hE hN hc_8) g_7 (by decide) rfl q1145 q1054 q123 q1053 qs36 hdc_X1_work ⟨Nat.le_of_ble_eq_true rfl, Nat.le_of_ble_eq_true rfl⟩ rfl rfl (Nat.le_of_ble_eq_true rfl) ⟨Nat.le_of_ble_eq_true rfl, Nat.le_of_ble_eq_true rfl⟩ dX5_by_10 (V_zero rfl rfl ?_)
  refine V_iconst hG 0 rfl dX5_by_13 ?_
  refine V_bipush hG 99 (by decide) dX5_by_14 ?_
  refine V_iload hG 4 rfl dX5_by_16 ?_
  obtain ⟨r_11, hc_10, h⟩ := bd_of h
  refine W_callSN hE hG hN (As := [.long r_9, .int 0, .int 99, .int p4]) (rest := []) (ok_f_X1_within hE hN hc_10) q1146 (lw_meth q1148) q123 q1147 hdc_X1_within ⟨Nat.le_of_ble_eq_true rfl, Nat.le_of_ble_eq_true rfl⟩ rfl rfl (Nat.le_of_ble_eq_true rfl) ⟨Nat.le_of_ble_eq_true rfl, Nat.le_of_ble_eq_true rfl⟩ dX5_by_18 (V_zero rfl rfl ?_)
  cases h
  subst eQ
  exact V_iret hG dX5_by_21

def f_X5_gulps (N : Nat) (p0 : Nat) (p1 : Nat) (p2 : Int32) (M : Mem) : Option (Int32 × Mem) :=
gd (mT M p0 = 4) (
bd (f_X4_gulps p0 p1 p2 M) fun (r_3 : Int32) =>
bd2 (f_X5_by N p0 p1 p2 1 r_3 M) fun (r_6 : Int32) (M_5 : Mem) =>
some (r_6, M_5))
def rm_f_X5_gulps : Room := { frames := 202, cells := 0, slots := 0, locals := 4053 }
theorem ok_f_X5_gulps {E : En} (hE : EOk E) (hN : NOk E) {N : Nat} {p0 : Nat} {p1 : Nat} {p2 : Int32} {M : Mem} {r : Int32} {M' : Mem} (h : f_X5_gulps N p0 p1 p2 M = some (r, M')) : CM E yX5_gulps cX5_gulps 3 (some .int) rm_f_X5_gulps [rf E p0, rf E p1, .int p2] M (some (.int r)) M' := by
  unfold f_X5_gulps at h
  refine CM_introX (own := RX5) rfl (by decide +kernel) (Nat.le_of_ble_eq_true rfl) rfl (fun G hG hEn hI => ?_)
  obtain ⟨Q, eQ⟩ : ∃ Q, Q = QM E G (some (.int r)) M' 0 0 := ⟨_, rfl⟩
  show V E G M 0 0 3 0 [(0, rf E p0), (1, rf E p1), (2, .int p2)] [] (QM E G (some (.int r)) M' 0 0)
  rw [← eQ]
  refine V_aload_n hG 0 rfl dX5_gulps_0 ?_
  refine V_aload_n hG 1 rfl dX5_gulps_1 ?_
  refine V_iload_n hG 2 rfl dX5_gulps_2 ?_
  refine V_iconst hG 1 rfl dX5_gulps_3 ?_
  refine V_aload_n hG 0 rfl dX5_gulps_4 ?_
  refine V_aload_n hG 1 rfl dX5_gulps_5 ?_
  refine V_iload_n hG 2 rfl dX5_gulps_6 ?_
  obtain ⟨g_1, h⟩ := gd_of h
  obtain ⟨r_3, hc_2, h⟩ := bd_of h
  refine W_callSU hE hG (ci := 4) (As := [rf E p1, .int p2]) (rest := [.int 1, .int p2, rf E p1, rf E p0]) (ok_f_X4_gulps hE hN hc_2) g_1 (by decide) rfl hw_X5_37 hds_X4_gulps ⟨Nat.le_of_ble_eq_true rfl, Nat.le_of_ble_eq_true rfl⟩ rfl rfl (Nat.le_of_ble_eq_true rfl) ⟨Nat.le_of_ble_eq_true rfl, Nat.le_of_ble_eq_true rfl⟩ dX5_gulps_7 (V_zero rfl rfl ?_)
  obtain ⟨r_6, M_5, hc_4, h⟩ := bd2_of h
  refine V_callV hE hG (ci := 4) (As := [rf E p1, .int p2, .int 1, .int r_3]) (rest := []) (ok_f_X5_by hE hN hc_4) g_1 (by decide) rfl hw_X5_33 hdv_X5_by ⟨Nat.le_of_ble_eq_true rfl, Nat.le_of_ble_eq_true rfl⟩ rfl rfl (Nat.le_of_ble_eq_true rfl) ⟨Nat.le_of_ble_eq_true rfl, Nat.le_of_ble_eq_true rfl⟩ dX5_gulps_10 (V_zero rfl rfl ?_)
  cases h
  subst eQ
  exact V_iret hG dX5_gulps_13

def f_X6_drink (N : Nat) (p0 : Nat) (p1 : Int32) (M : Mem) : Option (Mem) :=
gd (mT M p0 = 5) (
bd (mR M p0 17) fun (a_2 : Nat) =>
gd (mT M a_2 = 0) (
bd (mR M a_2 6) fun (a_5 : Nat) =>
gd (mT M a_5 = 2) (
bd (mR M a_5 0) fun (a_8 : Nat) =>
bd (mR M p0 0) fun (a_10 : Nat) =>
gd (mT M a_10 = 100) (
gd (inb p1 (mLn M a_10)) (
bd (f_X10_at N a_8 (mI M a_10 (Int32.toNatClampNeg p1)) M) fun (r_15 : Int32) =>
if r_15 = (-1) then (
some M)
else (
bd (mR M p0 1) fun (a_17 : Nat) =>
gd (mT M a_17 = 100) (
gd (inb p1 (mLn M a_17)) (
if mI M a_17 (Int32.toNatClampNeg p1) = 0 then (
some M)
else (
bd (mR M p0 5) fun (a_22 : Nat) =>
gd (mT M a_22 = 100) (
gd (inb r_15 (mLn M a_22)) (
if mI M a_22 (Int32.toNatClampNeg r_15) = 0 then (
some M)
else (
if mI M p0 12 = 1 then (
some M)
else (
bd (mR M p0 17) fun (a_28 : Nat) =>
gd (mT M a_28 = 0) (
bd (mR M a_28 8) fun (a_31 : Nat) =>
gd (mT M a_31 = 4) (
bd2 (f_X5_gulps N a_31 p0 p1 M) fun (r_36 : Int32) (M_35 : Mem) =>
gd (mT M_35 p0 = 5) (
bd (mR M_35 p0 1) fun (a_38 : Nat) =>
gd (mT M_35 a_38 = 100) (
gd (inb p1 (mLn M_35 a_38)) (
bd (mR M_35 p0 5) fun (a_42 : Nat) =>
gd (mT M_35 a_42 = 100) (
gd (inb r_15 (mLn M_35 a_42)) (
bd (f_J8_min (mI M_35 a_38 (Int32.toNatClampNeg p1)) (mI M_35 a_42 (Int32.toNatClampNeg r_15)) M_35) fun (r_47 : Int32) =>
bd (f_J8_min r_36 r_47 M_35) fun (r_49 : Int32) =>
bd (mR M_35 p0 1) fun (a_50 : Nat) =>
gd (mT M_35 a_50 = 100) (
gd (inb p1 (mLn M_35 a_50)) (
gd (inb p1 (mLn M_35 a_50)) (
be (sI M_35 a_50 (Int32.toNatClampNeg p1) ((mI M_35 a_50 (Int32.toNatClampNeg p1)) - r_49)) fun (M_55 : Mem) =>
bd (mR M_55 p0 5) fun (a_60 : Nat) =>
gd (mT M_55 a_60 = 100) (
gd (inb r_15 (mLn M_55 a_60)) (
gd (inb r_15 (mLn M_55 a_60)) (
be (sI M_55 a_60 (Int32.toNatClampNeg r_15) ((mI M_55 a_60 (Int32.toNatClampNeg r_15)) - r_49)) fun (M_65 : Mem) =>
bd (mR M_65 p0 4) fun (a_71 : Nat) =>
gd (mT M_65 a_71 = 100) (
gd (inb p1 (mLn M_65 a_71)) (
be (sI M_65 a_71 (Int32.toNatClampNeg p1) r_49) fun (M_75 : Mem) =>
be (sI M_75 p0 10 ((mI M_75 p0 10) + r_49)) fun (M_82 : Mem) =>
some M_82))))))))))))))))))))))))))))
def rm_f_X6_drink : Room := { frames := 203, cells := 0, slots := 0, locals := 4075 }
theorem ok_f_X6_drink {E : En} (hE : EOk E) (hN : NOk E) {N : Nat} {p0 : Nat} {p1 : Int32} {M : Mem}  {M' : Mem} (h : f_X6_drink N p0 p1 M = some M') : CM E yX6_drink cX6_drink 4 none rm_f_X6_drink [rf E p0, .int p1] M none M' := by
  unfold f_X6_drink at h
  refine CM_introX (own := RX6) rfl (by decide +kernel) (Nat.le_of_ble_eq_true rfl) rfl (fun G hG hEn hI => ?_)
  obtain ⟨Q, eQ⟩ : ∃ Q, Q = QM E G none M' 0 0 := ⟨_, rfl⟩
  show V E G M 0 0 4 0 [(0, rf E p0), (1, .int p1)] [] (QM E G none M' 0 0)
  rw [← eQ]
  refine V_aload_n hG 0 rfl dX6_drink_0 ?_
  obtain ⟨g_1, h⟩ := gd_of h
  obtain ⟨a_2, hr_3, h⟩ := bd_of h
  refine gf_X6_3 hN hG g_1 hr_3 dX6_drink_1 ?_
  obtain ⟨g_4, h⟩ := gd_of h
  obtain ⟨a_5, hr_6, h⟩ := bd_of h
  refine gf_X6_76 hN hG g_4 hr_6 dX6_drink_4 ?_
  obtain ⟨g_7, h⟩ := gd_of h
  obtain ⟨a_8, hr_9, h⟩ := bd_of h
  refine gf_X6_107 hN hG g_7 hr_9 dX6_drink_7 ?_
  refine V_aload_n hG 0 rfl dX6_drink_10 ?_
  obtain ⟨a_10, hr_11, h⟩ := bd_of h
  refine gf_X6_15 hN hG g_1 hr_11 dX6_drink_11 ?_
  refine V_iload_n hG 1 rfl dX6_drink_14 ?_
  obtain ⟨g_12, h⟩ := gd_of h
  obtain ⟨g_13, h⟩ := gd_of h
  refine V_iaload hG g_12 g_13 dX6_drink_15 ?_
  obtain ⟨r_15, hc_14, h⟩ := bd_of h
  refine V_callS hE hG (As := [rf E a_8, .int (mI M a_10 (Int32.toNatClampNeg p1))]) (rest := []) (ok_f_X10_at hE hN hc_14) hw_X6_110 hdc_X10_at ⟨Nat.le_of_ble_eq_true rfl, Nat.le_of_ble_eq_true rfl⟩ rfl rfl (Nat.le_of_ble_eq_true rfl) ⟨Nat.le_of_ble_eq_true rfl, Nat.le_of_ble_eq_true rfl⟩ dX6_drink_16 (V_zero rfl rfl ?_)
  refine V_istore_n hG rfl [(2, .int r_15), (0, rf E p0), (1, .int p1)] dX6_drink_19 (Nat.le_of_ble_eq_true rfl) rfl ?_
  refine V_iload_n hG 0 rfl dX6_drink_20 ?_
  refine V_iconst hG (-1) rfl dX6_drink_21 ?_
  refine V_icmp_eq hG 51 dX6_drink_22 (by decide) (fun c_16 => ?_) (fun c_16 => ?_)
  · have h := if_t c_16 h
    cases h
    subst eQ
    exact V_vret hG dX6_drink_51
  · have h := if_f c_16 h
    refine V_aload_n hG 1 rfl dX6_drink_25 ?_
    obtain ⟨a_17, hr_18, h⟩ := bd_of h
    refine gf_X6_19 hN hG g_1 hr_18 dX6_drink_26 ?_
    refine V_iload_n hG 2 rfl dX6_drink_29 ?_
    obtain ⟨g_19, h⟩ := gd_of h
    obtain ⟨g_20, h⟩ := gd_of h
    refine V_iaload hG g_19 g_20 dX6_drink_30 ?_
    refine V_if_eq hG 51 dX6_drink_31 (by decide) (fun c_21 => ?_) (fun c_21 => ?_)
    · have h := if_t c_21 h
      cases h
      subst eQ
      exact V_vret hG dX6_drink_51
    · have h := if_f c_21 h
      refine V_aload_n hG 1 rfl dX6_drink_34 ?_
      obtain ⟨a_22, hr_23, h⟩ := bd_of h
      refine gf_X6_31 hN hG g_1 hr_23 dX6_drink_35 ?_
      refine V_iload_n hG 0 rfl dX6_drink_38 ?_
      obtain ⟨g_24, h⟩ := gd_of h
      obtain ⟨g_25, h⟩ := gd_of h
      refine V_iaload hG g_24 g_25 dX6_drink_39 ?_
      refine V_if_eq hG 51 dX6_drink_40 (by decide) (fun c_26 => ?_) (fun c_26 => ?_)
      · have h := if_t c_26 h
        cases h
        subst eQ
        exact V_vret hG dX6_drink_51
      · have h := if_f c_26 h
        refine V_aload_n hG 1 rfl dX6_drink_43 ?_
        refine gf_X6_88 hN hG g_1 dX6_drink_44 ?_
        refine V_iconst hG 1 rfl dX6_drink_47 ?_
        refine V_icmp_ne hG 52 dX6_drink_48 (by decide) (fun c_27 => ?_) (fun c_27 => ?_)
        · have h := if_f c_27 h
          refine V_aload_n hG 1 rfl dX6_drink_52 ?_
          obtain ⟨a_28, hr_29, h⟩ := bd_of h
          refine gf_X6_3 hN hG g_1 hr_29 dX6_drink_53 ?_
          obtain ⟨g_30, h⟩ := gd_of h
          obtain ⟨a_31, hr_32, h⟩ := bd_of h
          refine gf_X6_139 hN hG g_30 hr_32 dX6_drink_56 ?_
          refine V_aload_n hG 1 rfl dX6_drink_59 ?_
          refine V_iload_n hG 2 rfl dX6_drink_60 ?_
          obtain ⟨g_33, h⟩ := gd_of h
          obtain ⟨r_36, M_35, hc_34, h⟩ := bd2_of h
          refine W_callU hE hG (ci := 4) (As := [rf E p0, .int p1]) (rest := []) (ok_f_X5_gulps hE hN hc_34) g_33 (by decide) rfl (fun R s args hts _ hR => va_cwO (owner := RX4) 2 hts hw_X6_149 rfl rfl rfl q1167 (by decide +kernel) (by rw [hR]; exact ⟨Nat.le_of_ble_eq_true rfl, Nat.le_of_ble_eq_true rfl⟩)) rfl rfl (Nat.le_of_ble_eq_true rfl) ⟨Nat.le_of_ble_eq_true rfl, Nat.le_of_ble_eq_true rfl⟩ dX6_drink_61 (V_zero rfl rfl ?_)
          refine V_aload_n hG 1 rfl dX6_drink_64 ?_
          obtain ⟨g_37, h⟩ := gd_of h
          obtain ⟨a_38, hr_39, h⟩ := bd_of h
          refine gf_X6_19 hN hG g_37 hr_39 dX6_drink_65 ?_
          refine V_iload_n hG 2 rfl dX6_drink_68 ?_
          obtain ⟨g_40, h⟩ := gd_of h
          obtain ⟨g_41, h⟩ := gd_of h
          refine V_iaload hG g_40 g_41 dX6_drink_69 ?_
          refine V_aload_n hG 1 rfl dX6_drink_70 ?_
          obtain ⟨a_42, hr_43, h⟩ := bd_of h
          refine gf_X6_31 hN hG g_37 hr_43 dX6_drink_71 ?_
          refine V_iload_n hG 0 rfl dX6_drink_74 ?_
          obtain ⟨g_44, h⟩ := gd_of h
          obtain ⟨g_45, h⟩ := gd_of h
          refine V_iaload hG g_44 g_45 dX6_drink_75 ?_
          obtain ⟨r_47, hc_46, h⟩ := bd_of h
          refine V_callS hE hG (As := [.int (mI M_35 a_38 (Int32.toNatClampNeg p1)), .int (mI M_35 a_42 (Int32.toNatClampNeg r_15))]) (rest := [.int r_36]) (ok_f_J8_min hE hN hc_46) hw_X6_132 hdc_J8_min ⟨Nat.le_of_ble_eq_true rfl, Nat.le_of_ble_eq_true rfl⟩ rfl rfl (Nat.le_of_ble_eq_true rfl) ⟨Nat.le_of_ble_eq_true rfl, Nat.le_of_ble_eq_true rfl⟩ dX6_drink_76 (V_zero rfl rfl ?_)
          obtain ⟨r_49, hc_48, h⟩ := bd_of h
          refine V_callS hE hG (As := [.int r_36, .int r_47]) (rest := []) (ok_f_J8_min hE hN hc_48) hw_X6_132 hdc_J8_min ⟨Nat.le_of_ble_eq_true rfl, Nat.le_of_ble_eq_true rfl⟩ rfl rfl (Nat.le_of_ble_eq_true rfl) ⟨Nat.le_of_ble_eq_true rfl, Nat.le_of_ble_eq_true rfl⟩ dX6_drink_79 (V_zero rfl rfl ?_)
          refine V_istore_n hG rfl [(3, .int r_49), (2, .int r_15), (0, rf E p0), (1, .int p1)] dX6_drink_82 (Nat.le_of_ble_eq_true rfl) rfl ?_
          refine V_aload_n hG 2 rfl dX6_drink_83 ?_
          obtain ⟨a_50, hr_51, h⟩ := bd_of h
          refine gf_X6_19 hN hG g_37 hr_51 dX6_drink_84 ?_
          refine V_iload_n hG 3 rfl dX6_drink_87 ?_
          refine V_dup2 hG rfl rfl dX6_drink_88 ?_
          obtain ⟨g_52, h⟩ := gd_of h
          obtain ⟨g_53, h⟩ := gd_of h
          refine V_iaload hG g_52 g_53 dX6_drink_89 ?_
          refine V_iload_n hG 0 rfl dX6_drink_90 ?_
          refine V_isub hG dX6_drink_91 ?_
          obtain ⟨g_54, h⟩ := gd_of h
          obtain ⟨M_55, eM_55, h⟩ := be_of h
          refine W_iastore hG g_52 g_54 M_55 eM_55 dX6_drink_92 ?_
          have g_56 : mT M_55 p0 = 5 := by rw [eM_55]; exact g_37
          have g_57 : mT M_55 a_38 = 100 := by rw [eM_55]; exact g_40
          have g_58 : mT M_55 a_42 = 100 := by rw [eM_55]; exact g_44
          have g_59 : mT M_55 a_50 = 100 := by rw [eM_55]; exact g_52
          refine V_aload_n hG 2 rfl dX6_drink_93 ?_
          obtain ⟨a_60, hr_61, h⟩ := bd_of h
          refine gf_X6_31 hN hG g_56 hr_61 dX6_drink_94 ?_
          refine V_iload_n hG 1 rfl dX6_drink_97 ?_
          refine V_dup2 hG rfl rfl dX6_drink_98 ?_
          obtain ⟨g_62, h⟩ := gd_of h
          obtain ⟨g_63, h⟩ := gd_of h
          refine V_iaload hG g_62 g_63 dX6_drink_99 ?_
          refine V_iload_n hG 0 rfl dX6_drink_100 ?_
          refine V_isub hG dX6_drink_101 ?_
          obtain ⟨g_64, h⟩ := gd_of h
          obtain ⟨M_65, eM_65, h⟩ := be_of h
          refine W_iastore hG g_62 g_64 M_65 eM_65 dX6_drink_102 ?_
          have g_66 : mT M_65 p0 = 5 := by rw [eM_65]; exact g_56
          have g_67 : mT M_65 a_38 = 100 := by rw [eM_65]; exact g_57
          have g_68 : mT M_65 a_42 = 100 := by rw [eM_65]; exact g_58
          have g_69 : mT M_65 a_50 = 100 := by rw [eM_65]; exact g_59
          have g_70 : mT M_65 a_60 = 100 := by rw [eM_65]; exact g_62
          refine V_aload_n hG 2 rfl dX6_drink_103 ?_
          obtain ⟨a_71, hr_72, h⟩ := bd_of h
          refine gf_X6_28 hN hG g_66 hr_72 dX6_drink_104 ?_
          refine V_iload_n hG 3 rfl dX6_drink_107 ?_
          refine V_iload_n hG 0 rfl dX6_drink_108 ?_
          obtain ⟨g_73, h⟩ := gd_of h
          obtain ⟨g_74, h⟩ := gd_of h
          obtain ⟨M_75, eM_75, h⟩ := be_of h
          refine W_iastore hG g_73 g_74 M_75 eM_75 dX6_drink_109 ?_
          have g_76 : mT M_75 p0 = 5 := by rw [eM_75]; exact g_66
          have g_77 : mT M_75 a_38 = 100 := by rw [eM_75]; exact g_67
          have g_78 : mT M_75 a_42 = 100 := by rw [eM_75]; exact g_68
          have g_79 : mT M_75 a_50 = 100 := by rw [eM_75]; exact g_69
          have g_80 : mT M_75 a_60 = 100 := by rw [eM_75]; exact g_70
          have g_81 : mT M_75 a_71 = 100 := by rw [eM_75]; exact g_73
          refine V_aload_n hG 2 rfl dX6_drink_110 ?_
          refine V_dup hG rfl dX6_drink_111 ?_
          refine gf_X6_73 hN hG g_76 dX6_drink_112 ?_
          refine V_iload_n hG 0 rfl dX6_drink_115 ?_
          refine V_iadd hG dX6_drink_116 ?_
          obtain ⟨M_82, eM_82, h⟩ := be_of h
          refine pf_X6_73 hN hG g_76 eM_82 dX6_drink_117 ?_
          have g_83 : mT M_82 p0 = 5 := by rw [eM_82]; exact g_76
          have g_84 : mT M_82 a_38 = 100 := by rw [eM_82]; exact g_77
          have g_85 : mT M_82 a_42 = 100 := by rw [eM_82]; exact g_78
          have g_86 : mT M_82 a_50 = 100 := by rw [eM_82]; exact g_79
          have g_87 : mT M_82 a_60 = 100 := by rw [eM_82]; exact g_80
          have g_88 : mT M_82 a_71 = 100 := by rw [eM_82]; exact g_81
          cases h
          subst eQ
          exact V_vret hG dX6_drink_120
        · have h := if_t c_27 h
          cases h
          subst eQ
          exact V_vret hG dX6_drink_51

def f_X5_fights (N : Nat) (p0 : Nat) (p1 : Nat) (p2 : Int32) (M : Mem) : Option (Int32 × Mem) :=
gd (mT M p0 = 4) (
bd (f_X4_fights p0 p1 p2 M) fun (r_3 : Int32) =>
bd2 (f_X5_by N p0 p1 p2 2 r_3 M) fun (r_6 : Int32) (M_5 : Mem) =>
some (r_6, M_5))
def rm_f_X5_fights : Room := { frames := 201, cells := 0, slots := 0, locals := 4031 }
theorem ok_f_X5_fights {E : En} (hE : EOk E) (hN : NOk E) {N : Nat} {p0 : Nat} {p1 : Nat} {p2 : Int32} {M : Mem} {r : Int32} {M' : Mem} (h : f_X5_fights N p0 p1 p2 M = some (r, M')) : CM E yX5_fights cX5_fights 3 (some .int) rm_f_X5_fights [rf E p0, rf E p1, .int p2] M (some (.int r)) M' := by
  unfold f_X5_fights at h
  refine CM_introX (own := RX5) rfl (by decide +kernel) (Nat.le_of_ble_eq_true rfl) rfl (fun G hG hEn hI => ?_)
  obtain ⟨Q, eQ⟩ : ∃ Q, Q = QM E G (some (.int r)) M' 0 0 := ⟨_, rfl⟩
  show V E G M 0 0 3 0 [(0, rf E p0), (1, rf E p1), (2, .int p2)] [] (QM E G (some (.int r)) M' 0 0)
  rw [← eQ]
  refine V_aload_n hG 0 rfl dX5_fights_0 ?_
  refine V_aload_n hG 1 rfl dX5_fights_1 ?_
  refine V_iload_n hG 2 rfl dX5_fights_2 ?_
  refine V_iconst hG 2 rfl dX5_fights_3 ?_
  refine V_aload_n hG 0 rfl dX5_fights_4 ?_
  refine V_aload_n hG 1 rfl dX5_fights_5 ?_
  refine V_iload_n hG 2 rfl dX5_fights_6 ?_
  obtain ⟨g_1, h⟩ := gd_of h
  obtain ⟨r_3, hc_2, h⟩ := bd_of h
  refine W_callSU hE hG (ci := 4) (As := [rf E p1, .int p2]) (rest := [.int 2, .int p2, rf E p1, rf E p0]) (ok_f_X4_fights hE hN hc_2) g_1 (by decide) rfl hw_X5_40 hds_X4_fights ⟨Nat.le_of_ble_eq_true rfl, Nat.le_of_ble_eq_true rfl⟩ rfl rfl (Nat.le_of_ble_eq_true rfl) ⟨Nat.le_of_ble_eq_true rfl, Nat.le_of_ble_eq_true rfl⟩ dX5_fights_7 (V_zero rfl rfl ?_)
  obtain ⟨r_6, M_5, hc_4, h⟩ := bd2_of h
  refine V_callV hE hG (ci := 4) (As := [rf E p1, .int p2, .int 2, .int r_3]) (rest := []) (ok_f_X5_by hE hN hc_4) g_1 (by decide) rfl hw_X5_33 hdv_X5_by ⟨Nat.le_of_ble_eq_true rfl, Nat.le_of_ble_eq_true rfl⟩ rfl rfl (Nat.le_of_ble_eq_true rfl) ⟨Nat.le_of_ble_eq_true rfl, Nat.le_of_ble_eq_true rfl⟩ dX5_fights_10 (V_zero rfl rfl ?_)
  cases h
  subst eQ
  exact V_iret hG dX5_fights_13

def f_X6_meet (N : Nat) (p0 : Nat) (p1 : Int32) (p2 : Int32) (M : Mem) : Option (Mem) :=
gd (mT M p0 = 5) (
bd (mR M p0 17) fun (a_2 : Nat) =>
gd (mT M a_2 = 0) (
bd (f_X1_horse a_2 p1 M) fun (r_6 : Nat) =>
gd (mT M r_6 = 8) (
bd (mR M p0 17) fun (a_8 : Nat) =>
gd (mT M a_8 = 0) (
bd (f_X1_horse a_8 p2 M) fun (r_12 : Nat) =>
gd (mT M r_12 = 8) (
bd (mR M p0 17) fun (a_14 : Nat) =>
gd (mT M a_14 = 0) (
bd (f_X1_horse a_14 p2 M) fun (r_18 : Nat) =>
gd (mT M r_18 = 8) (
bd (mR M p0 17) fun (a_20 : Nat) =>
gd (mT M a_20 = 0) (
bd (f_X1_horse a_20 p1 M) fun (r_24 : Nat) =>
gd (mT M r_24 = 8) (
be ((1 <<< (((4 * (mI M r_6 2)) + (mI M r_12 2)) &&& 31)) ||| (1 <<< (((4 * (mI M r_18 2)) + (mI M r_24 2)) &&& 31))) fun (x3_26 : Int32) =>
bd (mR M p0 4) fun (a_27 : Nat) =>
gd (mT M a_27 = 100) (
gd (inb p1 (mLn M a_27)) (
bd (mR M p0 4) fun (a_31 : Nat) =>
gd (mT M a_31 = 100) (
gd (inb p2 (mLn M a_31)) (
if (mI M a_27 (Int32.toNatClampNeg p1)) + (mI M a_31 (Int32.toNatClampNeg p2)) ≤ 0 then (
bd (if mI M p0 14 = (-1) then (
bd (mR M p0 0) fun (a_95 : Nat) =>
gd (mT M a_95 = 100) (
gd (inb p1 (mLn M a_95)) (
be (sI M p0 14 (mI M a_95 (Int32.toNatClampNeg p1))) fun (M_99 : Mem) =>
some M_99)))
else (
some M) : Option (Mem)) fun (M_36 : Mem) =>
gd (mT M_36 p0 = 5) (
be (sI M_36 p0 8 ((mI M_36 p0 8) + 1)) fun (M_40 : Mem) =>
be (sI M_40 p0 16 ((mI M_40 p0 16) ||| x3_26)) fun (M_42 : Mem) =>
bd (mR M_42 p0 17) fun (a_44 : Nat) =>
gd (mT M_42 a_44 = 0) (
bd (mR M_42 a_44 8) fun (a_47 : Nat) =>
gd (mT M_42 a_47 = 4) (
bd2 (f_X5_fights N a_47 p0 p1 M_42) fun (r_52 : Int32) (M_51 : Mem) =>
gd (mT M_51 p0 = 5) (
bd (mR M_51 p0 17) fun (a_54 : Nat) =>
gd (mT M_51 a_54 = 0) (
bd (mR M_51 a_54 8) fun (a_57 : Nat) =>
gd (mT M_51 a_57 = 4) (
bd2 (f_X5_fights N a_57 p0 p2 M_51) fun (r_62 : Int32) (M_61 : Mem) =>
gd (mT M_61 p0 = 5) (
bd (mR M_61 p0 3) fun (a_64 : Nat) =>
bd (mR M_61 p0 3) fun (a_66 : Nat) =>
gd (mT M_61 a_66 = 100) (
gd (inb p1 (mLn M_61 a_66)) (
bd (f_J8_min 9999 ((mI M_61 a_66 (Int32.toNatClampNeg p1)) + r_52) M_61) fun (r_71 : Int32) =>
gd (mT M_61 a_64 = 100) (
gd (inb p1 (mLn M_61 a_64)) (
be (sI M_61 a_64 (Int32.toNatClampNeg p1) r_71) fun (M_74 : Mem) =>
bd (mR M_74 p0 3) fun (a_78 : Nat) =>
bd (mR M_74 p0 3) fun (a_80 : Nat) =>
gd (mT M_74 a_80 = 100) (
gd (inb p2 (mLn M_74 a_80)) (
bd (f_J8_min 9999 ((mI M_74 a_80 (Int32.toNatClampNeg p2)) + r_62) M_74) fun (r_85 : Int32) =>
gd (mT M_74 a_78 = 100) (
gd (inb p2 (mLn M_74 a_78)) (
be (sI M_74 a_78 (Int32.toNatClampNeg p2) r_85) fun (M_88 : Mem) =>
some M_88))))))))))))))))
else (
be (sI M p0 9 ((mI M p0 9) + 1)) fun (M_112 : Mem) =>
be (sI M_112 p0 15 ((mI M_112 p0 15) ||| x3_26)) fun (M_124 : Mem) =>
some M_124))))))))))))))
def rm_f_X6_meet : Room := { frames := 202, cells := 0, slots := 0, locals := 4053 }
theorem ok_f_X6_meet {E : En} (hE : EOk E) (hN : NOk E) {N : Nat} {p0 : Nat} {p1 : Int32} {p2 : Int32} {M : Mem}  {M' : Mem} (h : f_X6_meet N p0 p1 p2 M = some M') : CM E yX6_meet cX6_meet 6 none rm_f_X6_meet [rf E p0, .int p1, .int p2] M none M' := by
  unfold f_X6_meet at h
  refine CM_introX (own := RX6) rfl (by decide +kernel) (Nat.le_of_ble_eq_true rfl) rfl (fun G hG hEn hI => ?_)
  obtain ⟨Q, eQ⟩ : ∃ Q, Q = QM E G none M' 0 0 := ⟨_, rfl⟩
  show V E G M 0 0 6 0 [(0, rf E p0), (1, .int p1), (2, .int p2)] [] (QM E G none M' 0 0)
  rw [← eQ]
  refine V_iconst hG 1 rfl dX6_meet_0 ?_
  refine V_iconst hG 4 rfl dX6_meet_1 ?_
  refine V_aload_n hG 0 rfl dX6_meet_2 ?_
  obtain ⟨g_1, h⟩ := gd_of h
  obtain ⟨a_2, hr_3, h⟩ := bd_of h
  refine gf_X6_3 hN hG g_1 hr_3 dX6_meet_3 ?_
  refine V_iload_n hG 1 rfl dX6_meet_6 ?_
  obtain ⟨g_4, h⟩ := gd_of h
  obtain ⟨r_6, hc_5, h⟩ := bd_of h
  refine W_callVN hE hG hN (ci := 0) (As := [.int p1]) (rest := [.int 4, .int 1]) (ok_f_X1_horse hE hN hc_5) g_4 (by decide) rfl q400 (lw_meth q403) q123 q402 qs1 hdc_X1_horse ⟨Nat.le_of_ble_eq_true rfl, Nat.le_of_ble_eq_true rfl⟩ rfl rfl (Nat.le_of_ble_eq_true rfl) ⟨Nat.le_of_ble_eq_true rfl, Nat.le_of_ble_eq_true rfl⟩ dX6_meet_7 (V_zero rfl rfl ?_)
  obtain ⟨g_7, h⟩ := gd_of h
  refine gf_X6_123 hN hG g_7 dX6_meet_10 ?_
  refine V_imul hG dX6_meet_13 ?_
  refine V_aload_n hG 0 rfl dX6_meet_14 ?_
  obtain ⟨a_8, hr_9, h⟩ := bd_of h
  refine gf_X6_3 hN hG g_1 hr_9 dX6_meet_15 ?_
  refine V_iload_n hG 2 rfl dX6_meet_18 ?_
  obtain ⟨g_10, h⟩ := gd_of h
  obtain ⟨r_12, hc_11, h⟩ := bd_of h
  refine W_callVN hE hG hN (ci := 0) (As := [.int p2]) (rest := [.int (4 * (mI M r_6 2)), .int 1]) (ok_f_X1_horse hE hN hc_11) g_10 (by decide) rfl q400 (lw_meth q403) q123 q402 qs1 hdc_X1_horse ⟨Nat.le_of_ble_eq_true rfl, Nat.le_of_ble_eq_true rfl⟩ rfl rfl (Nat.le_of_ble_eq_true rfl) ⟨Nat.le_of_ble_eq_true rfl, Nat.le_of_ble_eq_true rfl⟩ dX6_meet_19 (V_zero rfl rfl ?_)
  obtain ⟨g_13, h⟩ := gd_of h
  refine gf_X6_123 hN hG g_13 dX6_meet_22 ?_
  refine V_iadd hG dX6_meet_25 ?_
  refine V_ishl hG dX6_meet_26 ?_
  refine V_iconst hG 1 rfl dX6_meet_27 ?_
  refine V_iconst hG 4 rfl dX6_meet_28 ?_
  refine V_aload_n hG 0 rfl dX6_meet_29 ?_
  obtain ⟨a_14, hr_15, h⟩ := bd_of h
  refine gf_X6_3 hN hG g_1 hr_15 dX6_meet_30 ?_
  refine V_iload_n hG 2 rfl dX6_meet_33 ?_
  obtain ⟨g_16, h⟩ := gd_of h
  obtain ⟨r_18, hc_17, h⟩ := bd_of h
  refine W_callVN hE hG hN (ci := 0) (As := [.int p2]) (rest := [.int 4, .int 1, .int (1 <<< (((4 * (mI M r_6 2)) + (mI M r_12 2)) &&& 31))]) (ok_f_X1_horse hE hN hc_17) g_16 (by decide) rfl q400 (lw_meth q403) q123 q402 qs1 hdc_X1_horse ⟨Nat.le_of_ble_eq_true rfl, Nat.le_of_ble_eq_true rfl⟩ rfl rfl (Nat.le_of_ble_eq_true rfl) ⟨Nat.le_of_ble_eq_true rfl, Nat.le_of_ble_eq_true rfl⟩ dX6_meet_34 (V_zero rfl rfl ?_)
  obtain ⟨g_19, h⟩ := gd_of h
  refine gf_X6_123 hN hG g_19 dX6_meet_37 ?_
  refine V_imul hG dX6_meet_40 ?_
  refine V_aload_n hG 0 rfl dX6_meet_41 ?_
  obtain ⟨a_20, hr_21, h⟩ := bd_of h
  refine gf_X6_3 hN hG g_1 hr_21 dX6_meet_42 ?_
  refine V_iload_n hG 1 rfl dX6_meet_45 ?_
  obtain ⟨g_22, h⟩ := gd_of h
  obtain ⟨r_24, hc_23, h⟩ := bd_of h
  refine W_callVN hE hG hN (ci := 0) (As := [.int p1]) (rest := [.int (4 * (mI M r_18 2)), .int 1, .int (1 <<< (((4 * (mI M r_6 2)) + (mI M r_12 2)) &&& 31))]) (ok_f_X1_horse hE hN hc_23) g_22 (by decide) rfl q400 (lw_meth q403) q123 q402 qs1 hdc_X1_horse ⟨Nat.le_of_ble_eq_true rfl, Nat.le_of_ble_eq_true rfl⟩ rfl rfl (Nat.le_of_ble_eq_true rfl) ⟨Nat.le_of_ble_eq_true rfl, Nat.le_of_ble_eq_true rfl⟩ dX6_meet_46 (V_zero rfl rfl ?_)
  obtain ⟨g_25, h⟩ := gd_of h
  refine gf_X6_123 hN hG g_25 dX6_meet_49 ?_
  refine V_iadd hG dX6_meet_52 ?_
  refine V_ishl hG dX6_meet_53 ?_
  refine V_ior hG dX6_meet_54 ?_
  obtain ⟨x3_26, ex3_26, h⟩ := be_of h
  refine V_topi ex3_26 ?_
  refine V_istore_n hG rfl [(3, .int x3_26), (0, rf E p0), (1, .int p1), (2, .int p2)] dX6_meet_55 (Nat.le_of_ble_eq_true rfl) rfl ?_
  refine V_aload_n hG 1 rfl dX6_meet_56 ?_
  obtain ⟨a_27, hr_28, h⟩ := bd_of h
  refine gf_X6_28 hN hG g_1 hr_28 dX6_meet_57 ?_
  refine V_iload_n hG 2 rfl dX6_meet_60 ?_
  obtain ⟨g_29, h⟩ := gd_of h
  obtain ⟨g_30, h⟩ := gd_of h
  refine V_iaload hG g_29 g_30 dX6_meet_61 ?_
  refine V_aload_n hG 1 rfl dX6_meet_62 ?_
  obtain ⟨a_31, hr_32, h⟩ := bd_of h
  refine gf_X6_28 hN hG g_1 hr_32 dX6_meet_63 ?_
  refine V_iload_n hG 3 rfl dX6_meet_66 ?_
  obtain ⟨g_33, h⟩ := gd_of h
  obtain ⟨g_34, h⟩ := gd_of h
  refine V_iaload hG g_33 g_34 dX6_meet_67 ?_
  refine V_iadd hG dX6_meet_68 ?_
  refine V_if_le hG 93 dX6_meet_69 (by decide) (fun c_35 => ?_) (fun c_35 => ?_)
  · have h := if_t c_35 h
    refine V_aload_n hG 1 rfl dX6_meet_93 ?_
    refine gf_X6_152 hN hG g_1 dX6_meet_94 ?_
    refine V_iconst hG (-1) rfl dX6_meet_97 ?_
    obtain ⟨M_36, hj_38, h⟩ := bd_of h
    have J_37 : V E G M_36 0 0 6 111 [(3, .int x3_26), (0, rf E p0), (1, .int p1), (2, .int p2)] [] Q := by
      refine V_aload_n hG 1 rfl dX6_meet_111 ?_
      refine V_dup hG rfl dX6_meet_112 ?_
      obtain ⟨g_39, h⟩ := gd_of h
      refine gf_X6_67 hN hG g_39 dX6_meet_113 ?_
      refine V_iconst hG 1 rfl dX6_meet_116 ?_
      refine V_iadd hG dX6_meet_117 ?_
      obtain ⟨M_40, eM_40, h⟩ := be_of h
      refine pf_X6_67 hN hG g_39 eM_40 dX6_meet_118 ?_
      have g_41 : mT M_40 p0 = 5 := by rw [eM_40]; exact g_39
      refine V_aload_n hG 1 rfl dX6_meet_121 ?_
      refine V_dup hG rfl dX6_meet_122 ?_
      refine gf_X6_94 hN hG g_41 dX6_meet_123 ?_
      refine V_iload_n hG 0 rfl dX6_meet_126 ?_
      refine V_ior hG dX6_meet_127 ?_
      obtain ⟨M_42, eM_42, h⟩ := be_of h
      refine pf_X6_94 hN hG g_41 eM_42 dX6_meet_128 ?_
      have g_43 : mT M_42 p0 = 5 := by rw [eM_42]; exact g_41
      refine V_aload_n hG 1 rfl dX6_meet_131 ?_
      obtain ⟨a_44, hr_45, h⟩ := bd_of h
      refine gf_X6_3 hN hG g_43 hr_45 dX6_meet_132 ?_
      obtain ⟨g_46, h⟩ := gd_of h
      obtain ⟨a_47, hr_48, h⟩ := bd_of h
      refine gf_X6_139 hN hG g_46 hr_48 dX6_meet_135 ?_
      refine V_aload_n hG 1 rfl dX6_meet_138 ?_
      refine V_iload_n hG 2 rfl dX6_meet_139 ?_
      obtain ⟨g_49, h⟩ := gd_of h
      obtain ⟨r_52, M_51, hc_50, h⟩ := bd2_of h
      refine W_callU hE hG (ci := 4) (As := [rf E p0, .int p1]) (rest := []) (ok_f_X5_fights hE hN hc_50) g_49 (by decide) rfl (fun R s args hts _ hR => va_cwO (owner := RX4) 2 hts hw_X6_155 rfl rfl rfl q1179 (by decide +kernel) (by rw [hR]; exact ⟨Nat.le_of_ble_eq_true rfl, Nat.le_of_ble_eq_true rfl⟩)) rfl rfl (Nat.le_of_ble_eq_true rfl) ⟨Nat.le_of_ble_eq_true rfl, Nat.le_of_ble_eq_true rfl⟩ dX6_meet_140 (V_zero rfl rfl ?_)
      refine V_istore hG [(4, .int r_52), (3, .int x3_26), (0, rf E p0), (1, .int p1), (2, .int p2)] dX6_meet_143 (Nat.le_of_ble_eq_true rfl) rfl ?_
      refine V_aload_n hG 2 rfl dX6_meet_145 ?_
      obtain ⟨g_53, h⟩ := gd_of h
      obtain ⟨a_54, hr_55, h⟩ := bd_of h
      refine gf_X6_3 hN hG g_53 hr_55 dX6_meet_146 ?_
      obtain ⟨g_56, h⟩ := gd_of h
      obtain ⟨a_57, hr_58, h⟩ := bd_of h
      refine gf_X6_139 hN hG g_56 hr_58 dX6_meet_149 ?_
      refine V_aload_n hG 2 rfl dX6_meet_152 ?_
      refine V_iload_n hG 4 rfl dX6_meet_153 ?_
      obtain ⟨g_59, h⟩ := gd_of h
      obtain ⟨r_62, M_61, hc_60, h⟩ := bd2_of h
      refine W_callU hE hG (ci := 4) (As := [rf E p0, .int p2]) (rest := []) (ok_f_X5_fights hE hN hc_60) g_59 (by decide) rfl (fun R s args hts _ hR => va_cwO (owner := RX4) 2 hts hw_X6_155 rfl rfl rfl q1179 (by decide +kernel) (by rw [hR]; exact ⟨Nat.le_of_ble_eq_true rfl, Nat.le_of_ble_eq_true rfl⟩)) rfl rfl (Nat.le_of_ble_eq_true rfl) ⟨Nat.le_of_ble_eq_true rfl, Nat.le_of_ble_eq_true rfl⟩ dX6_meet_154 (V_zero rfl rfl ?_)
      refine V_istore hG [(5, .int r_62), (4, .int r_52), (3, .int x3_26), (0, rf E p0), (1, .int p1), (2, .int p2)] dX6_meet_157 (Nat.le_of_ble_eq_true rfl) rfl ?_
      refine V_aload_n hG 3 rfl dX6_meet_159 ?_
      obtain ⟨g_63, h⟩ := gd_of h
      obtain ⟨a_64, hr_65, h⟩ := bd_of h
      refine gf_X6_25 hN hG g_63 hr_65 dX6_meet_160 ?_
      refine V_iload_n hG 4 rfl dX6_meet_163 ?_
      refine V_sipush hG 9999 (by decide) dX6_meet_164 ?_
      refine V_aload_n hG 3 rfl dX6_meet_167 ?_
      obtain ⟨a_66, hr_67, h⟩ := bd_of h
      refine gf_X6_25 hN hG g_63 hr_67 dX6_meet_168 ?_
      refine V_iload_n hG 4 rfl dX6_meet_171 ?_
      obtain ⟨g_68, h⟩ := gd_of h
      obtain ⟨g_69, h⟩ := gd_of h
      refine V_iaload hG g_68 g_69 dX6_meet_172 ?_
      refine V_iload hG 1 rfl dX6_meet_173 ?_
      refine V_iadd hG dX6_meet_175 ?_
      obtain ⟨r_71, hc_70, h⟩ := bd_of h
      refine V_callS hE hG (As := [.int 9999, .int ((mI M_61 a_66 (Int32.toNatClampNeg p1)) + r_52)]) (rest := [.int p1, rf E a_64]) (ok_f_J8_min hE hN hc_70) hw_X6_132 hdc_J8_min ⟨Nat.le_of_ble_eq_true rfl, Nat.le_of_ble_eq_true rfl⟩ rfl rfl (Nat.le_of_ble_eq_true rfl) ⟨Nat.le_of_ble_eq_true rfl, Nat.le_of_ble_eq_true rfl⟩ dX6_meet_176 (V_zero rfl rfl ?_)
      obtain ⟨g_72, h⟩ := gd_of h
      obtain ⟨g_73, h⟩ := gd_of h
      obtain ⟨M_74, eM_74, h⟩ := be_of h
      refine W_iastore hG g_72 g_73 M_74 eM_74 dX6_meet_179 ?_
      have g_75 : mT M_74 p0 = 5 := by rw [eM_74]; exact g_63
      have g_76 : mT M_74 a_66 = 100 := by rw [eM_74]; exact g_68
      have g_77 : mT M_74 a_64 = 100 := by rw [eM_74]; exact g_72
      refine V_aload_n hG 3 rfl dX6_meet_180 ?_
      obtain ⟨a_78, hr_79, h⟩ := bd_of h
      refine gf_X6_25 hN hG g_75 hr_79 dX6_meet_181 ?_
      refine V_iload_n hG 5 rfl dX6_meet_184 ?_
      refine V_sipush hG 9999 (by decide) dX6_meet_185 ?_
      refine V_aload_n hG 3 rfl dX6_meet_188 ?_
      obtain ⟨a_80, hr_81, h⟩ := bd_of h
      refine gf_X6_25 hN hG g_75 hr_81 dX6_meet_189 ?_
      refine V_iload_n hG 5 rfl dX6_meet_192 ?_
      obtain ⟨g_82, h⟩ := gd_of h
      obtain ⟨g_83, h⟩ := gd_of h
      refine V_iaload hG g_82 g_83 dX6_meet_193 ?_
      refine V_iload hG 0 rfl dX6_meet_194 ?_
      refine V_iadd hG dX6_meet_196 ?_
      obtain ⟨r_85, hc_84, h⟩ := bd_of h
      refine V_callS hE hG (As := [.int 9999, .int ((mI M_74 a_80 (Int32.toNatClampNeg p2)) + r_62)]) (rest := [.int p2, rf E a_78]) (ok_f_J8_min hE hN hc_84) hw_X6_132 hdc_J8_min ⟨Nat.le_of_ble_eq_true rfl, Nat.le_of_ble_eq_true rfl⟩ rfl rfl (Nat.le_of_ble_eq_true rfl) ⟨Nat.le_of_ble_eq_true rfl, Nat.le_of_ble_eq_true rfl⟩ dX6_meet_197 (V_zero rfl rfl ?_)
      obtain ⟨g_86, h⟩ := gd_of h
      obtain ⟨g_87, h⟩ := gd_of h
      obtain ⟨M_88, eM_88, h⟩ := be_of h
      refine W_iastore hG g_86 g_87 M_88 eM_88 dX6_meet_200 ?_
      have g_89 : mT M_88 p0 = 5 := by rw [eM_88]; exact g_75
      have g_90 : mT M_88 a_66 = 100 := by rw [eM_88]; exact g_76
      have g_91 : mT M_88 a_64 = 100 := by rw [eM_88]; exact g_77
      have g_92 : mT M_88 a_80 = 100 := by rw [eM_88]; exact g_82
      have g_93 : mT M_88 a_78 = 100 := by rw [eM_88]; exact g_86
      cases h
      subst eQ
      exact V_vret hG dX6_meet_201
    refine V_icmp_ne hG 111 dX6_meet_98 (by decide) (fun c_94 => ?_) (fun c_94 => ?_)
    · have hj_38 := if_f c_94 hj_38
      cases hj_38
      exact J_37
    · have hj_38 := if_t c_94 hj_38
      refine V_aload_n hG 1 rfl dX6_meet_101 ?_
      refine V_aload_n hG 1 rfl dX6_meet_102 ?_
      obtain ⟨a_95, hr_96, hj_38⟩ := bd_of hj_38
      refine gf_X6_15 hN hG g_1 hr_96 dX6_meet_103 ?_
      refine V_iload_n hG 2 rfl dX6_meet_106 ?_
      obtain ⟨g_97, hj_38⟩ := gd_of hj_38
      obtain ⟨g_98, hj_38⟩ := gd_of hj_38
      refine V_iaload hG g_97 g_98 dX6_meet_107 ?_
      obtain ⟨M_99, eM_99, hj_38⟩ := be_of hj_38
      refine pf_X6_152 hN hG g_1 eM_99 dX6_meet_108 ?_
      have g_100 : mT M_99 p0 = 5 := by rw [eM_99]; exact g_1
      have g_101 : mT M_99 a_2 = 0 := by rw [eM_99]; exact g_4
      have g_102 : mT M_99 r_6 = 8 := by rw [eM_99]; exact g_7
      have g_103 : mT M_99 a_8 = 0 := by rw [eM_99]; exact g_10
      have g_104 : mT M_99 r_12 = 8 := by rw [eM_99]; exact g_13
      have g_105 : mT M_99 a_14 = 0 := by rw [eM_99]; exact g_16
      have g_106 : mT M_99 r_18 = 8 := by rw [eM_99]; exact g_19
      have g_107 : mT M_99 a_20 = 0 := by rw [eM_99]; exact g_22
      have g_108 : mT M_99 r_24 = 8 := by rw [eM_99]; exact g_25
      have g_109 : mT M_99 a_27 = 100 := by rw [eM_99]; exact g_29
      have g_110 : mT M_99 a_31 = 100 := by rw [eM_99]; exact g_33
      have g_111 : mT M_99 a_95 = 100 := by rw [eM_99]; exact g_97
      cases hj_38
      exact J_37
  · have h := if_f c_35 h
    refine V_aload_n hG 1 rfl dX6_meet_72 ?_
    refine V_dup hG rfl dX6_meet_73 ?_
    refine gf_X6_70 hN hG g_1 dX6_meet_74 ?_
    refine V_iconst hG 1 rfl dX6_meet_77 ?_
    refine V_iadd hG dX6_meet_78 ?_
    obtain ⟨M_112, eM_112, h⟩ := be_of h
    refine pf_X6_70 hN hG g_1 eM_112 dX6_meet_79 ?_
    have g_113 : mT M_112 p0 = 5 := by rw [eM_112]; exact g_1
    have g_114 : mT M_112 a_2 = 0 := by rw [eM_112]; exact g_4
    have g_115 : mT M_112 r_6 = 8 := by rw [eM_112]; exact g_7
    have g_116 : mT M_112 a_8 = 0 := by rw [eM_112]; exact g_10
    have g_117 : mT M_112 r_12 = 8 := by rw [eM_112]; exact g_13
    have g_118 : mT M_112 a_14 = 0 := by rw [eM_112]; exact g_16
    have g_119 : mT M_112 r_18 = 8 := by rw [eM_112]; exact g_19
    have g_120 : mT M_112 a_20 = 0 := by rw [eM_112]; exact g_22
    have g_121 : mT M_112 r_24 = 8 := by rw [eM_112]; exact g_25
    have g_122 : mT M_112 a_27 = 100 := by rw [eM_112]; exact g_29
    have g_123 : mT M_112 a_31 = 100 := by rw [eM_112]; exact g_33
    refine V_aload_n hG 1 rfl dX6_meet_82 ?_
    refine V_dup hG rfl dX6_meet_83 ?_
    refine gf_X6_91 hN hG g_113 dX6_meet_84 ?_
    refine V_iload_n hG 0 rfl dX6_meet_87 ?_
    refine V_ior hG dX6_meet_88 ?_
    obtain ⟨M_124, eM_124, h⟩ := be_of h
    refine pf_X6_91 hN hG g_113 eM_124 dX6_meet_89 ?_
    have g_125 : mT M_124 p0 = 5 := by rw [eM_124]; exact g_113
    have g_126 : mT M_124 a_2 = 0 := by rw [eM_124]; exact g_114
    have g_127 : mT M_124 r_6 = 8 := by rw [eM_124]; exact g_115
    have g_128 : mT M_124 a_8 = 0 := by rw [eM_124]; exact g_116
    have g_129 : mT M_124 r_12 = 8 := by rw [eM_124]; exact g_117
    have g_130 : mT M_124 a_14 = 0 := by rw [eM_124]; exact g_118
    have g_131 : mT M_124 r_18 = 8 := by rw [eM_124]; exact g_119
    have g_132 : mT M_124 a_20 = 0 := by rw [eM_124]; exact g_120
    have g_133 : mT M_124 r_24 = 8 := by rw [eM_124]; exact g_121
    have g_134 : mT M_124 a_27 = 100 := by rw [eM_124]; exact g_122
    have g_135 : mT M_124 a_31 = 100 := by rw [eM_124]; exact g_123
    cases h
    subst eQ
    exact V_vret hG dX6_meet_92

def f_X5_dries (N : Nat) (p0 : Nat) (p1 : Nat) (p2 : Int32) (M : Mem) : Option (Int32 × Mem) :=
gd (mT M p0 = 4) (
bd (f_X4_dries p0 p1 p2 M) fun (r_3 : Int32) =>
bd2 (f_X5_by N p0 p1 p2 0 r_3 M) fun (r_6 : Int32) (M_5 : Mem) =>
some (r_6, M_5))
def rm_f_X5_dries : Room := { frames := 201, cells := 0, slots := 0, locals := 4031 }
theorem ok_f_X5_dries {E : En} (hE : EOk E) (hN : NOk E) {N : Nat} {p0 : Nat} {p1 : Nat} {p2 : Int32} {M : Mem} {r : Int32} {M' : Mem} (h : f_X5_dries N p0 p1 p2 M = some (r, M')) : CM E yX5_dries cX5_dries 3 (some .int) rm_f_X5_dries [rf E p0, rf E p1, .int p2] M (some (.int r)) M' := by
  unfold f_X5_dries at h
  refine CM_introX (own := RX5) rfl (by decide +kernel) (Nat.le_of_ble_eq_true rfl) rfl (fun G hG hEn hI => ?_)
  obtain ⟨Q, eQ⟩ : ∃ Q, Q = QM E G (some (.int r)) M' 0 0 := ⟨_, rfl⟩
  show V E G M 0 0 3 0 [(0, rf E p0), (1, rf E p1), (2, .int p2)] [] (QM E G (some (.int r)) M' 0 0)
  rw [← eQ]
  refine V_aload_n hG 0 rfl dX5_dries_0 ?_
  refine V_aload_n hG 1 rfl dX5_dries_1 ?_
  refine V_iload_n hG 2 rfl dX5_dries_2 ?_
  refine V_iconst hG 0 rfl dX5_dries_3 ?_
  refine V_aload_n hG 0 rfl dX5_dries_4 ?_
  refine V_aload_n hG 1 rfl dX5_dries_5 ?_
  refine V_iload_n hG 2 rfl dX5_dries_6 ?_
  obtain ⟨g_1, h⟩ := gd_of h
  obtain ⟨r_3, hc_2, h⟩ := bd_of h
  refine W_callSU hE hG (ci := 4) (As := [rf E p1, .int p2]) (rest := [.int 0, .int p2, rf E p1, rf E p0]) (ok_f_X4_dries hE hN hc_2) g_1 (by decide) rfl hw_X5_29 hds_X4_dries ⟨Nat.le_of_ble_eq_true rfl, Nat.le_of_ble_eq_true rfl⟩ rfl rfl (Nat.le_of_ble_eq_true rfl) ⟨Nat.le_of_ble_eq_true rfl, Nat.le_of_ble_eq_true rfl⟩ dX5_dries_7 (V_zero rfl rfl ?_)
  obtain ⟨r_6, M_5, hc_4, h⟩ := bd2_of h
  refine V_callV hE hG (ci := 4) (As := [rf E p1, .int p2, .int 0, .int r_3]) (rest := []) (ok_f_X5_by hE hN hc_4) g_1 (by decide) rfl hw_X5_33 hdv_X5_by ⟨Nat.le_of_ble_eq_true rfl, Nat.le_of_ble_eq_true rfl⟩ rfl rfl (Nat.le_of_ble_eq_true rfl) ⟨Nat.le_of_ble_eq_true rfl, Nat.le_of_ble_eq_true rfl⟩ dX5_dries_10 (V_zero rfl rfl ?_)
  cases h
  subst eQ
  exact V_iret hG dX5_dries_13

def f_X6_walk (N : Nat) (p0 : Nat) (p1 : Int32) (M : Mem) : Option (Mem) :=
gd (mT M p0 = 5) (
bd (mR M p0 2) fun (a_2 : Nat) =>
gd (mT M a_2 = 100) (
gd (inb p1 (mLn M a_2)) (
bd (if mI M a_2 (Int32.toNatClampNeg p1) = (-1) then (
some M)
else (
bd (mR M p0 17) fun (a_28 : Nat) =>
bd (mR M p0 2) fun (a_30 : Nat) =>
gd (mT M a_30 = 100) (
gd (inb p1 (mLn M a_30)) (
gd (mT M a_28 = 0) (
bd (f_X1_trough a_28 (mI M a_30 (Int32.toNatClampNeg p1)) M) fun (r_36 : Nat) =>
gd (mT M r_36 = 7) (
bd (mR M p0 0) fun (a_38 : Nat) =>
gd (mT M a_38 = 100) (
gd (inb p1 (mLn M a_38)) (
be ((mI M r_36 0) - (mI M a_38 (Int32.toNatClampNeg p1))) fun (x2_42 : Int32) =>
bd (mR M p0 0) fun (a_43 : Nat) =>
gd (mT M a_43 = 100) (
gd (inb p1 (mLn M a_43)) (
bd (f_X6_paceOf p0 p1 M) fun (r_48 : Int32) =>
bd (f_X6_paceOf p0 p1 M) fun (r_50 : Int32) =>
bd (f_J8_min r_50 x2_42 M) fun (r_52 : Int32) =>
bd (f_J8_max (-r_48) r_52 M) fun (r_54 : Int32) =>
gd (inb p1 (mLn M a_43)) (
be (sI M a_43 (Int32.toNatClampNeg p1) ((mI M a_43 (Int32.toNatClampNeg p1)) + r_54)) fun (M_56 : Mem) =>
some M_56)))))))))) : Option (Mem)) fun (M_6 : Mem) =>
gd (mT M_6 p0 = 5) (
bd (mR M_6 p0 1) fun (a_10 : Nat) =>
gd (mT M_6 a_10 = 100) (
gd (inb p1 (mLn M_6 a_10)) (
bd (mR M_6 p0 17) fun (a_14 : Nat) =>
gd (mT M_6 a_14 = 0) (
bd (mR M_6 a_14 8) fun (a_17 : Nat) =>
gd (mT M_6 a_17 = 4) (
bd2 (f_X5_dries N a_17 p0 p1 M_6) fun (r_22 : Int32) (M_21 : Mem) =>
gd (mT M_21 a_10 = 100) (
gd (inb p1 (mLn M_21 a_10)) (
be (sI M_21 a_10 (Int32.toNatClampNeg p1) ((mI M_6 a_10 (Int32.toNatClampNeg p1)) + r_22)) fun (M_25 : Mem) =>
some M_25))))))))))
def rm_f_X6_walk : Room := { frames := 202, cells := 0, slots := 0, locals := 4053 }
theorem ok_f_X6_walk {E : En} (hE : EOk E) (hN : NOk E) {N : Nat} {p0 : Nat} {p1 : Int32} {M : Mem}  {M' : Mem} (h : f_X6_walk N p0 p1 M = some M') : CM E yX6_walk cX6_walk 3 none rm_f_X6_walk [rf E p0, .int p1] M none M' := by
  unfold f_X6_walk at h
  refine CM_introX (own := RX6) rfl (by decide +kernel) (Nat.le_of_ble_eq_true rfl) rfl (fun G hG hEn hI => ?_)
  obtain ⟨Q, eQ⟩ : ∃ Q, Q = QM E G none M' 0 0 := ⟨_, rfl⟩
  show V E G M 0 0 3 0 [(0, rf E p0), (1, .int p1)] [] (QM E G none M' 0 0)
  rw [← eQ]
  refine V_aload_n hG 0 rfl dX6_walk_0 ?_
  obtain ⟨g_1, h⟩ := gd_of h
  obtain ⟨a_2, hr_3, h⟩ := bd_of h
  refine gf_X6_22 hN hG g_1 hr_3 dX6_walk_1 ?_
  refine V_iload_n hG 1 rfl dX6_walk_4 ?_
  obtain ⟨g_4, h⟩ := gd_of h
  obtain ⟨g_5, h⟩ := gd_of h
  refine V_iaload hG g_4 g_5 dX6_walk_5 ?_
  refine V_iconst hG (-1) rfl dX6_walk_6 ?_
  obtain ⟨M_6, hj_8, h⟩ := bd_of h
  have J_7 : V E G M_6 0 0 3 61 [(0, rf E p0), (1, .int p1)] [] Q := by
    refine V_aload_n hG 0 rfl dX6_walk_61 ?_
    obtain ⟨g_9, h⟩ := gd_of h
    obtain ⟨a_10, hr_11, h⟩ := bd_of h
    refine gf_X6_19 hN hG g_9 hr_11 dX6_walk_62 ?_
    refine V_iload_n hG 1 rfl dX6_walk_65 ?_
    refine V_dup2 hG rfl rfl dX6_walk_66 ?_
    obtain ⟨g_12, h⟩ := gd_of h
    obtain ⟨g_13, h⟩ := gd_of h
    refine V_iaload hG g_12 g_13 dX6_walk_67 ?_
    refine V_aload_n hG 0 rfl dX6_walk_68 ?_
    obtain ⟨a_14, hr_15, h⟩ := bd_of h
    refine gf_X6_3 hN hG g_9 hr_15 dX6_walk_69 ?_
    obtain ⟨g_16, h⟩ := gd_of h
    obtain ⟨a_17, hr_18, h⟩ := bd_of h
    refine gf_X6_139 hN hG g_16 hr_18 dX6_walk_72 ?_
    refine V_aload_n hG 0 rfl dX6_walk_75 ?_
    refine V_iload_n hG 1 rfl dX6_walk_76 ?_
    obtain ⟨g_19, h⟩ := gd_of h
    obtain ⟨r_22, M_21, hc_20, h⟩ := bd2_of h
    refine W_callU hE hG (ci := 4) (As := [rf E p0, .int p1]) (rest := [.int (mI M_6 a_10 (Int32.toNatClampNeg p1)), .int p1, rf E a_10]) (ok_f_X5_dries hE hN hc_20) g_19 (by decide) rfl (fun R s args hts _ hR => va_cwO (owner := RX4) 2 hts hw_X6_143 rfl rfl rfl q1155 (by decide +kernel) (by rw [hR]; exact ⟨Nat.le_of_ble_eq_true rfl, Nat.le_of_ble_eq_true rfl⟩)) rfl rfl (Nat.le_of_ble_eq_true rfl) ⟨Nat.le_of_ble_eq_true rfl, Nat.le_of_ble_eq_true rfl⟩ dX6_walk_77 (V_zero rfl rfl ?_)
    refine V_iadd hG dX6_walk_80 ?_
    obtain ⟨g_23, h⟩ := gd_of h
    obtain ⟨g_24, h⟩ := gd_of h
    obtain ⟨M_25, eM_25, h⟩ := be_of h
    refine W_iastore hG g_23 g_24 M_25 eM_25 dX6_walk_81 ?_
    have g_26 : mT M_25 a_10 = 100 := by rw [eM_25]; exact g_23
    cases h
    subst eQ
    exact V_vret hG dX6_walk_82
  refine V_icmp_eq hG 61 dX6_walk_7 (by decide) (fun c_27 => ?_) (fun c_27 => ?_)
  · have hj_8 := if_t c_27 hj_8
    cases hj_8
    exact J_7
  · have hj_8 := if_f c_27 hj_8
    refine V_aload_n hG 0 rfl dX6_walk_10 ?_
    obtain ⟨a_28, hr_29, hj_8⟩ := bd_of hj_8
    refine gf_X6_3 hN hG g_1 hr_29 dX6_walk_11 ?_
    refine V_aload_n hG 0 rfl dX6_walk_14 ?_
    obtain ⟨a_30, hr_31, hj_8⟩ := bd_of hj_8
    refine gf_X6_22 hN hG g_1 hr_31 dX6_walk_15 ?_
    refine V_iload_n hG 1 rfl dX6_walk_18 ?_
    obtain ⟨g_32, hj_8⟩ := gd_of hj_8
    obtain ⟨g_33, hj_8⟩ := gd_of hj_8
    refine V_iaload hG g_32 g_33 dX6_walk_19 ?_
    obtain ⟨g_34, hj_8⟩ := gd_of hj_8
    obtain ⟨r_36, hc_35, hj_8⟩ := bd_of hj_8
    refine W_callVN hE hG hN (ci := 0) (As := [.int (mI M a_30 (Int32.toNatClampNeg p1))]) (rest := []) (ok_f_X1_trough hE hN hc_35) g_34 (by decide) rfl q423 (lw_meth q426) q123 q425 qs3 hdc_X1_trough ⟨Nat.le_of_ble_eq_true rfl, Nat.le_of_ble_eq_true rfl⟩ rfl rfl (Nat.le_of_ble_eq_true rfl) ⟨Nat.le_of_ble_eq_true rfl, Nat.le_of_ble_eq_true rfl⟩ dX6_walk_20 (V_zero rfl rfl ?_)
    obtain ⟨g_37, hj_8⟩ := gd_of hj_8
    refine gf_X6_126 hN hG g_37 dX6_walk_23 ?_
    refine V_aload_n hG 0 rfl dX6_walk_26 ?_
    obtain ⟨a_38, hr_39, hj_8⟩ := bd_of hj_8
    refine gf_X6_15 hN hG g_1 hr_39 dX6_walk_27 ?_
    refine V_iload_n hG 1 rfl dX6_walk_30 ?_
    obtain ⟨g_40, hj_8⟩ := gd_of hj_8
    obtain ⟨g_41, hj_8⟩ := gd_of hj_8
    refine V_iaload hG g_40 g_41 dX6_walk_31 ?_
    refine V_isub hG dX6_walk_32 ?_
    obtain ⟨x2_42, ex2_42, hj_8⟩ := be_of hj_8
    refine V_topi ex2_42 ?_
    refine V_istore_n hG rfl [(2, .int x2_42), (0, rf E p0), (1, .int p1)] dX6_walk_33 (Nat.le_of_ble_eq_true rfl) rfl ?_
    refine V_aload_n hG 1 rfl dX6_walk_34 ?_
    obtain ⟨a_43, hr_44, hj_8⟩ := bd_of hj_8
    refine gf_X6_15 hN hG g_1 hr_44 dX6_walk_35 ?_
    refine V_iload_n hG 2 rfl dX6_walk_38 ?_
    refine V_dup2 hG rfl rfl dX6_walk_39 ?_
    obtain ⟨g_45, hj_8⟩ := gd_of hj_8
    obtain ⟨g_46, hj_8⟩ := gd_of hj_8
    refine V_iaload hG g_45 g_46 dX6_walk_40 ?_
    refine V_aload_n hG 1 rfl dX6_walk_41 ?_
    refine V_iload_n hG 2 rfl dX6_walk_42 ?_
    obtain ⟨r_48, hc_47, hj_8⟩ := bd_of hj_8
    refine V_callV hE hG (ci := 5) (As := [.int p1]) (rest := [.int (mI M a_43 (Int32.toNatClampNeg p1)), .int p1, rf E a_43]) (ok_f_X6_paceOf hE hN hc_47) g_1 (by decide) rfl hw_X6_119 hdv_X6_paceOf ⟨Nat.le_of_ble_eq_true rfl, Nat.le_of_ble_eq_true rfl⟩ rfl rfl (Nat.le_of_ble_eq_true rfl) ⟨Nat.le_of_ble_eq_true rfl, Nat.le_of_ble_eq_true rfl⟩ dX6_walk_43 (V_zero rfl rfl ?_)
    refine V_ineg hG dX6_walk_46 ?_
    refine V_aload_n hG 1 rfl dX6_walk_47 ?_
    refine V_iload_n hG 2 rfl dX6_walk_48 ?_
    obtain ⟨r_50, hc_49, hj_8⟩ := bd_of hj_8
    refine V_callV hE hG (ci := 5) (As := [.int p1]) (rest := [.int (-r_48), .int (mI M a_43 (Int32.toNatClampNeg p1)), .int p1, rf E a_43]) (ok_f_X6_paceOf hE hN hc_49) g_1 (by decide) rfl hw_X6_119 hdv_X6_paceOf ⟨Nat.le_of_ble_eq_true rfl, Nat.le_of_ble_eq_true rfl⟩ rfl rfl (Nat.le_of_ble_eq_true rfl) ⟨Nat.le_of_ble_eq_true rfl, Nat.le_of_ble_eq_true rfl⟩ dX6_walk_49 (V_zero rfl rfl ?_)
    refine V_iload_n hG 0 rfl dX6_walk_52 ?_
    obtain ⟨r_52, hc_51, hj_8⟩ := bd_of hj_8
    refine V_callS hE hG (As := [.int r_50, .int x2_42]) (rest := [.int (-r_48), .int (mI M a_43 (Int32.toNatClampNeg p1)), .int p1, rf E a_43]) (ok_f_J8_min hE hN hc_51) hw_X6_132 hdc_J8_min ⟨Nat.le_of_ble_eq_true rfl, Nat.le_of_ble_eq_true rfl⟩ rfl rfl (Nat.le_of_ble_eq_true rfl) ⟨Nat.le_of_ble_eq_true rfl, Nat.le_of_ble_eq_true rfl⟩ dX6_walk_53 (V_zero rfl rfl ?_)
    obtain ⟨r_54, hc_53, hj_8⟩ := bd_of hj_8
    refine V_callS hE hG (As := [.int (-r_48), .int r_52]) (rest := [.int (mI M a_43 (Int32.toNatClampNeg p1)), .int p1, rf E a_43]) (ok_f_J8_max hE hN hc_53) hw_X6_136 hdc_J8_max ⟨Nat.le_of_ble_eq_true rfl, Nat.le_of_ble_eq_true rfl⟩ rfl rfl (Nat.le_of_ble_eq_true rfl) ⟨Nat.le_of_ble_eq_true rfl, Nat.le_of_ble_eq_true rfl⟩ dX6_walk_56 (V_zero rfl rfl ?_)
    refine V_iadd hG dX6_walk_59 ?_
    obtain ⟨g_55, hj_8⟩ := gd_of hj_8
    obtain ⟨M_56, eM_56, hj_8⟩ := be_of hj_8
    refine W_iastore hG g_45 g_55 M_56 eM_56 dX6_walk_60 ?_
    have g_57 : mT M_56 p0 = 5 := by rw [eM_56]; exact g_1
    have g_58 : mT M_56 a_2 = 100 := by rw [eM_56]; exact g_4
    have g_59 : mT M_56 a_30 = 100 := by rw [eM_56]; exact g_32
    have g_60 : mT M_56 a_28 = 0 := by rw [eM_56]; exact g_34
    have g_61 : mT M_56 r_36 = 7 := by rw [eM_56]; exact g_37
    have g_62 : mT M_56 a_38 = 100 := by rw [eM_56]; exact g_40
    have g_63 : mT M_56 a_43 = 100 := by rw [eM_56]; exact g_45
    cases hj_8
    exact V_lv [1, 2] rfl (J_7)

def f_X6_pass_b6 (N : Nat) (p0 : Nat) (p1 : Int32) (x2_64 : Int32) (S_65 : Mem) : Option ((Int32 × Mem) ⊕ (Int32 × Mem)) :=
gd (mT S_65 p0 = 5) (
bd (mR S_65 p0 17) fun (a_75 : Nat) =>
gd (mT S_65 a_75 = 0) (
bd (f_X1_troughs a_75 S_65) fun (r_79 : Int32) =>
if r_79 ≤ x2_64 then (
some (.inl (x2_64, S_65)))
else (
if (mI S_65 p0 6) - (mI S_65 p0 6) / 10 * 10 = 9 then (
bd2 (f_X6_rains p0 p1 S_65) fun (r_84 : Int32) (M_83 : Mem) =>
bd (if r_84 = 0 then (
some M_83)
else (
gd (mT M_83 p0 = 5) (
bd (mR M_83 p0 5) fun (a_91 : Nat) =>
bd (mR M_83 p0 5) fun (a_93 : Nat) =>
gd (mT M_83 a_93 = 100) (
gd (inb x2_64 (mLn M_83 a_93)) (
bd (mR M_83 p0 17) fun (a_97 : Nat) =>
gd (mT M_83 a_97 = 0) (
bd (f_X1_trough a_97 x2_64 M_83) fun (r_101 : Nat) =>
gd (mT M_83 r_101 = 7) (
bd (f_J8_min 99 ((mI M_83 a_93 (Int32.toNatClampNeg x2_64)) + (mI M_83 r_101 3)) M_83) fun (r_104 : Int32) =>
gd (mT M_83 a_91 = 100) (
gd (inb x2_64 (mLn M_83 a_91)) (
be (sI M_83 a_91 (Int32.toNatClampNeg x2_64) r_104) fun (M_107 : Mem) =>
some M_107)))))))) : Option (Mem)) fun (M_85 : Mem) =>
be (x2_64 + 1) fun (x2_88 : Int32) =>
some (.inr (x2_88, M_85)))
else (
some (.inl (x2_64, S_65))))))
def f_X6_pass_b5 (N : Nat) (p0 : Nat) (p1 : Int32) (x2_53 : Int32) (S_54 : Mem) : Option ((Int32 × Mem) ⊕ (Int32 × Mem)) :=
gd (mT S_54 p0 = 5) (
bd (mR S_54 p0 17) fun (a_115 : Nat) =>
gd (mT S_54 a_115 = 0) (
bd (f_X1_horses a_115 S_54) fun (r_119 : Int32) =>
if r_119 ≤ x2_53 then (
some (.inl (x2_53, S_54)))
else (
bd (mR S_54 p0 1) fun (a_121 : Nat) =>
gd (mT S_54 a_121 = 100) (
gd (inb x2_53 (mLn S_54 a_121)) (
bd (if 100 ≤ mI S_54 a_121 (Int32.toNatClampNeg x2_53) then (
be (sI S_54 p0 7 ((mI S_54 p0 7) &&& ((1 <<< (x2_53 &&& 31)) ^^^ (-1)))) fun (M_130 : Mem) =>
some M_130)
else (
bd (mR S_54 p0 3) fun (a_134 : Nat) =>
gd (mT S_54 a_134 = 100) (
gd (inb x2_53 (mLn S_54 a_134)) (
if mI S_54 a_134 (Int32.toNatClampNeg x2_53) < 100 then (
some S_54)
else (
be (sI S_54 p0 7 ((mI S_54 p0 7) &&& ((1 <<< (x2_53 &&& 31)) ^^^ (-1)))) fun (M_139 : Mem) =>
some M_139)))) : Option (Mem)) fun (M_125 : Mem) =>
be (x2_53 + 1) fun (x2_128 : Int32) =>
some (.inr (x2_128, M_125)))))))
def f_X6_pass_b7 (N : Nat) (x2_42 : Int32) (p0 : Nat) (p1 : Int32) (x3_158 : Int32) (S_159 : Mem) : Option ((Int32 × Mem) ⊕ (Int32 × Mem)) :=
gd (mT S_159 p0 = 5) (
bd (mR S_159 p0 17) fun (a_167 : Nat) =>
gd (mT S_159 a_167 = 0) (
bd (f_X1_horses a_167 S_159) fun (r_171 : Int32) =>
if r_171 ≤ x3_158 then (
some (.inl (x3_158, S_159)))
else (
bd (f_X6_isOn p0 x2_42 S_159) fun (r_174 : Int32) =>
bd (if r_174 = 0 then (
some S_159)
else (
bd (f_X6_isOn p0 x3_158 S_159) fun (r_181 : Int32) =>
if r_181 = 0 then (
some S_159)
else (
bd (mR S_159 p0 0) fun (a_183 : Nat) =>
gd (mT S_159 a_183 = 100) (
gd (inb x2_42 (mLn S_159 a_183)) (
bd (mR S_159 p0 0) fun (a_187 : Nat) =>
gd (mT S_159 a_187 = 100) (
gd (inb x3_158 (mLn S_159 a_187)) (
if mI S_159 a_183 (Int32.toNatClampNeg x2_42) = mI S_159 a_187 (Int32.toNatClampNeg x3_158) then (
bd (mR S_159 p0 17) fun (a_192 : Nat) =>
gd (mT S_159 a_192 = 0) (
bd (f_X1_horse a_192 x2_42 S_159) fun (r_196 : Nat) =>
gd (mT S_159 r_196 = 8) (
bd (mR S_159 p0 17) fun (a_198 : Nat) =>
gd (mT S_159 a_198 = 0) (
bd (f_X1_horse a_198 x3_158 S_159) fun (r_202 : Nat) =>
gd (mT S_159 r_202 = 8) (
if mI S_159 r_196 2 = mI S_159 r_202 2 then (
some S_159)
else (
bd (f_X6_meet N p0 x2_42 x3_158 S_159) fun (M_206 : Mem) =>
some M_206))))))
else (
some S_159))))))) : Option (Mem)) fun (M_175 : Mem) =>
be (x3_158 + 1) fun (x3_178 : Int32) =>
some (.inr (x3_178, M_175)))))
def f_X6_pass_b4 (N : Nat) (p0 : Nat) (p1 : Int32) (x2_42 : Int32) (S_43 : Mem) : Option ((Int32 × Mem) ⊕ (Int32 × Mem)) :=
gd (mT S_43 p0 = 5) (
bd (mR S_43 p0 17) fun (a_146 : Nat) =>
gd (mT S_43 a_146 = 0) (
bd (f_X1_horses a_146 S_43) fun (r_150 : Int32) =>
if r_150 ≤ x2_42 then (
some (.inl (x2_42, S_43)))
else (
be (x2_42 + 1) fun (x3_152 : Int32) =>
bd2 (lp N (fun s_165 : Int32 × Mem => f_X6_pass_b7 N x2_42 p0 p1 s_165.1 s_165.2) (x3_152, S_43)) fun (x3_160 : Int32) (S_161 : Mem) =>
be (x2_42 + 1) fun (x2_164 : Int32) =>
some (.inr (x2_164, S_161)))))
def f_X6_pass_b3 (N : Nat) (p0 : Nat) (p1 : Int32) (x2_31 : Int32) (S_32 : Mem) : Option ((Int32 × Mem) ⊕ (Int32 × Mem)) :=
gd (mT S_32 p0 = 5) (
bd (mR S_32 p0 17) fun (a_209 : Nat) =>
gd (mT S_32 a_209 = 0) (
bd (f_X1_horses a_209 S_32) fun (r_213 : Int32) =>
if r_213 ≤ x2_31 then (
some (.inl (x2_31, S_32)))
else (
bd (mR S_32 p0 4) fun (a_215 : Nat) =>
gd (mT S_32 a_215 = 100) (
gd (inb x2_31 (mLn S_32 a_215)) (
be (sI S_32 a_215 (Int32.toNatClampNeg x2_31) 0) fun (M_219 : Mem) =>
bd (f_X6_isOn p0 x2_31 M_219) fun (r_224 : Int32) =>
bd (if r_224 = 0 then (
some M_219)
else (
bd (f_X6_drink N p0 x2_31 M_219) fun (M_231 : Mem) =>
some M_231) : Option (Mem)) fun (M_225 : Mem) =>
be (x2_31 + 1) fun (x2_228 : Int32) =>
some (.inr (x2_228, M_225)))))))
def f_X6_pass_b2 (N : Nat) (p0 : Nat) (p1 : Int32) (x2_20 : Int32) (S_21 : Mem) : Option ((Int32 × Mem) ⊕ (Int32 × Mem)) :=
gd (mT S_21 p0 = 5) (
bd (mR S_21 p0 17) fun (a_234 : Nat) =>
gd (mT S_21 a_234 = 0) (
bd (f_X1_horses a_234 S_21) fun (r_238 : Int32) =>
if r_238 ≤ x2_20 then (
some (.inl (x2_20, S_21)))
else (
bd (f_X6_isOn p0 x2_20 S_21) fun (r_241 : Int32) =>
bd (if r_241 = 0 then (
some S_21)
else (
bd (f_X6_walk N p0 x2_20 S_21) fun (M_248 : Mem) =>
some M_248) : Option (Mem)) fun (M_242 : Mem) =>
be (x2_20 + 1) fun (x2_245 : Int32) =>
some (.inr (x2_245, M_242)))))
def f_X6_pass_b1 (N : Nat) (p0 : Nat) (p1 : Int32) (x2_9 : Int32) (S_10 : Mem) : Option ((Int32 × Mem) ⊕ (Int32 × Mem)) :=
gd (mT S_10 p0 = 5) (
bd (mR S_10 p0 17) fun (a_251 : Nat) =>
gd (mT S_10 a_251 = 0) (
bd (mR S_10 a_251 6) fun (a_254 : Nat) =>
gd (mT S_10 a_254 = 2) (
bd (mR S_10 a_254 2) fun (a_257 : Nat) =>
gd (mT S_10 a_257 = 3) (
bd (f_J2_size a_257 S_10) fun (r_261 : Int32) =>
if r_261 ≤ x2_9 then (
some (.inl (x2_9, S_10)))
else (
bd (mR S_10 p0 17) fun (a_263 : Nat) =>
gd (mT S_10 a_263 = 0) (
bd (mR S_10 a_263 6) fun (a_266 : Nat) =>
gd (mT S_10 a_266 = 2) (
bd (mR S_10 a_266 2) fun (a_269 : Nat) =>
gd (mT S_10 a_269 = 3) (
bd (f_J2_get a_269 x2_9 S_10) fun (r_273 : Nat) =>
gd (mT S_10 r_273 = 9) (
bd (if mI S_10 r_273 2 = mI S_10 p0 6 then (
bd (mR S_10 p0 2) fun (a_280 : Nat) =>
bd (mR S_10 p0 17) fun (a_282 : Nat) =>
gd (mT S_10 a_282 = 0) (
bd (mR S_10 a_282 6) fun (a_285 : Nat) =>
gd (mT S_10 a_285 = 2) (
bd (mR S_10 a_285 2) fun (a_288 : Nat) =>
gd (mT S_10 a_288 = 3) (
bd (f_J2_get a_288 x2_9 S_10) fun (r_292 : Nat) =>
gd (mT S_10 r_292 = 9) (
bd (mR S_10 p0 17) fun (a_294 : Nat) =>
gd (mT S_10 a_294 = 0) (
bd (mR S_10 a_294 6) fun (a_297 : Nat) =>
gd (mT S_10 a_297 = 2) (
bd (mR S_10 a_297 2) fun (a_300 : Nat) =>
gd (mT S_10 a_300 = 3) (
bd (f_J2_get a_300 x2_9 S_10) fun (r_304 : Nat) =>
gd (mT S_10 r_304 = 9) (
gd (mT S_10 a_280 = 100) (
gd (inb (mI S_10 r_292 0) (mLn S_10 a_280)) (
be (sI S_10 a_280 (Int32.toNatClampNeg (mI S_10 r_292 0)) (mI S_10 r_304 1)) fun (M_308 : Mem) =>
some M_308)))))))))))
else (
some S_10) : Option (Mem)) fun (M_275 : Mem) =>
be (x2_9 + 1) fun (x2_278 : Int32) =>
some (.inr (x2_278, M_275)))))))))))
def f_X6_pass (N : Nat) (p0 : Nat) (p1 : Int32) (M : Mem) : Option (Mem) :=
gd (mT M p0 = 5) (
be (sI M p0 14 (-1)) fun (M_2 : Mem) =>
bd2 (lp N (fun s_249 : Int32 × Mem => f_X6_pass_b1 N p0 p1 s_249.1 s_249.2) (0, M_2)) fun (x2_11 : Int32) (S_12 : Mem) =>
bd2 (lp N (fun s_232 : Int32 × Mem => f_X6_pass_b2 N p0 p1 s_232.1 s_232.2) (0, S_12)) fun (x2_22 : Int32) (S_23 : Mem) =>
bd2 (lp N (fun s_207 : Int32 × Mem => f_X6_pass_b3 N p0 p1 s_207.1 s_207.2) (0, S_23)) fun (x2_33 : Int32) (S_34 : Mem) =>
bd2 (lp N (fun s_144 : Int32 × Mem => f_X6_pass_b4 N p0 p1 s_144.1 s_144.2) (0, S_34)) fun (x2_44 : Int32) (S_45 : Mem) =>
bd2 (lp N (fun s_113 : Int32 × Mem => f_X6_pass_b5 N p0 p1 s_113.1 s_113.2) (0, S_45)) fun (x2_55 : Int32) (S_56 : Mem) =>
bd2 (lp N (fun s_73 : Int32 × Mem => f_X6_pass_b6 N p0 p1 s_73.1 s_73.2) (0, S_56)) fun (x2_66 : Int32) (S_67 : Mem) =>
gd (mT S_67 p0 = 5) (
be (sI S_67 p0 6 ((mI S_67 p0 6) + 1)) fun (M_71 : Mem) =>
some M_71))
def rm_f_X6_pass : Room := { frames := 204, cells := 0, slots := 0, locals := 4098 }
theorem ok_f_X6_pass {E : En} (hE : EOk E) (hN : NOk E) {N : Nat} {p0 : Nat} {p1 : Int32} {M : Mem}  {M' : Mem} (h : f_X6_pass N p0 p1 M = some M') : CM E yX6_pass cX6_pass 4 none rm_f_X6_pass [rf E p0, .int p1] M none M' := by
  unfold f_X6_pass at h
  refine CM_introX (own := RX6) rfl (by decide +kernel) (Nat.le_of_ble_eq_true rfl) rfl (fun G hG hEn hI => ?_)
  obtain ⟨Q, eQ⟩ : ∃ Q, Q = QM E G none M' 0 0 := ⟨_, rfl⟩
  show V E G M 0 0 4 0 [(0, rf E p0), (1, .int p1)] [] (QM E G none M' 0 0)
  rw [← eQ]
  refine V_aload_n hG 0 rfl dX6_pass_0 ?_
  refine V_iconst hG (-1) rfl dX6_pass_1 ?_
  obtain ⟨g_1, h⟩ := gd_of h
  obtain ⟨M_2, eM_2, h⟩ := be_of h
  refine pf_X6_152 hN hG g_1 eM_2 dX6_pass_2 ?_
  have g_3 : mT M_2 p0 = 5 := by rw [eM_2]; exact g_1
  refine V_iconst hG 0 rfl dX6_pass_5 ?_
  refine V_istore_n hG rfl [(2, .int 0), (0, rf E p0), (1, .int p1)] dX6_pass_6 (Nat.le_of_ble_eq_true rfl) rfl ?_
  obtain ⟨x2_11, S_12, hL_13, h⟩ := bd2_of h
  have J_8 : ∀ q_14 : Int32 × Mem, q_14 = (x2_11, S_12) → V E G q_14.2 0 0 4 102 [(2, .int q_14.1), (0, rf E p0), (1, .int p1)] [] Q := by
    intro q_14 e9
    subst q_14
    show V E G S_12 0 0 4 102 [(2, .int x2_11), (0, rf E p0), (1, .int p1)] [] Q
    refine V_iconst hG 0 rfl dX6_pass_102 ?_
    refine V_istore_n hG rfl [(2, .int 0), (0, rf E p0), (1, .int p1)] dX6_pass_103 (Nat.le_of_ble_eq_true rfl) rfl ?_
    obtain ⟨x2_22, S_23, hL_24, h⟩ := bd2_of h
    have J_19 : ∀ q_25 : Int32 × Mem, q_25 = (x2_22, S_23) → V E G q_25.2 0 0 4 134 [(2, .int q_25.1), (0, rf E p0), (1, .int p1)] [] Q := by
      intro q_25 e9
      subst q_25
      show V E G S_23 0 0 4 134 [(2, .int x2_22), (0, rf E p0), (1, .int p1)] [] Q
      refine V_iconst hG 0 rfl dX6_pass_134 ?_
      refine V_istore_n hG rfl [(2, .int 0), (0, rf E p0), (1, .int p1)] dX6_pass_135 (Nat.le_of_ble_eq_true rfl) rfl ?_
      obtain ⟨x2_33, S_34, hL_35, h⟩ := bd2_of h
      have J_30 : ∀ q_36 : Int32 × Mem, q_36 = (x2_33, S_34) → V E G q_36.2 0 0 4 173 [(2, .int q_36.1), (0, rf E p0), (1, .int p1)] [] Q := by
        intro q_36 e9
        subst q_36
        show V E G S_34 0 0 4 173 [(2, .int x2_33), (0, rf E p0), (1, .int p1)] [] Q
        refine V_iconst hG 0 rfl dX6_pass_173 ?_
        refine V_istore_n hG rfl [(2, .int 0), (0, rf E p0), (1, .int p1)] dX6_pass_174 (Nat.le_of_ble_eq_true rfl) rfl ?_
        obtain ⟨x2_44, S_45, hL_46, h⟩ := bd2_of h
        have J_41 : ∀ q_47 : Int32 × Mem, q_47 = (x2_44, S_45) → V E G q_47.2 0 0 4 275 [(2, .int q_47.1), (0, rf E p0), (1, .int p1)] [] Q := by
          intro q_47 e9
          subst q_47
          show V E G S_45 0 0 4 275 [(2, .int x2_44), (0, rf E p0), (1, .int p1)] [] Q
          refine V_iconst hG 0 rfl dX6_pass_275 ?_
          refine V_istore_n hG rfl [(2, .int 0), (0, rf E p0), (1, .int p1)] dX6_pass_276 (Nat.le_of_ble_eq_true rfl) rfl ?_
          obtain ⟨x2_55, S_56, hL_57, h⟩ := bd2_of h
          have J_52 : ∀ q_58 : Int32 × Mem, q_58 = (x2_55, S_56) → V E G q_58.2 0 0 4 330 [(2, .int q_58.1), (0, rf E p0), (1, .int p1)] [] Q := by
            intro q_58 e9
            subst q_58
            show V E G S_56 0 0 4 330 [(2, .int x2_55), (0, rf E p0), (1, .int p1)] [] Q
            refine V_iconst hG 0 rfl dX6_pass_330 ?_
            refine V_istore_n hG rfl [(2, .int 0), (0, rf E p0), (1, .int p1)] dX6_pass_331 (Nat.le_of_ble_eq_true rfl) rfl ?_
            obtain ⟨x2_66, S_67, hL_68, h⟩ := bd2_of h
            have J_63 : ∀ q_69 : Int32 × Mem, q_69 = (x2_66, S_67) → V E G q_69.2 0 0 4 398 [(2, .int q_69.1), (0, rf E p0), (1, .int p1)] [] Q := by
              intro q_69 e9
              subst q_69
              show V E G S_67 0 0 4 398 [(2, .int x2_66), (0, rf E p0), (1, .int p1)] [] Q
              refine V_aload_n hG 1 rfl dX6_pass_398 ?_
              refine V_dup hG rfl dX6_pass_399 ?_
              obtain ⟨g_70, h⟩ := gd_of h
              refine gf_X6_61 hN hG g_70 dX6_pass_400 ?_
              refine V_iconst hG 1 rfl dX6_pass_403 ?_
              refine V_iadd hG dX6_pass_404 ?_
              obtain ⟨M_71, eM_71, h⟩ := be_of h
              refine pf_X6_61 hN hG g_70 eM_71 dX6_pass_405 ?_
              have g_72 : mT M_71 p0 = 5 := by rw [eM_71]; exact g_70
              cases h
              subst eQ
              exact V_vret hG dX6_pass_408
            refine lp_walk (W := fun s_73 : Int32 × Mem => V E G s_73.2 0 0 4 332 [(2, .int s_73.1), (0, rf E p0), (1, .int p1)] [] Q) ?_ N (0, S_56) hL_68
            intro s_73 b_59 hb_60 hk_61 hx_62
            obtain ⟨x2_64, S_65⟩ := s_73
            have hb_60 : f_X6_pass_b6 N p0 p1 x2_64 S_65 = some b_59 := hb_60
            unfold f_X6_pass_b6 at hb_60
            show V E G S_65 0 0 4 332 [(2, .int x2_64), (0, rf E p0), (1, .int p1)] [] Q
            refine V_iload_n hG 0 rfl dX6_pass_332 ?_
            refine V_aload_n hG 1 rfl dX6_pass_333 ?_
            obtain ⟨g_74, hb_60⟩ := gd_of hb_60
            obtain ⟨a_75, hr_76, hb_60⟩ := bd_of hb_60
            refine gf_X6_3 hN hG g_74 hr_76 dX6_pass_334 ?_
            obtain ⟨g_77, hb_60⟩ := gd_of hb_60
            obtain ⟨r_79, hc_78, hb_60⟩ := bd_of hb_60
            refine W_callVN hE hG hN (ci := 0) (As := []) (rest := [.int x2_64]) (ok_f_X1_troughs hE hN hc_78) g_77 (by decide) rfl q419 (lw_meth q422) q123 q421 qs2 hdc_X1_troughs ⟨Nat.le_of_ble_eq_true rfl, Nat.le_of_ble_eq_true rfl⟩ rfl rfl (Nat.le_of_ble_eq_true rfl) ⟨Nat.le_of_ble_eq_true rfl, Nat.le_of_ble_eq_true rfl⟩ dX6_pass_337 (V_zero rfl rfl ?_)
            refine V_icmp_ge hG 398 dX6_pass_340 (by decide) (fun c_80 => ?_) (fun c_80 => ?_)
            · have hb_60 := if_t c_80 hb_60
              cases hb_60
              exact J_63 _ (hx_62 _ rfl)
            · have hb_60 := if_f c_80 hb_60
              refine V_aload_n hG 1 rfl dX6_pass_343 ?_
              refine gf_X6_61 hN hG g_74 dX6_pass_344 ?_
              refine V_bipush hG 10 (by decide) dX6_pass_347 ?_
              refine V_irem hG (by decide) dX6_pass_349 ?_
              refine V_bipush hG 9 (by decide) dX6_pass_350 ?_
              refine V_icmp_ne hG 398 dX6_pass_352 (by decide) (fun c_81 => ?_) (fun c_81 => ?_)
              · have hb_60 := if_f c_81 hb_60
                cases hb_60
                exact J_63 _ (hx_62 _ rfl)
              · have hb_60 := if_t c_81 hb_60
                refine V_aload_n hG 1 rfl dX6_pass_355 ?_
                refine V_iload_n hG 2 rfl dX6_pass_356 ?_
                obtain ⟨r_84, M_83, hc_82, hb_60⟩ := bd2_of hb_60
                refine V_callV hE hG (ci := 5) (As := [.int p1]) (rest := []) (ok_f_X6_rains hE hN hc_82) g_74 (by decide) rfl hw_X6_197 hdv_X6_rains ⟨Nat.le_of_ble_eq_true rfl, Nat.le_of_ble_eq_true rfl⟩ rfl rfl (Nat.le_of_ble_eq_true rfl) ⟨Nat.le_of_ble_eq_true rfl, Nat.le_of_ble_eq_true rfl⟩ dX6_pass_357 (V_zero rfl rfl ?_)
                obtain ⟨M_85, hj_87, hb_60⟩ := bd_of hb_60
                have J_86 : V E G M_85 0 0 4 392 [(2, .int x2_64), (0, rf E p0), (1, .int p1)] [] Q := by
                  obtain ⟨x2_88, ex2_88, hb_60⟩ := be_of hb_60
                  refine V_iinc hG 0 x2_88 rfl (by rw [ex2_88]; rfl) [(2, .int x2_88), (0, rf E p0), (1, .int p1)] dX6_pass_392 (Nat.le_of_ble_eq_true rfl) rfl ?_
                  refine V_goto hG 332 dX6_pass_395 (by decide) ?_
                  cases hb_60
                  exact hk_61 _ rfl
                refine V_if_eq hG 392 dX6_pass_360 (by decide) (fun c_89 => ?_) (fun c_89 => ?_)
                · have hj_87 := if_t c_89 hj_87
                  cases hj_87
                  exact J_86
                · have hj_87 := if_f c_89 hj_87
                  refine V_aload_n hG 1 rfl dX6_pass_363 ?_
                  obtain ⟨g_90, hj_87⟩ := gd_of hj_87
                  obtain ⟨a_91, hr_92, hj_87⟩ := bd_of hj_87
                  refine gf_X6_31 hN hG g_90 hr_92 dX6_pass_364 ?_
                  refine V_iload_n hG 0 rfl dX6_pass_367 ?_
                  refine V_bipush hG 99 (by decide) dX6_pass_368 ?_
                  refine V_aload_n hG 1 rfl dX6_pass_370 ?_
                  obtain ⟨a_93, hr_94, hj_87⟩ := bd_of hj_87
                  refine gf_X6_31 hN hG g_90 hr_94 dX6_pass_371 ?_
                  refine V_iload_n hG 0 rfl dX6_pass_374 ?_
                  obtain ⟨g_95, hj_87⟩ := gd_of hj_87
                  obtain ⟨g_96, hj_87⟩ := gd_of hj_87
                  refine V_iaload hG g_95 g_96 dX6_pass_375 ?_
                  refine V_aload_n hG 1 rfl dX6_pass_376 ?_
                  obtain ⟨a_97, hr_98, hj_87⟩ := bd_of hj_87
                  refine gf_X6_3 hN hG g_90 hr_98 dX6_pass_377 ?_
                  refine V_iload_n hG 0 rfl dX6_pass_380 ?_
                  obtain ⟨g_99, hj_87⟩ := gd_of hj_87
                  obtain ⟨r_101, hc_100, hj_87⟩ := bd_of hj_87
                  refine W_callVN hE hG hN (ci := 0) (As := [.int x2_64]) (rest := [.int (mI M_83 a_93 (Int32.toNatClampNeg x2_64)), .int 99, .int x2_64, rf E a_91]) (ok_f_X1_trough hE hN hc_100) g_99 (by decide) rfl q423 (lw_meth q426) q123 q425 qs3 hdc_X1_trough ⟨Nat.le_of_ble_eq_true rfl, Nat.le_of_ble_eq_true rfl⟩ rfl rfl (Nat.le_of_ble_eq_true rfl) ⟨Nat.le_of_ble_eq_true rfl, Nat.le_of_ble_eq_true rfl⟩ dX6_pass_381 (V_zero rfl rfl ?_)
                  obtain ⟨g_102, hj_87⟩ := gd_of hj_87
                  refine gf_X6_201 hN hG g_102 dX6_pass_384 ?_
                  refine V_iadd hG dX6_pass_387 ?_
                  obtain ⟨r_104, hc_103, hj_87⟩ := bd_of hj_87
                  refine V_callS hE hG (As := [.int 99, .int ((mI M_83 a_93 (Int32.toNatClampNeg x2_64)) + (mI M_83 r_101 3))]) (rest := [.int x2_64, rf E a_91]) (ok_f_J8_min hE hN hc_103) hw_X6_132 hdc_J8_min ⟨Nat.le_of_ble_eq_true rfl, Nat.le_of_ble_eq_true rfl⟩ rfl rfl (Nat.le_of_ble_eq_true rfl) ⟨Nat.le_of_ble_eq_true rfl, Nat.le_of_ble_eq_true rfl⟩ dX6_pass_388 (V_zero rfl rfl ?_)
                  obtain ⟨g_105, hj_87⟩ := gd_of hj_87
                  obtain ⟨g_106, hj_87⟩ := gd_of hj_87
                  obtain ⟨M_107, eM_107, hj_87⟩ := be_of hj_87
                  refine W_iastore hG g_105 g_106 M_107 eM_107 dX6_pass_391 ?_
                  have g_108 : mT M_107 p0 = 5 := by rw [eM_107]; exact g_90
                  have g_109 : mT M_107 a_93 = 100 := by rw [eM_107]; exact g_95
                  have g_110 : mT M_107 a_97 = 0 := by rw [eM_107]; exact g_99
                  have g_111 : mT M_107 r_101 = 7 := by rw [eM_107]; exact g_102
                  have g_112 : mT M_107 a_91 = 100 := by rw [eM_107]; exact g_105
                  cases hj_87
                  exact J_86
          refine lp_walk (W := fun s_113 : Int32 × Mem => V E G s_113.2 0 0 4 277 [(2, .int s_113.1), (0, rf E p0), (1, .int p1)] [] Q) ?_ N (0, S_45) hL_57
          intro s_113 b_48 hb_49 hk_50 hx_51
          obtain ⟨x2_53, S_54⟩ := s_113
          have hb_49 : f_X6_pass_b5 N p0 p1 x2_53 S_54 = some b_48 := hb_49
          unfold f_X6_pass_b5 at hb_49
          show V E G S_54 0 0 4 277 [(2, .int x2_53), (0, rf E p0), (1, .int p1)] [] Q
          refine V_iload_n hG 0 rfl dX6_pass_277 ?_
          refine V_aload_n hG 1 rfl dX6_pass_278 ?_
          obtain ⟨g_114, hb_49⟩ := gd_of hb_49
          obtain ⟨a_115, hr_116, hb_49⟩ := bd_of hb_49
          refine gf_X6_3 hN hG g_114 hr_116 dX6_pass_279 ?_
          obtain ⟨g_117, hb_49⟩ := gd_of hb_49
          obtain ⟨r_119, hc_118, hb_49⟩ := bd_of hb_49
          refine W_callVN hE hG hN (ci := 0) (As := []) (rest := [.int x2_53]) (ok_f_X1_horses hE hN hc_118) g_117 (by decide) rfl q392 (lw_meth q395) q123 q394 qs0 hdc_X1_horses ⟨Nat.le_of_ble_eq_true rfl, Nat.le_of_ble_eq_true rfl⟩ rfl rfl (Nat.le_of_ble_eq_true rfl) ⟨Nat.le_of_ble_eq_true rfl, Nat.le_of_ble_eq_true rfl⟩ dX6_pass_282 (V_zero rfl rfl ?_)
          refine V_icmp_ge hG 330 dX6_pass_285 (by decide) (fun c_120 => ?_) (fun c_120 => ?_)
          · have hb_49 := if_t c_120 hb_49
            cases hb_49
            exact J_52 _ (hx_51 _ rfl)
          · have hb_49 := if_f c_120 hb_49
            refine V_aload_n hG 1 rfl dX6_pass_288 ?_
            obtain ⟨a_121, hr_122, hb_49⟩ := bd_of hb_49
            refine gf_X6_19 hN hG g_114 hr_122 dX6_pass_289 ?_
            refine V_iload_n hG 0 rfl dX6_pass_292 ?_
            obtain ⟨g_123, hb_49⟩ := gd_of hb_49
            obtain ⟨g_124, hb_49⟩ := gd_of hb_49
            refine V_iaload hG g_123 g_124 dX6_pass_293 ?_
            refine V_bipush hG 100 (by decide) dX6_pass_294 ?_
            obtain ⟨M_125, hj_127, hb_49⟩ := bd_of hb_49
            have J_126 : V E G M_125 0 0 4 324 [(2, .int x2_53), (0, rf E p0), (1, .int p1)] [] Q := by
              obtain ⟨x2_128, ex2_128, hb_49⟩ := be_of hb_49
              refine V_iinc hG 0 x2_128 rfl (by rw [ex2_128]; rfl) [(2, .int x2_128), (0, rf E p0), (1, .int p1)] dX6_pass_324 (Nat.le_of_ble_eq_true rfl) rfl ?_
              refine V_goto hG 277 dX6_pass_327 (by decide) ?_
              cases hb_49
              exact hk_50 _ rfl
            refine V_icmp_ge hG 310 dX6_pass_296 (by decide) (fun c_129 => ?_) (fun c_129 => ?_)
            · have hj_127 := if_t c_129 hj_127
              refine V_aload_n hG 1 rfl dX6_pass_310 ?_
              refine V_dup hG rfl dX6_pass_311 ?_
              refine gf_X6_64 hN hG g_114 dX6_pass_312 ?_
              refine V_iconst hG 1 rfl dX6_pass_315 ?_
              refine V_iload_n hG 0 rfl dX6_pass_316 ?_
              refine V_ishl hG dX6_pass_317 ?_
              refine V_iconst hG (-1) rfl dX6_pass_318 ?_
              refine V_ixor hG dX6_pass_319 ?_
              refine V_iand hG dX6_pass_320 ?_
              obtain ⟨M_130, eM_130, hj_127⟩ := be_of hj_127
              refine pf_X6_64 hN hG g_114 eM_130 dX6_pass_321 ?_
              have g_131 : mT M_130 p0 = 5 := by rw [eM_130]; exact g_114
              have g_132 : mT M_130 a_115 = 0 := by rw [eM_130]; exact g_117
              have g_133 : mT M_130 a_121 = 100 := by rw [eM_130]; exact g_123
              cases hj_127
              exact J_126
            · have hj_127 := if_f c_129 hj_127
              refine V_aload_n hG 1 rfl dX6_pass_299 ?_
              obtain ⟨a_134, hr_135, hj_127⟩ := bd_of hj_127
              refine gf_X6_25 hN hG g_114 hr_135 dX6_pass_300 ?_
              refine V_iload_n hG 0 rfl dX6_pass_303 ?_
              obtain ⟨g_136, hj_127⟩ := gd_of hj_127
              obtain ⟨g_137, hj_127⟩ := gd_of hj_127
              refine V_iaload hG g_136 g_137 dX6_pass_304 ?_
              refine V_bipush hG 100 (by decide) dX6_pass_305 ?_
              refine V_icmp_lt hG 324 dX6_pass_307 (by decide) (fun c_138 => ?_) (fun c_138 => ?_)
              · have hj_127 := if_t c_138 hj_127
                cases hj_127
                exact J_126
              · have hj_127 := if_f c_138 hj_127
                refine V_aload_n hG 1 rfl dX6_pass_310 ?_
                refine V_dup hG rfl dX6_pass_311 ?_
                refine gf_X6_64 hN hG g_114 dX6_pass_312 ?_
                refine V_iconst hG 1 rfl dX6_pass_315 ?_
                refine V_iload_n hG 0 rfl dX6_pass_316 ?_
                refine V_ishl hG dX6_pass_317 ?_
                refine V_iconst hG (-1) rfl dX6_pass_318 ?_
                refine V_ixor hG dX6_pass_319 ?_
                refine V_iand hG dX6_pass_320 ?_
                obtain ⟨M_139, eM_139, hj_127⟩ := be_of hj_127
                refine pf_X6_64 hN hG g_114 eM_139 dX6_pass_321 ?_
                have g_140 : mT M_139 p0 = 5 := by rw [eM_139]; exact g_114
                have g_141 : mT M_139 a_115 = 0 := by rw [eM_139]; exact g_117
                have g_142 : mT M_139 a_121 = 100 := by rw [eM_139]; exact g_123
                have g_143 : mT M_139 a_134 = 100 := by rw [eM_139]; exact g_136
                cases hj_127
                exact J_126
        refine lp_walk (W := fun s_144 : Int32 × Mem => V E G s_144.2 0 0 4 175 [(2, .int s_144.1), (0, rf E p0), (1, .int p1)] [] Q) ?_ N (0, S_34) hL_46
        intro s_144 b_37 hb_38 hk_39 hx_40
        obtain ⟨x2_42, S_43⟩ := s_144
        have hb_38 : f_X6_pass_b4 N p0 p1 x2_42 S_43 = some b_37 := hb_38
        unfold f_X6_pass_b4 at hb_38
        show V E G S_43 0 0 4 175 [(2, .int x2_42), (0, rf E p0), (1, .int p1)] [] Q
        refine V_iload_n hG 0 rfl dX6_pass_175 ?_
        refine V_aload_n hG 1 rfl dX6_pass_176 ?_
        obtain ⟨g_145, hb_38⟩ := gd_of hb_38
        obtain ⟨a_146, hr_147, hb_38⟩ := bd_of hb_38
        refine gf_X6_3 hN hG g_145 hr_147 dX6_pass_177 ?_
        obtain ⟨g_148, hb_38⟩ := gd_of hb_38
        obtain ⟨r_150, hc_149, hb_38⟩ := bd_of hb_38
        refine W_callVN hE hG hN (ci := 0) (As := []) (rest := [.int x2_42]) (ok_f_X1_horses hE hN hc_149) g_148 (by decide) rfl q392 (lw_meth q395) q123 q394 qs0 hdc_X1_horses ⟨Nat.le_of_ble_eq_true rfl, Nat.le_of_ble_eq_true rfl⟩ rfl rfl (Nat.le_of_ble_eq_true rfl) ⟨Nat.le_of_ble_eq_true rfl, Nat.le_of_ble_eq_true rfl⟩ dX6_pass_180 (V_zero rfl rfl ?_)
        refine V_icmp_ge hG 275 dX6_pass_183 (by decide) (fun c_151 => ?_) (fun c_151 => ?_)
        · have hb_38 := if_t c_151 hb_38
          cases hb_38
          exact J_41 _ (hx_40 _ rfl)
        · have hb_38 := if_f c_151 hb_38
          refine V_iload_n hG 0 rfl dX6_pass_186 ?_
          refine V_iconst hG 1 rfl dX6_pass_187 ?_
          refine V_iadd hG dX6_pass_188 ?_
          obtain ⟨x3_152, ex3_152, hb_38⟩ := be_of hb_38
          refine V_topi ex3_152 ?_
          refine V_istore_n hG rfl [(3, .int x3_152), (2, .int x2_42), (0, rf E p0), (1, .int p1)] dX6_pass_189 (Nat.le_of_ble_eq_true rfl) rfl ?_
          obtain ⟨x3_160, S_161, hL_162, hb_38⟩ := bd2_of hb_38
          have J_157 : ∀ q_163 : Int32 × Mem, q_163 = (x3_160, S_161) → V E G q_163.2 0 0 4 269 [(3, .int q_163.1), (2, .int x2_42), (0, rf E p0), (1, .int p1)] [] Q := by
            intro q_163 e9
            subst q_163
            show V E G S_161 0 0 4 269 [(3, .int x3_160), (2, .int x2_42), (0, rf E p0), (1, .int p1)] [] Q
            obtain ⟨x2_164, ex2_164, hb_38⟩ := be_of hb_38
            refine V_iinc hG 1 x2_164 rfl (by rw [ex2_164]; rfl) [(2, .int x2_164), (3, .int x3_160), (0, rf E p0), (1, .int p1)] dX6_pass_269 (Nat.le_of_ble_eq_true rfl) rfl ?_
            refine V_goto hG 175 dX6_pass_272 (by decide) ?_
            cases hb_38
            exact V_lv [0, 2, 3] rfl (hk_39 _ rfl)
          refine lp_walk (W := fun s_165 : Int32 × Mem => V E G s_165.2 0 0 4 190 [(3, .int s_165.1), (2, .int x2_42), (0, rf E p0), (1, .int p1)] [] Q) ?_ N (x3_152, S_43) hL_162
          intro s_165 b_153 hb_154 hk_155 hx_156
          obtain ⟨x3_158, S_159⟩ := s_165
          have hb_154 : f_X6_pass_b7 N x2_42 p0 p1 x3_158 S_159 = some b_153 := hb_154
          unfold f_X6_pass_b7 at hb_154
          show V E G S_159 0 0 4 190 [(3, .int x3_158), (2, .int x2_42), (0, rf E p0), (1, .int p1)] [] Q
          refine V_iload_n hG 0 rfl dX6_pass_190 ?_
          refine V_aload_n hG 2 rfl dX6_pass_191 ?_
          obtain ⟨g_166, hb_154⟩ := gd_of hb_154
          obtain ⟨a_167, hr_168, hb_154⟩ := bd_of hb_154
          refine gf_X6_3 hN hG g_166 hr_168 dX6_pass_192 ?_
          obtain ⟨g_169, hb_154⟩ := gd_of hb_154
          obtain ⟨r_171, hc_170, hb_154⟩ := bd_of hb_154
          refine W_callVN hE hG hN (ci := 0) (As := []) (rest := [.int x3_158]) (ok_f_X1_horses hE hN hc_170) g_169 (by decide) rfl q392 (lw_meth q395) q123 q394 qs0 hdc_X1_horses ⟨Nat.le_of_ble_eq_true rfl, Nat.le_of_ble_eq_true rfl⟩ rfl rfl (Nat.le_of_ble_eq_true rfl) ⟨Nat.le_of_ble_eq_true rfl, Nat.le_of_ble_eq_true rfl⟩ dX6_pass_195 (V_zero rfl rfl ?_)
          refine V_icmp_ge hG 269 dX6_pass_198 (by decide) (fun c_172 => ?_) (fun c_172 => ?_)
          · have hb_154 := if_t c_172 hb_154
            cases hb_154
            exact J_157 _ (hx_156 _ rfl)
          · have hb_154 := if_f c_172 hb_154
            refine V_aload_n hG 2 rfl dX6_pass_201 ?_
            refine V_iload_n hG 1 rfl dX6_pass_202 ?_
            obtain ⟨r_174, hc_173, hb_154⟩ := bd_of hb_154
            refine V_callV hE hG (ci := 5) (As := [.int x2_42]) (rest := []) (ok_f_X6_isOn hE hN hc_173) g_166 (by decide) rfl hw_X6_182 hdv_X6_isOn ⟨Nat.le_of_ble_eq_true rfl, Nat.le_of_ble_eq_true rfl⟩ rfl rfl (Nat.le_of_ble_eq_true rfl) ⟨Nat.le_of_ble_eq_true rfl, Nat.le_of_ble_eq_true rfl⟩ dX6_pass_203 (V_zero rfl rfl ?_)
            obtain ⟨M_175, hj_177, hb_154⟩ := bd_of hb_154
            have J_176 : V E G M_175 0 0 4 263 [(3, .int x3_158), (2, .int x2_42), (0, rf E p0), (1, .int p1)] [] Q := by
              obtain ⟨x3_178, ex3_178, hb_154⟩ := be_of hb_154
              refine V_iinc hG 0 x3_178 rfl (by rw [ex3_178]; rfl) [(3, .int x3_178), (2, .int x2_42), (0, rf E p0), (1, .int p1)] dX6_pass_263 (Nat.le_of_ble_eq_true rfl) rfl ?_
              refine V_goto hG 190 dX6_pass_266 (by decide) ?_
              cases hb_154
              exact hk_155 _ rfl
            refine V_if_eq hG 263 dX6_pass_206 (by decide) (fun c_179 => ?_) (fun c_179 => ?_)
            · have hj_177 := if_t c_179 hj_177
              cases hj_177
              exact J_176
            · have hj_177 := if_f c_179 hj_177
              refine V_aload_n hG 2 rfl dX6_pass_209 ?_
              refine V_iload_n hG 0 rfl dX6_pass_210 ?_
              obtain ⟨r_181, hc_180, hj_177⟩ := bd_of hj_177
              refine V_callV hE hG (ci := 5) (As := [.int x3_158]) (rest := []) (ok_f_X6_isOn hE hN hc_180) g_166 (by decide) rfl hw_X6_182 hdv_X6_isOn ⟨Nat.le_of_ble_eq_true rfl, Nat.le_of_ble_eq_true rfl⟩ rfl rfl (Nat.le_of_ble_eq_true rfl) ⟨Nat.le_of_ble_eq_true rfl, Nat.le_of_ble_eq_true rfl⟩ dX6_pass_211 (V_zero rfl rfl ?_)
              refine V_if_eq hG 263 dX6_pass_214 (by decide) (fun c_182 => ?_) (fun c_182 => ?_)
              · have hj_177 := if_t c_182 hj_177
                cases hj_177
                exact J_176
              · have hj_177 := if_f c_182 hj_177
                refine V_aload_n hG 2 rfl dX6_pass_217 ?_
                obtain ⟨a_183, hr_184, hj_177⟩ := bd_of hj_177
                refine gf_X6_15 hN hG g_166 hr_184 dX6_pass_218 ?_
                refine V_iload_n hG 1 rfl dX6_pass_221 ?_
                obtain ⟨g_185, hj_177⟩ := gd_of hj_177
                obtain ⟨g_186, hj_177⟩ := gd_of hj_177
                refine V_iaload hG g_185 g_186 dX6_pass_222 ?_
                refine V_aload_n hG 2 rfl dX6_pass_223 ?_
                obtain ⟨a_187, hr_188, hj_177⟩ := bd_of hj_177
                refine gf_X6_15 hN hG g_166 hr_188 dX6_pass_224 ?_
                refine V_iload_n hG 0 rfl dX6_pass_227 ?_
                obtain ⟨g_189, hj_177⟩ := gd_of hj_177
                obtain ⟨g_190, hj_177⟩ := gd_of hj_177
                refine V_iaload hG g_189 g_190 dX6_pass_228 ?_
                refine V_icmp_ne hG 263 dX6_pass_229 (by decide) (fun c_191 => ?_) (fun c_191 => ?_)
                · have hj_177 := if_f c_191 hj_177
                  cases hj_177
                  exact J_176
                · have hj_177 := if_t c_191 hj_177
                  refine V_aload_n hG 2 rfl dX6_pass_232 ?_
                  obtain ⟨a_192, hr_193, hj_177⟩ := bd_of hj_177
                  refine gf_X6_3 hN hG g_166 hr_193 dX6_pass_233 ?_
                  refine V_iload_n hG 1 rfl dX6_pass_236 ?_
                  obtain ⟨g_194, hj_177⟩ := gd_of hj_177
                  obtain ⟨r_196, hc_195, hj_177⟩ := bd_of hj_177
                  refine W_callVN hE hG hN (ci := 0) (As := [.int x2_42]) (rest := []) (ok_f_X1_horse hE hN hc_195) g_194 (by decide) rfl q400 (lw_meth q403) q123 q402 qs1 hdc_X1_horse ⟨Nat.le_of_ble_eq_true rfl, Nat.le_of_ble_eq_true rfl⟩ rfl rfl (Nat.le_of_ble_eq_true rfl) ⟨Nat.le_of_ble_eq_true rfl, Nat.le_of_ble_eq_true rfl⟩ dX6_pass_237 (V_zero rfl rfl ?_)
                  obtain ⟨g_197, hj_177⟩ := gd_of hj_177
                  refine gf_X6_123 hN hG g_197 dX6_pass_240 ?_
                  refine V_aload_n hG 2 rfl dX6_pass_243 ?_
                  obtain ⟨a_198, hr_199, hj_177⟩ := bd_of hj_177
                  refine gf_X6_3 hN hG g_166 hr_199 dX6_pass_244 ?_
                  refine V_iload_n hG 0 rfl dX6_pass_247 ?_
                  obtain ⟨g_200, hj_177⟩ := gd_of hj_177
                  obtain ⟨r_202, hc_201, hj_177⟩ := bd_of hj_177
                  refine W_callVN hE hG hN (ci := 0) (As := [.int x3_158]) (rest := [.int (mI S_159 r_196 2)]) (ok_f_X1_horse hE hN hc_201) g_200 (by decide) rfl q400 (lw_meth q403) q123 q402 qs1 hdc_X1_horse ⟨Nat.le_of_ble_eq_true rfl, Nat.le_of_ble_eq_true rfl⟩ rfl rfl (Nat.le_of_ble_eq_true rfl) ⟨Nat.le_of_ble_eq_true rfl, Nat.le_of_ble_eq_true rfl⟩ dX6_pass_248 (V_zero rfl rfl ?_)
                  obtain ⟨g_203, hj_177⟩ := gd_of hj_177
                  refine gf_X6_123 hN hG g_203 dX6_pass_251 ?_
                  refine V_icmp_eq hG 263 dX6_pass_254 (by decide) (fun c_204 => ?_) (fun c_204 => ?_)
                  · have hj_177 := if_t c_204 hj_177
                    cases hj_177
                    exact J_176
                  · have hj_177 := if_f c_204 hj_177
                    refine V_aload_n hG 2 rfl dX6_pass_257 ?_
                    refine V_iload_n hG 1 rfl dX6_pass_258 ?_
                    refine V_iload_n hG 0 rfl dX6_pass_259 ?_
                    obtain ⟨M_206, hc_205, hj_177⟩ := bd_of hj_177
                    refine V_callV hE hG (ci := 5) (As := [.int x2_42, .int x3_158]) (rest := []) (ok_f_X6_meet hE hN hc_205) g_166 (by decide) rfl hw_X6_193 hdv_X6_meet ⟨Nat.le_of_ble_eq_true rfl, Nat.le_of_ble_eq_true rfl⟩ rfl rfl (Nat.le_of_ble_eq_true rfl) ⟨Nat.le_of_ble_eq_true rfl, Nat.le_of_ble_eq_true rfl⟩ dX6_pass_260 (V_zero rfl rfl ?_)
                    cases hj_177
                    exact J_176
      refine lp_walk (W := fun s_207 : Int32 × Mem => V E G s_207.2 0 0 4 136 [(2, .int s_207.1), (0, rf E p0), (1, .int p1)] [] Q) ?_ N (0, S_23) hL_35
      intro s_207 b_26 hb_27 hk_28 hx_29
      obtain ⟨x2_31, S_32⟩ := s_207
      have hb_27 : f_X6_pass_b3 N p0 p1 x2_31 S_32 = some b_26 := hb_27
      unfold f_X6_pass_b3 at hb_27
      show V E G S_32 0 0 4 136 [(2, .int x2_31), (0, rf E p0), (1, .int p1)] [] Q
      refine V_iload_n hG 0 rfl dX6_pass_136 ?_
      refine V_aload_n hG 1 rfl dX6_pass_137 ?_
      obtain ⟨g_208, hb_27⟩ := gd_of hb_27
      obtain ⟨a_209, hr_210, hb_27⟩ := bd_of hb_27
      refine gf_X6_3 hN hG g_208 hr_210 dX6_pass_138 ?_
      obtain ⟨g_211, hb_27⟩ := gd_of hb_27
      obtain ⟨r_213, hc_212, hb_27⟩ := bd_of hb_27
      refine W_callVN hE hG hN (ci := 0) (As := []) (rest := [.int x2_31]) (ok_f_X1_horses hE hN hc_212) g_211 (by decide) rfl q392 (lw_meth q395) q123 q394 qs0 hdc_X1_horses ⟨Nat.le_of_ble_eq_true rfl, Nat.le_of_ble_eq_true rfl⟩ rfl rfl (Nat.le_of_ble_eq_true rfl) ⟨Nat.le_of_ble_eq_true rfl, Nat.le_of_ble_eq_true rfl⟩ dX6_pass_141 (V_zero rfl rfl ?_)
      refine V_icmp_ge hG 173 dX6_pass_144 (by decide) (fun c_214 => ?_) (fun c_214 => ?_)
      · have hb_27 := if_t c_214 hb_27
        cases hb_27
        exact J_30 _ (hx_29 _ rfl)
      · have hb_27 := if_f c_214 hb_27
        refine V_aload_n hG 1 rfl dX6_pass_147 ?_
        obtain ⟨a_215, hr_216, hb_27⟩ := bd_of hb_27
        refine gf_X6_28 hN hG g_208 hr_216 dX6_pass_148 ?_
        refine V_iload_n hG 0 rfl dX6_pass_151 ?_
        refine V_iconst hG 0 rfl dX6_pass_152 ?_
        obtain ⟨g_217, hb_27⟩ := gd_of hb_27
        obtain ⟨g_218, hb_27⟩ := gd_of hb_27
        obtain ⟨M_219, eM_219, hb_27⟩ := be_of hb_27
        refine W_iastore hG g_217 g_218 M_219 eM_219 dX6_pass_153 ?_
        have g_220 : mT M_219 p0 = 5 := by rw [eM_219]; exact g_208
        have g_221 : mT M_219 a_209 = 0 := by rw [eM_219]; exact g_211
        have g_222 : mT M_219 a_215 = 100 := by rw [eM_219]; exact g_217
        refine V_aload_n hG 1 rfl dX6_pass_154 ?_
        refine V_iload_n hG 0 rfl dX6_pass_155 ?_
        obtain ⟨r_224, hc_223, hb_27⟩ := bd_of hb_27
        refine V_callV hE hG (ci := 5) (As := [.int x2_31]) (rest := []) (ok_f_X6_isOn hE hN hc_223) g_220 (by decide) rfl hw_X6_182 hdv_X6_isOn ⟨Nat.le_of_ble_eq_true rfl, Nat.le_of_ble_eq_true rfl⟩ rfl rfl (Nat.le_of_ble_eq_true rfl) ⟨Nat.le_of_ble_eq_true rfl, Nat.le_of_ble_eq_true rfl⟩ dX6_pass_156 (V_zero rfl rfl ?_)
        obtain ⟨M_225, hj_227, hb_27⟩ := bd_of hb_27
        have J_226 : V E G M_225 0 0 4 167 [(2, .int x2_31), (0, rf E p0), (1, .int p1)] [] Q := by
          obtain ⟨x2_228, ex2_228, hb_27⟩ := be_of hb_27
          refine V_iinc hG 0 x2_228 rfl (by rw [ex2_228]; rfl) [(2, .int x2_228), (0, rf E p0), (1, .int p1)] dX6_pass_167 (Nat.le_of_ble_eq_true rfl) rfl ?_
          refine V_goto hG 136 dX6_pass_170 (by decide) ?_
          cases hb_27
          exact hk_28 _ rfl
        refine V_if_eq hG 167 dX6_pass_159 (by decide) (fun c_229 => ?_) (fun c_229 => ?_)
        · have hj_227 := if_t c_229 hj_227
          cases hj_227
          exact J_226
        · have hj_227 := if_f c_229 hj_227
          refine V_aload_n hG 1 rfl dX6_pass_162 ?_
          refine V_iload_n hG 0 rfl dX6_pass_163 ?_
          obtain ⟨M_231, hc_230, hj_227⟩ := bd_of hj_227
          refine V_callV hE hG (ci := 5) (As := [.int x2_31]) (rest := []) (ok_f_X6_drink hE hN hc_230) g_220 (by decide) rfl hw_X6_190 hdv_X6_drink ⟨Nat.le_of_ble_eq_true rfl, Nat.le_of_ble_eq_true rfl⟩ rfl rfl (Nat.le_of_ble_eq_true rfl) ⟨Nat.le_of_ble_eq_true rfl, Nat.le_of_ble_eq_true rfl⟩ dX6_pass_164 (V_zero rfl rfl ?_)
          cases hj_227
          exact J_226
    refine lp_walk (W := fun s_232 : Int32 × Mem => V E G s_232.2 0 0 4 104 [(2, .int s_232.1), (0, rf E p0), (1, .int p1)] [] Q) ?_ N (0, S_12) hL_24
    intro s_232 b_15 hb_16 hk_17 hx_18
    obtain ⟨x2_20, S_21⟩ := s_232
    have hb_16 : f_X6_pass_b2 N p0 p1 x2_20 S_21 = some b_15 := hb_16
    unfold f_X6_pass_b2 at hb_16
    show V E G S_21 0 0 4 104 [(2, .int x2_20), (0, rf E p0), (1, .int p1)] [] Q
    refine V_iload_n hG 0 rfl dX6_pass_104 ?_
    refine V_aload_n hG 1 rfl dX6_pass_105 ?_
    obtain ⟨g_233, hb_16⟩ := gd_of hb_16
    obtain ⟨a_234, hr_235, hb_16⟩ := bd_of hb_16
    refine gf_X6_3 hN hG g_233 hr_235 dX6_pass_106 ?_
    obtain ⟨g_236, hb_16⟩ := gd_of hb_16
    obtain ⟨r_238, hc_237, hb_16⟩ := bd_of hb_16
    refine W_callVN hE hG hN (ci := 0) (As := []) (rest := [.int x2_20]) (ok_f_X1_horses hE hN hc_237) g_236 (by decide) rfl q392 (lw_meth q395) q123 q394 qs0 hdc_X1_horses ⟨Nat.le_of_ble_eq_true rfl, Nat.le_of_ble_eq_true rfl⟩ rfl rfl (Nat.le_of_ble_eq_true rfl) ⟨Nat.le_of_ble_eq_true rfl, Nat.le_of_ble_eq_true rfl⟩ dX6_pass_109 (V_zero rfl rfl ?_)
    refine V_icmp_ge hG 134 dX6_pass_112 (by decide) (fun c_239 => ?_) (fun c_239 => ?_)
    · have hb_16 := if_t c_239 hb_16
      cases hb_16
      exact J_19 _ (hx_18 _ rfl)
    · have hb_16 := if_f c_239 hb_16
      refine V_aload_n hG 1 rfl dX6_pass_115 ?_
      refine V_iload_n hG 0 rfl dX6_pass_116 ?_
      obtain ⟨r_241, hc_240, hb_16⟩ := bd_of hb_16
      refine V_callV hE hG (ci := 5) (As := [.int x2_20]) (rest := []) (ok_f_X6_isOn hE hN hc_240) g_233 (by decide) rfl hw_X6_182 hdv_X6_isOn ⟨Nat.le_of_ble_eq_true rfl, Nat.le_of_ble_eq_true rfl⟩ rfl rfl (Nat.le_of_ble_eq_true rfl) ⟨Nat.le_of_ble_eq_true rfl, Nat.le_of_ble_eq_true rfl⟩ dX6_pass_117 (V_zero rfl rfl ?_)
      obtain ⟨M_242, hj_244, hb_16⟩ := bd_of hb_16
      have J_243 : V E G M_242 0 0 4 128 [(2, .int x2_20), (0, rf E p0), (1, .int p1)] [] Q := by
        obtain ⟨x2_245, ex2_245, hb_16⟩ := be_of hb_16
        refine V_iinc hG 0 x2_245 rfl (by rw [ex2_245]; rfl) [(2, .int x2_245), (0, rf E p0), (1, .int p1)] dX6_pass_128 (Nat.le_of_ble_eq_true rfl) rfl ?_
        refine V_goto hG 104 dX6_pass_131 (by decide) ?_
        cases hb_16
        exact hk_17 _ rfl
      refine V_if_eq hG 128 dX6_pass_120 (by decide) (fun c_246 => ?_) (fun c_246 => ?_)
      · have hj_244 := if_t c_246 hj_244
        cases hj_244
        exact J_243
      · have hj_244 := if_f c_246 hj_244
        refine V_aload_n hG 1 rfl dX6_pass_123 ?_
        refine V_iload_n hG 0 rfl dX6_pass_124 ?_
        obtain ⟨M_248, hc_247, hj_244⟩ := bd_of hj_244
        refine V_callV hE hG (ci := 5) (As := [.int x2_20]) (rest := []) (ok_f_X6_walk hE hN hc_247) g_233 (by decide) rfl hw_X6_186 hdv_X6_walk ⟨Nat.le_of_ble_eq_true rfl, Nat.le_of_ble_eq_true rfl⟩ rfl rfl (Nat.le_of_ble_eq_true rfl) ⟨Nat.le_of_ble_eq_true rfl, Nat.le_of_ble_eq_true rfl⟩ dX6_pass_125 (V_zero rfl rfl ?_)
        cases hj_244
        exact J_243
  refine lp_walk (W := fun s_249 : Int32 × Mem => V E G s_249.2 0 0 4 7 [(2, .int s_249.1), (0, rf E p0), (1, .int p1)] [] Q) ?_ N (0, M_2) hL_13
  intro s_249 b_4 hb_5 hk_6 hx_7
  obtain ⟨x2_9, S_10⟩ := s_249
  have hb_5 : f_X6_pass_b1 N p0 p1 x2_9 S_10 = some b_4 := hb_5
  unfold f_X6_pass_b1 at hb_5
  show V E G S_10 0 0 4 7 [(2, .int x2_9), (0, rf E p0), (1, .int p1)] [] Q
  refine V_iload_n hG 0 rfl dX6_pass_7 ?_
  refine V_aload_n hG 1 rfl dX6_pass_8 ?_
  obtain ⟨g_250, hb_5⟩ := gd_of hb_5
  obtain ⟨a_251, hr_252, hb_5⟩ := bd_of hb_5
  refine gf_X6_3 hN hG g_250 hr_252 dX6_pass_9 ?_
  obtain ⟨g_253, hb_5⟩ := gd_of hb_5
  obtain ⟨a_254, hr_255, hb_5⟩ := bd_of hb_5
  refine gf_X6_76 hN hG g_253 hr_255 dX6_pass_12 ?_
  obtain ⟨g_256, hb_5⟩ := gd_of hb_5
  obtain ⟨a_257, hr_258, hb_5⟩ := bd_of hb_5
  refine gf_X6_163 hN hG g_256 hr_258 dX6_pass_15 ?_
  obtain ⟨g_259, hb_5⟩ := gd_of hb_5
  obtain ⟨r_261, hc_260, hb_5⟩ := bd_of hb_5
  refine V_callV hE hG (ci := 3) (As := []) (rest := [.int x2_9]) (ok_f_J2_size hE hN hc_260) g_259 (by decide) rfl hw_X6_166 hdv_J2_size ⟨Nat.le_of_ble_eq_true rfl, Nat.le_of_ble_eq_true rfl⟩ rfl rfl (Nat.le_of_ble_eq_true rfl) ⟨Nat.le_of_ble_eq_true rfl, Nat.le_of_ble_eq_true rfl⟩ dX6_pass_18 (V_zero rfl rfl ?_)
  refine V_icmp_ge hG 102 dX6_pass_21 (by decide) (fun c_262 => ?_) (fun c_262 => ?_)
  · have hb_5 := if_t c_262 hb_5
    cases hb_5
    exact J_8 _ (hx_7 _ rfl)
  · have hb_5 := if_f c_262 hb_5
    refine V_aload_n hG 1 rfl dX6_pass_24 ?_
    obtain ⟨a_263, hr_264, hb_5⟩ := bd_of hb_5
    refine gf_X6_3 hN hG g_250 hr_264 dX6_pass_25 ?_
    obtain ⟨g_265, hb_5⟩ := gd_of hb_5
    obtain ⟨a_266, hr_267, hb_5⟩ := bd_of hb_5
    refine gf_X6_76 hN hG g_265 hr_267 dX6_pass_28 ?_
    obtain ⟨g_268, hb_5⟩ := gd_of hb_5
    obtain ⟨a_269, hr_270, hb_5⟩ := bd_of hb_5
    refine gf_X6_163 hN hG g_268 hr_270 dX6_pass_31 ?_
    refine V_iload_n hG 0 rfl dX6_pass_34 ?_
    obtain ⟨g_271, hb_5⟩ := gd_of hb_5
    obtain ⟨r_273, hc_272, hb_5⟩ := bd_of hb_5
    refine V_callV hE hG (ci := 3) (As := [.int x2_9]) (rest := []) (ok_f_J2_get hE hN hc_272) g_271 (by decide) rfl hw_X6_171 hdv_J2_get ⟨Nat.le_of_ble_eq_true rfl, Nat.le_of_ble_eq_true rfl⟩ rfl rfl (Nat.le_of_ble_eq_true rfl) ⟨Nat.le_of_ble_eq_true rfl, Nat.le_of_ble_eq_true rfl⟩ dX6_pass_35 (V_zero rfl rfl ?_)
    obtain ⟨g_274, hb_5⟩ := gd_of hb_5
    refine ck_X6_175 hN hG g_274 dX6_pass_38 ?_
    refine gf_X6_177 hN hG g_274 dX6_pass_41 ?_
    refine V_aload_n hG 1 rfl dX6_pass_44 ?_
    refine gf_X6_61 hN hG g_250 dX6_pass_45 ?_
    obtain ⟨M_275, hj_277, hb_5⟩ := bd_of hb_5
    have J_276 : V E G M_275 0 0 4 96 [(2, .int x2_9), (0, rf E p0), (1, .int p1)] [] Q := by
      obtain ⟨x2_278, ex2_278, hb_5⟩ := be_of hb_5
      refine V_iinc hG 0 x2_278 rfl (by rw [ex2_278]; rfl) [(2, .int x2_278), (0, rf E p0), (1, .int p1)] dX6_pass_96 (Nat.le_of_ble_eq_true rfl) rfl ?_
      refine V_goto hG 7 dX6_pass_99 (by decide) ?_
      cases hb_5
      exact hk_6 _ rfl
    refine V_icmp_ne hG 96 dX6_pass_48 (by decide) (fun c_279 => ?_) (fun c_279 => ?_)
    · have hj_277 := if_f c_279 hj_277
      cases hj_277
      exact J_276
    · have hj_277 := if_t c_279 hj_277
      refine V_aload_n hG 1 rfl dX6_pass_51 ?_
      obtain ⟨a_280, hr_281, hj_277⟩ := bd_of hj_277
      refine gf_X6_22 hN hG g_250 hr_281 dX6_pass_52 ?_
      refine V_aload_n hG 1 rfl dX6_pass_55 ?_
      obtain ⟨a_282, hr_283, hj_277⟩ := bd_of hj_277
      refine gf_X6_3 hN hG g_250 hr_283 dX6_pass_56 ?_
      obtain ⟨g_284, hj_277⟩ := gd_of hj_277
      obtain ⟨a_285, hr_286, hj_277⟩ := bd_of hj_277
      refine gf_X6_76 hN hG g_284 hr_286 dX6_pass_59 ?_
      obtain ⟨g_287, hj_277⟩ := gd_of hj_277
      obtain ⟨a_288, hr_289, hj_277⟩ := bd_of hj_277
      refine gf_X6_163 hN hG g_287 hr_289 dX6_pass_62 ?_
      refine V_iload_n hG 0 rfl dX6_pass_65 ?_
      obtain ⟨g_290, hj_277⟩ := gd_of hj_277
      obtain ⟨r_292, hc_291, hj_277⟩ := bd_of hj_277
      refine V_callV hE hG (ci := 3) (As := [.int x2_9]) (rest := [rf E a_280]) (ok_f_J2_get hE hN hc_291) g_290 (by decide) rfl hw_X6_171 hdv_J2_get ⟨Nat.le_of_ble_eq_true rfl, Nat.le_of_ble_eq_true rfl⟩ rfl rfl (Nat.le_of_ble_eq_true rfl) ⟨Nat.le_of_ble_eq_true rfl, Nat.le_of_ble_eq_true rfl⟩ dX6_pass_66 (V_zero rfl rfl ?_)
      obtain ⟨g_293, hj_277⟩ := gd_of hj_277
      refine ck_X6_175 hN hG g_293 dX6_pass_69 ?_
      refine gf_X6_178 hN hG g_293 dX6_pass_72 ?_
      refine V_aload_n hG 1 rfl dX6_pass_75 ?_
      obtain ⟨a_294, hr_295, hj_277⟩ := bd_of hj_277
      refine gf_X6_3 hN hG g_250 hr_295 dX6_pass_76 ?_
      obtain ⟨g_296, hj_277⟩ := gd_of hj_277
      obtain ⟨a_297, hr_298, hj_277⟩ := bd_of hj_277
      refine gf_X6_76 hN hG g_296 hr_298 dX6_pass_79 ?_
      obtain ⟨g_299, hj_277⟩ := gd_of hj_277
      obtain ⟨a_300, hr_301, hj_277⟩ := bd_of hj_277
      refine gf_X6_163 hN hG g_299 hr_301 dX6_pass_82 ?_
      refine V_iload_n hG 0 rfl dX6_pass_85 ?_
      obtain ⟨g_302, hj_277⟩ := gd_of hj_277
      obtain ⟨r_304, hc_303, hj_277⟩ := bd_of hj_277
      refine V_callV hE hG (ci := 3) (As := [.int x2_9]) (rest := [.int (mI S_10 r_292 0), rf E a_280]) (ok_f_J2_get hE hN hc_303) g_302 (by decide) rfl hw_X6_171 hdv_J2_get ⟨Nat.le_of_ble_eq_true rfl, Nat.le_of_ble_eq_true rfl⟩ rfl rfl (Nat.le_of_ble_eq_true rfl) ⟨Nat.le_of_ble_eq_true rfl, Nat.le_of_ble_eq_true rfl⟩ dX6_pass_86 (V_zero rfl rfl ?_)
      obtain ⟨g_305, hj_277⟩ := gd_of hj_277
      refine ck_X6_175 hN hG g_305 dX6_pass_89 ?_
      refine gf_X6_180 hN hG g_305 dX6_pass_92 ?_
      obtain ⟨g_306, hj_277⟩ := gd_of hj_277
      obtain ⟨g_307, hj_277⟩ := gd_of hj_277
      obtain ⟨M_308, eM_308, hj_277⟩ := be_of hj_277
      refine W_iastore hG g_306 g_307 M_308 eM_308 dX6_pass_95 ?_
      have g_309 : mT M_308 p0 = 5 := by rw [eM_308]; exact g_250
      have g_310 : mT M_308 a_251 = 0 := by rw [eM_308]; exact g_253
      have g_311 : mT M_308 a_254 = 2 := by rw [eM_308]; exact g_256
      have g_312 : mT M_308 a_257 = 3 := by rw [eM_308]; exact g_259
      have g_313 : mT M_308 a_263 = 0 := by rw [eM_308]; exact g_265
      have g_314 : mT M_308 a_266 = 2 := by rw [eM_308]; exact g_268
      have g_315 : mT M_308 a_269 = 3 := by rw [eM_308]; exact g_271
      have g_316 : mT M_308 r_273 = 9 := by rw [eM_308]; exact g_274
      have g_317 : mT M_308 a_282 = 0 := by rw [eM_308]; exact g_284
      have g_318 : mT M_308 a_285 = 2 := by rw [eM_308]; exact g_287
      have g_319 : mT M_308 a_288 = 3 := by rw [eM_308]; exact g_290
      have g_320 : mT M_308 r_292 = 9 := by rw [eM_308]; exact g_293
      have g_321 : mT M_308 a_294 = 0 := by rw [eM_308]; exact g_296
      have g_322 : mT M_308 a_297 = 2 := by rw [eM_308]; exact g_299
      have g_323 : mT M_308 a_300 = 3 := by rw [eM_308]; exact g_302
      have g_324 : mT M_308 r_304 = 9 := by rw [eM_308]; exact g_305
      have g_325 : mT M_308 a_280 = 100 := by rw [eM_308]; exact g_306
      cases hj_277
      exact J_276

def f_X6_goesOn_b1 (N : Nat) (p0 : Nat) (p1 : Int32) (x2_6 : Int32) (S_7 : Mem) : Option ((Int32 × Mem) ⊕ (Int32 × Mem)) :=
if p1 ≤ x2_6 then (
some (.inl (x2_6, S_7)))
else (
gd (mT S_7 p0 = 5) (
bd (f_X6_pass N p0 0 S_7) fun (M_16 : Mem) =>
be (x2_6 + 1) fun (x2_17 : Int32) =>
some (.inr (x2_17, M_16))))
def f_X6_goesOn (N : Nat) (p0 : Nat) (p1 : Int32) (M : Mem) : Option (Mem) :=
bd2 (lp N (fun s_12 : Int32 × Mem => f_X6_goesOn_b1 N p0 p1 s_12.1 s_12.2) (0, M)) fun (x2_8 : Int32) (S_9 : Mem) =>
some S_9
def rm_f_X6_goesOn : Room := { frames := 205, cells := 0, slots := 0, locals := 4121 }
theorem ok_f_X6_goesOn {E : En} (hE : EOk E) (hN : NOk E) {N : Nat} {p0 : Nat} {p1 : Int32} {M : Mem}  {M' : Mem} (h : f_X6_goesOn N p0 p1 M = some M') : CM E yX6_goesOn cX6_goesOn 3 none rm_f_X6_goesOn [rf E p0, .int p1] M none M' := by
  unfold f_X6_goesOn at h
  refine CM_introX (own := RX6) rfl (by decide +kernel) (Nat.le_of_ble_eq_true rfl) rfl (fun G hG hEn hI => ?_)
  obtain ⟨Q, eQ⟩ : ∃ Q, Q = QM E G none M' 0 0 := ⟨_, rfl⟩
  show V E G M 0 0 3 0 [(0, rf E p0), (1, .int p1)] [] (QM E G none M' 0 0)
  rw [← eQ]
  refine V_iconst hG 0 rfl dX6_goesOn_0 ?_
  refine V_istore_n hG rfl [(2, .int 0), (0, rf E p0), (1, .int p1)] dX6_goesOn_1 (Nat.le_of_ble_eq_true rfl) rfl ?_
  obtain ⟨x2_8, S_9, hL_10, h⟩ := bd2_of h
  have J_5 : ∀ q_11 : Int32 × Mem, q_11 = (x2_8, S_9) → V E G q_11.2 0 0 3 18 [(2, .int q_11.1), (0, rf E p0), (1, .int p1)] [] Q := by
    intro q_11 e9
    subst q_11
    show V E G S_9 0 0 3 18 [(2, .int x2_8), (0, rf E p0), (1, .int p1)] [] Q
    cases h
    subst eQ
    exact V_vret hG dX6_goesOn_18
  refine lp_walk (W := fun s_12 : Int32 × Mem => V E G s_12.2 0 0 3 2 [(2, .int s_12.1), (0, rf E p0), (1, .int p1)] [] Q) ?_ N (0, M) hL_10
  intro s_12 b_1 hb_2 hk_3 hx_4
  obtain ⟨x2_6, S_7⟩ := s_12
  have hb_2 : f_X6_goesOn_b1 N p0 p1 x2_6 S_7 = some b_1 := hb_2
  unfold f_X6_goesOn_b1 at hb_2
  show V E G S_7 0 0 3 2 [(2, .int x2_6), (0, rf E p0), (1, .int p1)] [] Q
  refine V_iload_n hG 0 rfl dX6_goesOn_2 ?_
  refine V_iload_n hG 2 rfl dX6_goesOn_3 ?_
  refine V_icmp_ge hG 18 dX6_goesOn_4 (by decide) (fun c_13 => ?_) (fun c_13 => ?_)
  · have hb_2 := if_t c_13 hb_2
    cases hb_2
    exact J_5 _ (hx_4 _ rfl)
  · have hb_2 := if_f c_13 hb_2
    refine V_aload_n hG 1 rfl dX6_goesOn_7 ?_
    refine V_iconst hG 0 rfl dX6_goesOn_8 ?_
    obtain ⟨g_14, hb_2⟩ := gd_of hb_2
    obtain ⟨M_16, hc_15, hb_2⟩ := bd_of hb_2
    refine V_callV hE hG (ci := 5) (As := [.int 0]) (rest := []) (ok_f_X6_pass hE hN hc_15) g_14 (by decide) rfl hw_X6_204 hdv_X6_pass ⟨Nat.le_of_ble_eq_true rfl, Nat.le_of_ble_eq_true rfl⟩ rfl rfl (Nat.le_of_ble_eq_true rfl) ⟨Nat.le_of_ble_eq_true rfl, Nat.le_of_ble_eq_true rfl⟩ dX6_goesOn_9 (V_zero rfl rfl ?_)
    obtain ⟨x2_17, ex2_17, hb_2⟩ := be_of hb_2
    refine V_iinc hG 0 x2_17 rfl (by rw [ex2_17]; rfl) [(2, .int x2_17), (0, rf E p0), (1, .int p1)] dX6_goesOn_12 (Nat.le_of_ble_eq_true rfl) rfl ?_
    refine V_goto hG 2 dX6_goesOn_15 (by decide) ?_
    cases hb_2
    exact hk_3 _ rfl
