set_option maxRecDepth 100000
set_option maxHeartbeats 4000000
def f_X20_init (p0 : Nat) (p1 : Int32) (p2 : Int32) (p3 : Int32) (p4 : Int32) (M : Mem) : Option (Mem) :=
bd (f_X19_init p0 M) fun (u_2 : Unit) =>
gd (mT M p0 = 14) (
be (sI M p0 0 p1) fun (M_4 : Mem) =>
be (sI M_4 p0 1 p2) fun (M_6 : Mem) =>
be (sI M_6 p0 2 p3) fun (M_8 : Mem) =>
gd (p4 = 0 ∨ p4 = 1) (
be (sI M_8 p0 3 p4) fun (M_11 : Mem) =>
some M_11))
def rm_f_X20_init : Room := { frames := 2, cells := 0, slots := 0, locals := 60 }
theorem ok_f_X20_init {E : En} (hE : EOk E) (hN : NOk E) {p0 : Nat} {p1 : Int32} {p2 : Int32} {p3 : Int32} {p4 : Int32} {M : Mem}  {M' : Mem} (h : f_X20_init p0 p1 p2 p3 p4 M = some M') : CM E yX20_init cX20_init 5 none rm_f_X20_init [rf E p0, .int p1, .int p2, .int p3, .int p4] M none M' := by
  unfold f_X20_init at h
  refine CM_introX (own := RX20) rfl (by decide +kernel) (Nat.le_of_ble_eq_true rfl) rfl (fun G hG hEn hI => ?_)
  obtain ⟨Q, eQ⟩ : ∃ Q, Q = QM E G none M' 0 0 := ⟨_, rfl⟩
  show V E G M 0 0 5 0 [(0, rf E p0), (1, .int p1), (2, .int p2), (3, .int p3), (4, .int p4)] [] (QM E G none M' 0 0)
  rw [← eQ]
  refine V_aload_n hG 0 rfl dX20_init_0 ?_
  obtain ⟨u_2, hc_1, h⟩ := bd_of h
  refine W_callIN hE hG hN (rt := none) (As := []) (rest := []) (ok_f_X19_init hE hN hc_1) q1346 (lw_meth q1348) q161 q1347 rfl hdc_X19_init ⟨Nat.le_of_ble_eq_true rfl, Nat.le_of_ble_eq_true rfl⟩ rfl rfl (Nat.le_of_ble_eq_true rfl) ⟨Nat.le_of_ble_eq_true rfl, Nat.le_of_ble_eq_true rfl⟩ dX20_init_1 (V_zero rfl rfl ?_)
  refine V_aload_n hG 0 rfl dX20_init_4 ?_
  refine V_iload_n hG 1 rfl dX20_init_5 ?_
  obtain ⟨g_3, h⟩ := gd_of h
  obtain ⟨M_4, eM_4, h⟩ := be_of h
  refine pf_X20_7 hN hG (hI rfl) g_3 eM_4 dX20_init_6 ?_
  have g_5 : mT M_4 p0 = 14 := by rw [eM_4]; exact g_3
  refine V_aload_n hG 0 rfl dX20_init_9 ?_
  refine V_iload_n hG 2 rfl dX20_init_10 ?_
  obtain ⟨M_6, eM_6, h⟩ := be_of h
  refine pf_X20_13 hN hG (hI rfl) g_5 eM_6 dX20_init_11 ?_
  have g_7 : mT M_6 p0 = 14 := by rw [eM_6]; exact g_5
  refine V_aload_n hG 0 rfl dX20_init_14 ?_
  refine V_iload_n hG 3 rfl dX20_init_15 ?_
  obtain ⟨M_8, eM_8, h⟩ := be_of h
  refine pf_X20_16 hN hG (hI rfl) g_7 eM_8 dX20_init_16 ?_
  have g_9 : mT M_8 p0 = 14 := by rw [eM_8]; exact g_7
  refine V_aload_n hG 0 rfl dX20_init_19 ?_
  refine V_iload hG 4 rfl dX20_init_20 ?_
  obtain ⟨g_10, h⟩ := gd_of h
  obtain ⟨M_11, eM_11, h⟩ := be_of h
  refine pf_X20_19 hN hG (hI rfl) g_9 g_10 eM_11 dX20_init_22 ?_
  have g_12 : mT M_11 p0 = 14 := by rw [eM_11]; exact g_9
  cases h
  subst eQ
  exact V_vret hG dX20_init_25

def f_X1_see (LC LZ : Nat) (p0 : Nat) (p1 : Int32) (p2 : Int32) (p3 : Int32) (p4 : Int32) (M : Mem) : Option (Int32 × Mem) :=
gd (mN M ≤ LC ∧ mZ M ≤ LZ) (
bd (f_X1_in (Int32.toInt64 p1) 1 60 M) fun (r_3 : Int32) =>
bd2 (if r_3 = 0 then (
some ((-1), M))
else (
gd (mT M p0 = 0) (
gd (mN M ≤ LC ∧ mZ M ≤ LZ) (
bd (f_X1_isTrough p0 p2 M) fun (r_13 : Int32) =>
if r_13 = 0 then (
some ((-1), M))
else (
gd (mN M ≤ LC ∧ mZ M ≤ LZ) (
bd (f_X1_in (Int32.toInt64 p3) 0 99 M) fun (r_17 : Int32) =>
if r_17 = 0 then (
some ((-1), M))
else (
bd (mR M p0 16) fun (a_19 : Nat) =>
gd (mT M a_19 = 3) (
gd (mN M ≤ LC ∧ mZ M ≤ LZ) (
bd (f_J2_size a_19 M) fun (r_24 : Int32) =>
if 24 ≤ r_24 then (
some ((-1), M))
else (
gd (mN M + 1 ≤ LC ∧ mZ M + 4 ≤ LZ) (
be (nw M 14 4) fun (M_27 : Mem) =>
gd (mN M_27 ≤ LC ∧ mZ M_27 ≤ LZ) (
bd (f_X20_init (mN M) p1 p2 p3 p4 M_27) fun (M_30 : Mem) =>
gd (mT M_30 p0 = 0) (
gd (mN M_30 ≤ LC ∧ mZ M_30 ≤ LZ) (
bd2 (f_X1_add p0 (mN M) M_30) fun (r_35 : Int32) (M_34 : Mem) =>
some (r_35, M_34)))))))))))))) : Option (Int32 × Mem)) fun (t_4 : Int32) (M_5 : Mem) =>
gd (mN M_5 ≤ LC ∧ mZ M_5 ≤ LZ) (
some (t_4, M_5)))
def rm_f_X1_see (LC LZ : Nat) (M : Mem) : Room := { frames := 3, cells := LC - mN M, slots := LZ - mZ M, locals := 84 }
theorem ok_f_X1_see {E : En} (hE : EOk E) (hN : NOk E) {LC LZ : Nat} {p0 : Nat} {p1 : Int32} {p2 : Int32} {p3 : Int32} {p4 : Int32} {M : Mem} {r : Int32} {M' : Mem} (h : f_X1_see LC LZ p0 p1 p2 p3 p4 M = some (r, M')) : CM E yX1_see cX1_see 5 (some .int) (rm_f_X1_see LC LZ M) [rf E p0, .int p1, .int p2, .int p3, .int p4] M (some (.int r)) M' := by
  unfold f_X1_see at h
  refine CM_introX (own := RX1) rfl (by decide +kernel) (Nat.le_of_ble_eq_true rfl) rfl (fun G hG hEn hI => ?_)
  obtain ⟨Q, eQ⟩ : ∃ Q, Q = QM E G (some (.int r)) M' (LC - mN M) (LZ - mZ M) := ⟨_, rfl⟩
  show V E G M 0 0 5 0 [(0, rf E p0), (1, .int p1), (2, .int p2), (3, .int p3), (4, .int p4)] [] (QM E G (some (.int r)) M' (LC - mN M) (LZ - mZ M))
  rw [← eQ]
  refine V_iload_n hG 1 rfl dX1_see_0 ?_
  refine V_i2l hG dX1_see_1 ?_
  refine V_lconst hG 1 rfl dX1_see_2 ?_
  refine V_ldc2 hG q1230 dX1_see_3 ?_
  obtain ⟨g_1, h⟩ := gd_of h
  refine V_narrow hEn (fun n1 n2 n3 => ?_)
  obtain ⟨r_3, hc_2, h⟩ := bd_of h
  refine V_callS hE hG (As := [.long (Int32.toInt64 p1), .long 1, .long 60]) (rest := []) (ok_f_X1_in hE hN hc_2) hw_X1_144 hdc_X1_in ⟨Nat.le_of_ble_eq_true rfl, Nat.le_of_ble_eq_true rfl⟩ rfl rfl (Nat.le_of_ble_eq_true rfl) ⟨by show _ + 0 ≤ LC - mN M; omega, by show _ + 0 ≤ LZ - mZ M; omega⟩ dX1_see_6 ?_
  obtain ⟨t_4, M_5, hj_7, h⟩ := bd2_of h
  have J_6 : V E G M_5 (mN M_5 - mN M) (mZ M_5 - mZ M) 5 64 [(0, rf E p0), (1, .int p1), (2, .int p2), (3, .int p3), (4, .int p4)] [.int t_4] Q := by
    obtain ⟨g_8, h⟩ := gd_of h
    refine V_narrow hEn (fun n1 n2 n3 => V_widen (k := LC - mN M) (n := LZ - mZ M) (by omega) (by omega) ?_)
    cases h
    subst eQ
    exact V_iret hG dX1_see_64
  refine V_if_eq hG 63 dX1_see_9 (by decide) (fun c_9 => ?_) (fun c_9 => ?_)
  · have hj_7 := if_t c_9 hj_7
    refine V_iconst hG (-1) rfl dX1_see_63 ?_
    cases hj_7
    exact V_narrow hEn (fun _ _ _ => J_6)
  · have hj_7 := if_f c_9 hj_7
    refine V_aload_n hG 0 rfl dX1_see_12 ?_
    refine V_iload_n hG 2 rfl dX1_see_13 ?_
    obtain ⟨g_10, hj_7⟩ := gd_of hj_7
    obtain ⟨g_11, hj_7⟩ := gd_of hj_7
    refine V_narrow hEn (fun n1 n2 n3 => ?_)
    obtain ⟨r_13, hc_12, hj_7⟩ := bd_of hj_7
    refine V_callV hE hG (ci := 0) (As := [.int p2]) (rest := []) (ok_f_X1_isTrough hE hN hc_12) g_10 (by decide) rfl hw_X1_233 hdv_X1_isTrough ⟨Nat.le_of_ble_eq_true rfl, Nat.le_of_ble_eq_true rfl⟩ rfl rfl (Nat.le_of_ble_eq_true rfl) ⟨by show _ + 0 ≤ LC - mN M; omega, by show _ + 0 ≤ LZ - mZ M; omega⟩ dX1_see_14 ?_
    refine V_if_eq hG 63 dX1_see_17 (by decide) (fun c_14 => ?_) (fun c_14 => ?_)
    · have hj_7 := if_t c_14 hj_7
      refine V_iconst hG (-1) rfl dX1_see_63 ?_
      cases hj_7
      exact V_narrow hEn (fun _ _ _ => J_6)
    · have hj_7 := if_f c_14 hj_7
      refine V_iload_n hG 3 rfl dX1_see_20 ?_
      refine V_i2l hG dX1_see_21 ?_
      refine V_lconst hG 0 rfl dX1_see_22 ?_
      refine V_ldc2 hG q1108 dX1_see_23 ?_
      obtain ⟨g_15, hj_7⟩ := gd_of hj_7
      refine V_narrow hEn (fun n1 n2 n3 => ?_)
      obtain ⟨r_17, hc_16, hj_7⟩ := bd_of hj_7
      refine V_callS hE hG (As := [.long (Int32.toInt64 p3), .long 0, .long 99]) (rest := []) (ok_f_X1_in hE hN hc_16) hw_X1_144 hdc_X1_in ⟨Nat.le_of_ble_eq_true rfl, Nat.le_of_ble_eq_true rfl⟩ rfl rfl (Nat.le_of_ble_eq_true rfl) ⟨by show _ + 0 ≤ LC - mN M; omega, by show _ + 0 ≤ LZ - mZ M; omega⟩ dX1_see_26 ?_
      refine V_if_eq hG 63 dX1_see_29 (by decide) (fun c_18 => ?_) (fun c_18 => ?_)
      · have hj_7 := if_t c_18 hj_7
        refine V_iconst hG (-1) rfl dX1_see_63 ?_
        cases hj_7
        exact V_narrow hEn (fun _ _ _ => J_6)
      · have hj_7 := if_f c_18 hj_7
        refine V_aload_n hG 0 rfl dX1_see_32 ?_
        obtain ⟨a_19, hr_20, hj_7⟩ := bd_of hj_7
        refine gf_X1_125 hN hG g_10 hr_20 dX1_see_33 ?_
        obtain ⟨g_21, hj_7⟩ := gd_of hj_7
        obtain ⟨g_22, hj_7⟩ := gd_of hj_7
        refine V_narrow hEn (fun n1 n2 n3 => ?_)
        obtain ⟨r_24, hc_23, hj_7⟩ := bd_of hj_7
        refine V_callV hE hG (ci := 3) (As := []) (rest := []) (ok_f_J2_size hE hN hc_23) g_21 (by decide) rfl hw_X1_23 hdv_J2_size ⟨Nat.le_of_ble_eq_true rfl, Nat.le_of_ble_eq_true rfl⟩ rfl rfl (Nat.le_of_ble_eq_true rfl) ⟨by show _ + 0 ≤ LC - mN M; omega, by show _ + 0 ≤ LZ - mZ M; omega⟩ dX1_see_36 ?_
        refine V_bipush hG 24 (by decide) dX1_see_39 ?_
        refine V_icmp_ge hG 63 dX1_see_41 (by decide) (fun c_25 => ?_) (fun c_25 => ?_)
        · have hj_7 := if_t c_25 hj_7
          refine V_iconst hG (-1) rfl dX1_see_63 ?_
          cases hj_7
          exact V_narrow hEn (fun _ _ _ => J_6)
        · have hj_7 := if_f c_25 hj_7
          refine V_aload_n hG 0 rfl dX1_see_44 ?_
          obtain ⟨g_26, hj_7⟩ := gd_of hj_7
          obtain ⟨M_27, eM_27, hj_7⟩ := be_of hj_7
          refine nw_X1_370 hG hEn rfl rfl eM_27 g_26 dX1_see_45 ?_
          refine V_dup hG rfl dX1_see_48 ?_
          refine V_iload_n hG 1 rfl dX1_see_49 ?_
          refine V_iload_n hG 2 rfl dX1_see_50 ?_
          refine V_iload_n hG 3 rfl dX1_see_51 ?_
          refine V_iload hG 4 rfl dX1_see_52 ?_
          obtain ⟨g_28, hj_7⟩ := gd_of hj_7
          refine V_narrow hEn (fun n1 n2 n3 => ?_)
          obtain ⟨M_30, hc_29, hj_7⟩ := bd_of hj_7
          refine V_callI hE hG (rt := none) (As := [.int p1, .int p2, .int p3, .int p4]) (rest := [rf E (mN M), rf E p0]) (ok_f_X20_init hE hN hc_29) (lw_meth q1345) q162 q1343 q1344 rfl hdc_X20_init ⟨Nat.le_of_ble_eq_true rfl, Nat.le_of_ble_eq_true rfl⟩ rfl rfl (Nat.le_of_ble_eq_true rfl) ⟨by show _ + 0 ≤ LC - mN M; omega, by show _ + 0 ≤ LZ - mZ M; omega⟩ dX1_see_54 ?_
          obtain ⟨g_31, hj_7⟩ := gd_of hj_7
          obtain ⟨g_32, hj_7⟩ := gd_of hj_7
          refine V_narrow hEn (fun n1 n2 n3 => ?_)
          obtain ⟨r_35, M_34, hc_33, hj_7⟩ := bd2_of hj_7
          refine V_callV hE hG (ci := 0) (As := [rf E (mN M)]) (rest := []) (ok_f_X1_add hE hN hc_33) g_31 (by decide) rfl hw_X1_375 hdv_X1_add ⟨Nat.le_of_ble_eq_true rfl, Nat.le_of_ble_eq_true rfl⟩ rfl rfl (Nat.le_of_ble_eq_true rfl) ⟨by show _ + 0 ≤ LC - mN M; omega, by show _ + 0 ≤ LZ - mZ M; omega⟩ dX1_see_57 ?_
          refine V_goto hG 64 dX1_see_60 (by decide) ?_
          cases hj_7
          exact V_narrow hEn (fun _ _ _ => J_6)

def f_X1_send (N : Nat) (LC LZ : Nat) (p0 : Nat) (p1 : Int32) (p2 : Int32) (M : Mem) : Option (Int32 × Mem) :=
gd (mT M p0 = 0) (
gd (mN M ≤ LC ∧ mZ M ≤ LZ) (
bd (f_X1_isHorse p0 p1 M) fun (r_4 : Int32) =>
if r_4 = 0 then (
gd (mN M ≤ LC ∧ mZ M ≤ LZ) (
some ((-1), M)))
else (
gd (mN M ≤ LC ∧ mZ M ≤ LZ) (
bd (f_X1_isTrough p0 p2 M) fun (r_9 : Int32) =>
if r_9 = 0 then (
gd (mN M ≤ LC ∧ mZ M ≤ LZ) (
some ((-1), M)))
else (
bd (mR M p0 9) fun (a_12 : Nat) =>
gd (mT M a_12 = 5) (
gd (mN M ≤ LC ∧ mZ M ≤ LZ) (
bd (f_X6_isOn a_12 p1 M) fun (r_17 : Int32) =>
if r_17 = 0 then (
gd (mN M ≤ LC ∧ mZ M ≤ LZ) (
some ((-1), M)))
else (
bd (mR M p0 9) fun (a_19 : Nat) =>
gd (mT M a_19 = 5) (
bd (mR M a_19 2) fun (a_22 : Nat) =>
gd (mT M a_22 = 100) (
gd (inb p1 (mLn M a_22)) (
if mI M a_22 (Int32.toNatClampNeg p1) = p2 then (
gd (mN M ≤ LC ∧ mZ M ≤ LZ) (
some ((-2), M)))
else (
gd (mN M ≤ LC ∧ mZ M ≤ LZ) (
bd (f_X1_keepNow N LC LZ p0 M) fun (M_29 : Mem) =>
gd (mT M_29 p0 = 0) (
bd (mR M_29 p0 9) fun (a_31 : Nat) =>
gd (mT M_29 a_31 = 5) (
bd (mR M_29 a_31 2) fun (a_34 : Nat) =>
gd (mT M_29 a_34 = 100) (
gd (inb p1 (mLn M_29 a_34)) (
be (sI M_29 a_34 (Int32.toNatClampNeg p1) p2) fun (M_38 : Mem) =>
gd (mN M_38 ≤ LC ∧ mZ M_38 ≤ LZ) (
bd (f_X1_trough p0 p2 M_38) fun (r_44 : Nat) =>
gd (mT M_38 r_44 = 7) (
bd (mR M_38 p0 9) fun (a_46 : Nat) =>
gd (mT M_38 a_46 = 5) (
bd (mR M_38 a_46 0) fun (a_49 : Nat) =>
gd (mT M_38 a_49 = 100) (
gd (inb p1 (mLn M_38 a_49)) (
gd (mN M_38 ≤ LC ∧ mZ M_38 ≤ LZ) (
bd (f_J8_abs ((mI M_38 r_44 0) - (mI M_38 a_49 (Int32.toNatClampNeg p1))) M_38) fun (r_55 : Int32) =>
gd (mN M_38 ≤ LC ∧ mZ M_38 ≤ LZ) (
some (r_55, M_38)))))))))))))))))))))))))
def rm_f_X1_send (LC LZ : Nat) (M : Mem) : Room := { frames := 4, cells := LC - mN M, slots := LZ - mZ M, locals := 85 }
theorem ok_f_X1_send {E : En} (hE : EOk E) (hN : NOk E) {N : Nat} {LC LZ : Nat} {p0 : Nat} {p1 : Int32} {p2 : Int32} {M : Mem} {r : Int32} {M' : Mem} (h : f_X1_send N LC LZ p0 p1 p2 M = some (r, M')) : CM E yX1_send cX1_send 3 (some .int) (rm_f_X1_send LC LZ M) [rf E p0, .int p1, .int p2] M (some (.int r)) M' := by
  unfold f_X1_send at h
  refine CM_introX (own := RX1) rfl (by decide +kernel) (Nat.le_of_ble_eq_true rfl) rfl (fun G hG hEn hI => ?_)
  obtain ⟨Q, eQ⟩ : ∃ Q, Q = QM E G (some (.int r)) M' (LC - mN M) (LZ - mZ M) := ⟨_, rfl⟩
  show V E G M 0 0 3 0 [(0, rf E p0), (1, .int p1), (2, .int p2)] [] (QM E G (some (.int r)) M' (LC - mN M) (LZ - mZ M))
  rw [← eQ]
  refine V_aload_n hG 0 rfl dX1_send_0 ?_
  refine V_iload_n hG 1 rfl dX1_send_1 ?_
  obtain ⟨g_1, h⟩ := gd_of h
  obtain ⟨g_2, h⟩ := gd_of h
  refine V_narrow hEn (fun n1 n2 n3 => ?_)
  obtain ⟨r_4, hc_3, h⟩ := bd_of h
  refine V_callV hE hG (ci := 0) (As := [.int p1]) (rest := []) (ok_f_X1_isHorse hE hN hc_3) g_1 (by decide) rfl hw_X1_186 hdv_X1_isHorse ⟨Nat.le_of_ble_eq_true rfl, Nat.le_of_ble_eq_true rfl⟩ rfl rfl (Nat.le_of_ble_eq_true rfl) ⟨by show _ + 0 ≤ LC - mN M; omega, by show _ + 0 ≤ LZ - mZ M; omega⟩ dX1_send_2 ?_
  refine V_if_eq hG 27 dX1_send_5 (by decide) (fun c_5 => ?_) (fun c_5 => ?_)
  · have h := if_t c_5 h
    refine V_iconst hG (-1) rfl dX1_send_27 ?_
    obtain ⟨g_6, h⟩ := gd_of h
    refine V_narrow hEn (fun n1 n2 n3 => V_widen (k := LC - mN M) (n := LZ - mZ M) (by omega) (by omega) ?_)
    cases h
    subst eQ
    exact V_iret hG dX1_send_28
  · have h := if_f c_5 h
    refine V_aload_n hG 0 rfl dX1_send_8 ?_
    refine V_iload_n hG 2 rfl dX1_send_9 ?_
    obtain ⟨g_7, h⟩ := gd_of h
    refine V_narrow hEn (fun n1 n2 n3 => ?_)
    obtain ⟨r_9, hc_8, h⟩ := bd_of h
    refine V_callV hE hG (ci := 0) (As := [.int p2]) (rest := []) (ok_f_X1_isTrough hE hN hc_8) g_1 (by decide) rfl hw_X1_233 hdv_X1_isTrough ⟨Nat.le_of_ble_eq_true rfl, Nat.le_of_ble_eq_true rfl⟩ rfl rfl (Nat.le_of_ble_eq_true rfl) ⟨by show _ + 0 ≤ LC - mN M; omega, by show _ + 0 ≤ LZ - mZ M; omega⟩ dX1_send_10 ?_
    refine V_if_eq hG 27 dX1_send_13 (by decide) (fun c_10 => ?_) (fun c_10 => ?_)
    · have h := if_t c_10 h
      refine V_iconst hG (-1) rfl dX1_send_27 ?_
      obtain ⟨g_11, h⟩ := gd_of h
      refine V_narrow hEn (fun n1 n2 n3 => V_widen (k := LC - mN M) (n := LZ - mZ M) (by omega) (by omega) ?_)
      cases h
      subst eQ
      exact V_iret hG dX1_send_28
    · have h := if_f c_10 h
      refine V_aload_n hG 0 rfl dX1_send_16 ?_
      obtain ⟨a_12, hr_13, h⟩ := bd_of h
      refine gf_X1_101 hN hG g_1 hr_13 dX1_send_17 ?_
      refine V_iload_n hG 1 rfl dX1_send_20 ?_
      obtain ⟨g_14, h⟩ := gd_of h
      obtain ⟨g_15, h⟩ := gd_of h
      refine V_narrow hEn (fun n1 n2 n3 => ?_)
      obtain ⟨r_17, hc_16, h⟩ := bd_of h
      refine V_callV hE hG (ci := 5) (As := [.int p1]) (rest := []) (ok_f_X6_isOn hE hN hc_16) g_14 (by decide) rfl hw_X1_219 hdv_X6_isOn ⟨Nat.le_of_ble_eq_true rfl, Nat.le_of_ble_eq_true rfl⟩ rfl rfl (Nat.le_of_ble_eq_true rfl) ⟨by show _ + 0 ≤ LC - mN M; omega, by show _ + 0 ≤ LZ - mZ M; omega⟩ dX1_send_21 ?_
      refine V_if_ne hG 29 dX1_send_24 (by decide) (fun c_18 => ?_) (fun c_18 => ?_)
      · have h := if_f c_18 h
        refine V_aload_n hG 0 rfl dX1_send_29 ?_
        obtain ⟨a_19, hr_20, h⟩ := bd_of h
        refine gf_X1_101 hN hG g_1 hr_20 dX1_send_30 ?_
        obtain ⟨g_21, h⟩ := gd_of h
        obtain ⟨a_22, hr_23, h⟩ := bd_of h
        refine gf_X1_209 hN hG g_21 hr_23 dX1_send_33 ?_
        refine V_iload_n hG 1 rfl dX1_send_36 ?_
        obtain ⟨g_24, h⟩ := gd_of h
        obtain ⟨g_25, h⟩ := gd_of h
        refine V_iaload hG g_24 g_25 dX1_send_37 ?_
        refine V_iload_n hG 2 rfl dX1_send_38 ?_
        refine V_icmp_ne hG 45 dX1_send_39 (by decide) (fun c_26 => ?_) (fun c_26 => ?_)
        · have h := if_f c_26 h
          refine V_aload_n hG 0 rfl dX1_send_45 ?_
          obtain ⟨g_27, h⟩ := gd_of h
          refine V_narrow hEn (fun n1 n2 n3 => ?_)
          obtain ⟨M_29, hc_28, h⟩ := bd_of h
          refine V_callV hE hG (ci := 0) (As := []) (rest := []) (ok_f_X1_keepNow hE hN hc_28) g_1 (by decide) rfl hw_X1_258 hdv_X1_keepNow ⟨Nat.le_of_ble_eq_true rfl, Nat.le_of_ble_eq_true rfl⟩ rfl rfl (Nat.le_of_ble_eq_true rfl) ⟨by show _ + (LC - mN M) ≤ LC - mN M; omega, by show _ + (LZ - mZ M) ≤ LZ - mZ M; omega⟩ dX1_send_46 ?_
          refine V_aload_n hG 0 rfl dX1_send_49 ?_
          obtain ⟨g_30, h⟩ := gd_of h
          obtain ⟨a_31, hr_32, h⟩ := bd_of h
          refine gf_X1_101 hN hG g_30 hr_32 dX1_send_50 ?_
          obtain ⟨g_33, h⟩ := gd_of h
          obtain ⟨a_34, hr_35, h⟩ := bd_of h
          refine gf_X1_209 hN hG g_33 hr_35 dX1_send_53 ?_
          refine V_iload_n hG 1 rfl dX1_send_56 ?_
          refine V_iload_n hG 2 rfl dX1_send_57 ?_
          obtain ⟨g_36, h⟩ := gd_of h
          obtain ⟨g_37, h⟩ := gd_of h
          obtain ⟨M_38, eM_38, h⟩ := be_of h
          refine W_iastore hG g_36 g_37 M_38 eM_38 dX1_send_58 ?_
          have g_39 : mT M_38 p0 = 0 := by rw [eM_38]; exact g_30
          have g_40 : mT M_38 a_31 = 5 := by rw [eM_38]; exact g_33
          have g_41 : mT M_38 a_34 = 100 := by rw [eM_38]; exact g_36
          refine V_aload_n hG 0 rfl dX1_send_59 ?_
          refine V_iload_n hG 2 rfl dX1_send_60 ?_
          obtain ⟨g_42, h⟩ := gd_of h
          refine V_narrow hEn (fun n1 n2 n3 => ?_)
          obtain ⟨r_44, hc_43, h⟩ := bd_of h
          refine V_callV hE hG (ci := 0) (As := [.int p2]) (rest := []) (ok_f_X1_trough hE hN hc_43) g_39 (by decide) rfl hw_X1_228 hdv_X1_trough ⟨Nat.le_of_ble_eq_true rfl, Nat.le_of_ble_eq_true rfl⟩ rfl rfl (Nat.le_of_ble_eq_true rfl) ⟨by show _ + 0 ≤ LC - mN M; omega, by show _ + 0 ≤ LZ - mZ M; omega⟩ dX1_send_61 ?_
          obtain ⟨g_45, h⟩ := gd_of h
          refine gf_X1_232 hN hG g_45 dX1_send_64 ?_
          refine V_aload_n hG 0 rfl dX1_send_67 ?_
          obtain ⟨a_46, hr_47, h⟩ := bd_of h
          refine gf_X1_101 hN hG g_39 hr_47 dX1_send_68 ?_
          obtain ⟨g_48, h⟩ := gd_of h
          obtain ⟨a_49, hr_50, h⟩ := bd_of h
          refine gf_X1_200 hN hG g_48 hr_50 dX1_send_71 ?_
          refine V_iload_n hG 1 rfl dX1_send_74 ?_
          obtain ⟨g_51, h⟩ := gd_of h
          obtain ⟨g_52, h⟩ := gd_of h
          refine V_iaload hG g_51 g_52 dX1_send_75 ?_
          refine V_isub hG dX1_send_76 ?_
          obtain ⟨g_53, h⟩ := gd_of h
          refine V_narrow hEn (fun n1 n2 n3 => ?_)
          obtain ⟨r_55, hc_54, h⟩ := bd_of h
          refine V_callS hE hG (As := [.int ((mI M_38 r_44 0) - (mI M_38 a_49 (Int32.toNatClampNeg p1)))]) (rest := []) (ok_f_J8_abs hE hN hc_54) hw_X1_261 hdc_J8_abs ⟨Nat.le_of_ble_eq_true rfl, Nat.le_of_ble_eq_true rfl⟩ rfl rfl (Nat.le_of_ble_eq_true rfl) ⟨by show _ + 0 ≤ LC - mN M; omega, by show _ + 0 ≤ LZ - mZ M; omega⟩ dX1_send_77 ?_
          obtain ⟨g_56, h⟩ := gd_of h
          refine V_narrow hEn (fun n1 n2 n3 => V_widen (k := LC - mN M) (n := LZ - mZ M) (by omega) (by omega) ?_)
          cases h
          subst eQ
          exact V_iret hG dX1_send_80
        · have h := if_t c_26 h
          refine V_bipush hG (-2) (by decide) dX1_send_42 ?_
          obtain ⟨g_57, h⟩ := gd_of h
          refine V_narrow hEn (fun n1 n2 n3 => V_widen (k := LC - mN M) (n := LZ - mZ M) (by omega) (by omega) ?_)
          cases h
          subst eQ
          exact V_iret hG dX1_send_44
      · have h := if_t c_18 h
        refine V_iconst hG (-1) rfl dX1_send_27 ?_
        obtain ⟨g_58, h⟩ := gd_of h
        refine V_narrow hEn (fun n1 n2 n3 => V_widen (k := LC - mN M) (n := LZ - mZ M) (by omega) (by omega) ?_)
        cases h
        subst eQ
        exact V_iret hG dX1_send_28

def f_X1_sides_b1 (N : Nat) (p0 : Nat) (M : Mem) (x2_6 : Int32) (x1_7 : Int32) : Option ((Int32 × Int32) ⊕ (Int32 × Int32)) :=
gd (mT M p0 = 0) (
bd (f_X1_horses p0 M) fun (r_15 : Int32) =>
if r_15 ≤ x2_6 then (
some (.inl (x2_6, x1_7)))
else (
bd (mR M p0 9) fun (a_17 : Nat) =>
gd (mT M a_17 = 5) (
bd (f_X6_isOn a_17 x2_6 M) fun (r_21 : Int32) =>
bd (if r_21 = 0 then (
some 0)
else (
bd (f_X1_horse p0 x2_6 M) fun (r_29 : Nat) =>
gd (mT M r_29 = 8) (
some (1 <<< ((mI M r_29 2) &&& 31)))) : Option (Int32)) fun (t_22 : Int32) =>
be (x1_7 ||| t_22) fun (x1_25 : Int32) =>
be (x2_6 + 1) fun (x2_26 : Int32) =>
some (.inr (x2_26, x1_25)))))
def f_X1_sides (N : Nat) (p0 : Nat) (M : Mem) : Option (Int32) :=
bd2 (lp N (fun s_12 : Int32 × Int32 => f_X1_sides_b1 N p0 M s_12.1 s_12.2) (0, 0)) fun (x2_8 : Int32) (x1_9 : Int32) =>
some x1_9
def rm_f_X1_sides : Room := { frames := 4, cells := 0, slots := 0, locals := 85 }
theorem ok_f_X1_sides {E : En} (hE : EOk E) (hN : NOk E) {N : Nat} {p0 : Nat} {M : Mem} {r : Int32} (h : f_X1_sides N p0 M = some r) : CM E yX1_sides cX1_sides 3 (some .int) rm_f_X1_sides [rf E p0] M (some (.int r)) M := by
  unfold f_X1_sides at h
  refine CM_introX (own := RX1) rfl (by decide +kernel) (Nat.le_of_ble_eq_true rfl) rfl (fun G hG hEn hI => ?_)
  obtain ⟨Q, eQ⟩ : ∃ Q, Q = QM E G (some (.int r)) M 0 0 := ⟨_, rfl⟩
  show V E G M 0 0 3 0 [(0, rf E p0)] [] (QM E G (some (.int r)) M 0 0)
  rw [← eQ]
  refine V_iconst hG 0 rfl dX1_sides_0 ?_
  refine V_istore_n hG rfl [(1, .int 0), (0, rf E p0)] dX1_sides_1 (Nat.le_of_ble_eq_true rfl) rfl ?_
  refine V_iconst hG 0 rfl dX1_sides_2 ?_
  refine V_istore_n hG rfl [(2, .int 0), (1, .int 0), (0, rf E p0)] dX1_sides_3 (Nat.le_of_ble_eq_true rfl) rfl ?_
  obtain ⟨x2_8, x1_9, hL_10, h⟩ := bd2_of h
  have J_5 : ∀ q_11 : Int32 × Int32, q_11 = (x2_8, x1_9) → V E G M 0 0 3 46 [(2, .int q_11.1), (1, .int q_11.2), (0, rf E p0)] [] Q := by
    intro q_11 e9
    subst q_11
    show V E G M 0 0 3 46 [(2, .int x2_8), (1, .int x1_9), (0, rf E p0)] [] Q
    refine V_iload_n hG 1 rfl dX1_sides_46 ?_
    cases h
    subst eQ
    exact V_iret hG dX1_sides_47
  refine lp_walk (W := fun s_12 : Int32 × Int32 => V E G M 0 0 3 4 [(2, .int s_12.1), (1, .int s_12.2), (0, rf E p0)] [] Q) ?_ N (0, 0) hL_10
  intro s_12 b_1 hb_2 hk_3 hx_4
  obtain ⟨x2_6, x1_7⟩ := s_12
  have hb_2 : f_X1_sides_b1 N p0 M x2_6 x1_7 = some b_1 := hb_2
  unfold f_X1_sides_b1 at hb_2
  show V E G M 0 0 3 4 [(2, .int x2_6), (1, .int x1_7), (0, rf E p0)] [] Q
  refine V_iload_n hG 0 rfl dX1_sides_4 ?_
  refine V_aload_n hG 2 rfl dX1_sides_5 ?_
  obtain ⟨g_13, hb_2⟩ := gd_of hb_2
  obtain ⟨r_15, hc_14, hb_2⟩ := bd_of hb_2
  refine V_callV hE hG (ci := 0) (As := []) (rest := [.int x2_6]) (ok_f_X1_horses hE hN hc_14) g_13 (by decide) rfl hw_X1_184 hdv_X1_horses ⟨Nat.le_of_ble_eq_true rfl, Nat.le_of_ble_eq_true rfl⟩ rfl rfl (Nat.le_of_ble_eq_true rfl) ⟨Nat.le_of_ble_eq_true rfl, Nat.le_of_ble_eq_true rfl⟩ dX1_sides_6 (V_zero rfl rfl ?_)
  refine V_icmp_ge hG 46 dX1_sides_9 (by decide) (fun c_16 => ?_) (fun c_16 => ?_)
  · have hb_2 := if_t c_16 hb_2
    cases hb_2
    exact J_5 _ (hx_4 _ rfl)
  · have hb_2 := if_f c_16 hb_2
    refine V_iload_n hG 1 rfl dX1_sides_12 ?_
    refine V_aload_n hG 2 rfl dX1_sides_13 ?_
    obtain ⟨a_17, hr_18, hb_2⟩ := bd_of hb_2
    refine gf_X1_101 hN hG g_13 hr_18 dX1_sides_14 ?_
    refine V_iload_n hG 0 rfl dX1_sides_17 ?_
    obtain ⟨g_19, hb_2⟩ := gd_of hb_2
    obtain ⟨r_21, hc_20, hb_2⟩ := bd_of hb_2
    refine V_callV hE hG (ci := 5) (As := [.int x2_6]) (rest := [.int x1_7]) (ok_f_X6_isOn hE hN hc_20) g_19 (by decide) rfl hw_X1_219 hdv_X6_isOn ⟨Nat.le_of_ble_eq_true rfl, Nat.le_of_ble_eq_true rfl⟩ rfl rfl (Nat.le_of_ble_eq_true rfl) ⟨Nat.le_of_ble_eq_true rfl, Nat.le_of_ble_eq_true rfl⟩ dX1_sides_18 (V_zero rfl rfl ?_)
    obtain ⟨t_22, hj_24, hb_2⟩ := bd_of hb_2
    have J_23 : V E G M 0 0 3 38 [(2, .int x2_6), (1, .int x1_7), (0, rf E p0)] [.int t_22, .int x1_7] Q := by
      refine V_ior hG dX1_sides_38 ?_
      obtain ⟨x1_25, ex1_25, hb_2⟩ := be_of hb_2
      refine V_topi ex1_25 ?_
      refine V_istore_n hG rfl [(1, .int x1_25), (2, .int x2_6), (0, rf E p0)] dX1_sides_39 (Nat.le_of_ble_eq_true rfl) rfl ?_
      obtain ⟨x2_26, ex2_26, hb_2⟩ := be_of hb_2
      refine V_iinc hG 1 x2_26 rfl (by rw [ex2_26]; rfl) [(2, .int x2_26), (1, .int x1_25), (0, rf E p0)] dX1_sides_40 (Nat.le_of_ble_eq_true rfl) rfl ?_
      refine V_goto hG 4 dX1_sides_43 (by decide) ?_
      cases hb_2
      exact hk_3 _ rfl
    refine V_if_eq hG 37 dX1_sides_21 (by decide) (fun c_27 => ?_) (fun c_27 => ?_)
    · have hj_24 := if_t c_27 hj_24
      refine V_iconst hG 0 rfl dX1_sides_37 ?_
      cases hj_24
      exact J_23
    · have hj_24 := if_f c_27 hj_24
      refine V_iconst hG 1 rfl dX1_sides_24 ?_
      refine V_aload_n hG 2 rfl dX1_sides_25 ?_
      refine V_iload_n hG 0 rfl dX1_sides_26 ?_
      obtain ⟨r_29, hc_28, hj_24⟩ := bd_of hj_24
      refine V_callV hE hG (ci := 0) (As := [.int x2_6]) (rest := [.int 1, .int x1_7]) (ok_f_X1_horse hE hN hc_28) g_13 (by decide) rfl hw_X1_193 hdv_X1_horse ⟨Nat.le_of_ble_eq_true rfl, Nat.le_of_ble_eq_true rfl⟩ rfl rfl (Nat.le_of_ble_eq_true rfl) ⟨Nat.le_of_ble_eq_true rfl, Nat.le_of_ble_eq_true rfl⟩ dX1_sides_27 (V_zero rfl rfl ?_)
      obtain ⟨g_30, hj_24⟩ := gd_of hj_24
      refine gf_X1_197 hN hG g_30 dX1_sides_30 ?_
      refine V_ishl hG dX1_sides_33 ?_
      refine V_goto hG 38 dX1_sides_34 (by decide) ?_
      cases hj_24
      exact J_23

def f_X1_stops_b3 (N : Nat) (x3_51 : Int32) (p0 : Nat) (p1 : Int32) (p2 : Int32) (x4_89 : Int32) (S_90 : Mem) : Option ((Int32 × Mem) ⊕ (Int32 × Mem)) :=
gd (mT S_90 p0 = 0) (
bd (f_X1_troughs p0 S_90) fun (r_99 : Int32) =>
if r_99 ≤ x4_89 then (
some (.inl (x4_89, S_90)))
else (
bd (mR S_90 p0 14) fun (a_101 : Nat) =>
gd (mT S_90 a_101 = 100) (
gd (inb x4_89 (mLn S_90 a_101)) (
bd (if mI S_90 a_101 (Int32.toNatClampNeg x4_89) = (-1) then (
some S_90)
else (
bd (f_X1_trough p0 x4_89 S_90) fun (r_111 : Nat) =>
gd (mT S_90 r_111 = 7) (
bd (mR S_90 p0 14) fun (a_113 : Nat) =>
gd (mT S_90 a_113 = 100) (
gd (inb x4_89 (mLn S_90 a_113)) (
bd (f_X1_leg N p0 p1 (mI S_90 r_111 0) (mI S_90 a_113 (Int32.toNatClampNeg x4_89)) S_90) fun (M_118 : Mem) =>
some M_118)))) : Option (Mem)) fun (M_105 : Mem) =>
be (x4_89 + 1) fun (x4_108 : Int32) =>
some (.inr (x4_108, M_105))))))
def f_X1_stops_b2 (N : Nat) (x3_51 : Int32) (p0 : Nat) (p1 : Int32) (p2 : Int32) (x4_73 : Int32) (S_74 : Mem) : Option ((Int32 × Mem) ⊕ (Int32 × Mem)) :=
if 6 ≤ x4_73 then (
some (.inl (x4_73, S_74)))
else (
gd (mT S_74 p0 = 0) (
bd (mR S_74 p0 14) fun (a_122 : Nat) =>
bd (mR S_74 p0 15) fun (a_124 : Nat) =>
gd (mT S_74 a_124 = 100) (
gd (inb x4_73 (mLn S_74 a_124)) (
gd (mT S_74 a_122 = 100) (
gd (inb x4_73 (mLn S_74 a_122)) (
be (sI S_74 a_122 (Int32.toNatClampNeg x4_73) (mI S_74 a_124 (Int32.toNatClampNeg x4_73))) fun (M_130 : Mem) =>
be (x4_73 + 1) fun (x4_134 : Int32) =>
some (.inr (x4_134, M_130))))))))
def f_X1_stops_b1 (N : Nat) (p0 : Nat) (p1 : Int32) (p2 : Int32) (x3_51 : Int32) (S_52 : Mem) : Option (((Int32 × Mem) ⊕ (Int32 × Mem)) ⊕ (Int32 × Mem)) :=
if 6 < x3_51 then (
some (.inl (.inl (x3_51, S_52))))
else (
gd (mT S_52 p0 = 0) (
bd (mR S_52 p0 15) fun (a_63 : Nat) =>
gd (mT S_52 a_63 = 100) (
gd (inb p2 (mLn S_52 a_63)) (
if mI S_52 a_63 (Int32.toNatClampNeg p2) = (-1) then (
bd2 (lp N (fun s_119 : Int32 × Mem => f_X1_stops_b2 N x3_51 p0 p1 p2 s_119.1 s_119.2) (0, S_52)) fun (x4_75 : Int32) (S_76 : Mem) =>
gd (mT S_76 p0 = 0) (
bd (mR S_76 p0 15) fun (a_80 : Nat) =>
bd (f_X1_clear N p0 a_80 S_76) fun (M_83 : Mem) =>
bd2 (lp N (fun s_96 : Int32 × Mem => f_X1_stops_b3 N x3_51 p0 p1 p2 s_96.1 s_96.2) (0, M_83)) fun (x4_91 : Int32) (S_92 : Mem) =>
be (x3_51 + 1) fun (x3_95 : Int32) =>
some (.inr (x3_95, S_92))))
else (
some (.inl (.inr (x3_51, S_52))))))))
def f_X1_stops (N : Nat) (p0 : Nat) (p1 : Int32) (p2 : Int32) (M : Mem) : Option (Int32 × Mem) :=
gd (mT M p0 = 0) (
bd (f_X1_isHorse p0 p1 M) fun (r_3 : Int32) =>
if r_3 = 0 then (
some ((-1), M))
else (
bd (f_X1_isTrough p0 p2 M) fun (r_6 : Int32) =>
if r_6 = 0 then (
some ((-1), M))
else (
bd (mR M p0 9) fun (a_8 : Nat) =>
gd (mT M a_8 = 5) (
bd (f_X6_isOn a_8 p1 M) fun (r_12 : Int32) =>
if r_12 = 0 then (
some ((-2), M))
else (
bd (mR M p0 9) fun (a_14 : Nat) =>
gd (mT M a_14 = 5) (
bd (mR M a_14 0) fun (a_17 : Nat) =>
gd (mT M a_17 = 100) (
gd (inb p1 (mLn M a_17)) (
bd (f_X1_trough p0 p2 M) fun (r_22 : Nat) =>
gd (mT M r_22 = 7) (
if mI M a_17 (Int32.toNatClampNeg p1) = mI M r_22 0 then (
some (0, M))
else (
bd (mR M p0 15) fun (a_25 : Nat) =>
bd (f_X1_clear N p0 a_25 M) fun (M_28 : Mem) =>
gd (mT M_28 p0 = 0) (
bd (mR M_28 p0 9) fun (a_30 : Nat) =>
gd (mT M_28 a_30 = 5) (
bd (mR M_28 a_30 0) fun (a_33 : Nat) =>
gd (mT M_28 a_33 = 100) (
gd (inb p1 (mLn M_28 a_33)) (
bd (mR M_28 p0 9) fun (a_37 : Nat) =>
gd (mT M_28 a_37 = 5) (
bd (mR M_28 a_37 1) fun (a_40 : Nat) =>
gd (mT M_28 a_40 = 100) (
gd (inb p1 (mLn M_28 a_40)) (
bd (f_X1_leg N p0 p1 (mI M_28 a_33 (Int32.toNatClampNeg p1)) (mI M_28 a_40 (Int32.toNatClampNeg p1)) M_28) fun (M_45 : Mem) =>
bx2 (lp N (fun s_60 : Int32 × Mem => f_X1_stops_b1 N p0 p1 p2 s_60.1 s_60.2) (1, M_45)) (fun (x3_54 : Int32) (S_55 : Mem) =>
some ((-2), S_55)) (fun (w_137 : Int32 × Mem) => some w_137))))))))))))))))))
def rm_f_X1_stops : Room := { frames := 6, cells := 0, slots := 0, locals := 133 }
theorem ok_f_X1_stops {E : En} (hE : EOk E) (hN : NOk E) {N : Nat} {p0 : Nat} {p1 : Int32} {p2 : Int32} {M : Mem} {r : Int32} {M' : Mem} (h : f_X1_stops N p0 p1 p2 M = some (r, M')) : CM E yX1_stops cX1_stops 5 (some .int) rm_f_X1_stops [rf E p0, .int p1, .int p2] M (some (.int r)) M' := by
  unfold f_X1_stops at h
  refine CM_introX (own := RX1) rfl (by decide +kernel) (Nat.le_of_ble_eq_true rfl) rfl (fun G hG hEn hI => ?_)
  obtain ⟨Q, eQ⟩ : ∃ Q, Q = QM E G (some (.int r)) M' 0 0 := ⟨_, rfl⟩
  show V E G M 0 0 5 0 [(0, rf E p0), (1, .int p1), (2, .int p2)] [] (QM E G (some (.int r)) M' 0 0)
  rw [← eQ]
  refine V_aload_n hG 0 rfl dX1_stops_0 ?_
  refine V_iload_n hG 1 rfl dX1_stops_1 ?_
  obtain ⟨g_1, h⟩ := gd_of h
  obtain ⟨r_3, hc_2, h⟩ := bd_of h
  refine V_callV hE hG (ci := 0) (As := [.int p1]) (rest := []) (ok_f_X1_isHorse hE hN hc_2) g_1 (by decide) rfl hw_X1_186 hdv_X1_isHorse ⟨Nat.le_of_ble_eq_true rfl, Nat.le_of_ble_eq_true rfl⟩ rfl rfl (Nat.le_of_ble_eq_true rfl) ⟨Nat.le_of_ble_eq_true rfl, Nat.le_of_ble_eq_true rfl⟩ dX1_stops_2 (V_zero rfl rfl ?_)
  refine V_if_eq hG 16 dX1_stops_5 (by decide) (fun c_4 => ?_) (fun c_4 => ?_)
  · have h := if_t c_4 h
    refine V_iconst hG (-1) rfl dX1_stops_16 ?_
    cases h
    subst eQ
    exact V_iret hG dX1_stops_17
  · have h := if_f c_4 h
    refine V_aload_n hG 0 rfl dX1_stops_8 ?_
    refine V_iload_n hG 2 rfl dX1_stops_9 ?_
    obtain ⟨r_6, hc_5, h⟩ := bd_of h
    refine V_callV hE hG (ci := 0) (As := [.int p2]) (rest := []) (ok_f_X1_isTrough hE hN hc_5) g_1 (by decide) rfl hw_X1_233 hdv_X1_isTrough ⟨Nat.le_of_ble_eq_true rfl, Nat.le_of_ble_eq_true rfl⟩ rfl rfl (Nat.le_of_ble_eq_true rfl) ⟨Nat.le_of_ble_eq_true rfl, Nat.le_of_ble_eq_true rfl⟩ dX1_stops_10 (V_zero rfl rfl ?_)
    refine V_if_ne hG 18 dX1_stops_13 (by decide) (fun c_7 => ?_) (fun c_7 => ?_)
    · have h := if_f c_7 h
      refine V_aload_n hG 0 rfl dX1_stops_18 ?_
      obtain ⟨a_8, hr_9, h⟩ := bd_of h
      refine gf_X1_101 hN hG g_1 hr_9 dX1_stops_19 ?_
      refine V_iload_n hG 1 rfl dX1_stops_22 ?_
      obtain ⟨g_10, h⟩ := gd_of h
      obtain ⟨r_12, hc_11, h⟩ := bd_of h
      refine V_callV hE hG (ci := 5) (As := [.int p1]) (rest := []) (ok_f_X6_isOn hE hN hc_11) g_10 (by decide) rfl hw_X1_219 hdv_X6_isOn ⟨Nat.le_of_ble_eq_true rfl, Nat.le_of_ble_eq_true rfl⟩ rfl rfl (Nat.le_of_ble_eq_true rfl) ⟨Nat.le_of_ble_eq_true rfl, Nat.le_of_ble_eq_true rfl⟩ dX1_stops_23 (V_zero rfl rfl ?_)
      refine V_if_ne hG 32 dX1_stops_26 (by decide) (fun c_13 => ?_) (fun c_13 => ?_)
      · have h := if_f c_13 h
        refine V_aload_n hG 0 rfl dX1_stops_32 ?_
        obtain ⟨a_14, hr_15, h⟩ := bd_of h
        refine gf_X1_101 hN hG g_1 hr_15 dX1_stops_33 ?_
        obtain ⟨g_16, h⟩ := gd_of h
        obtain ⟨a_17, hr_18, h⟩ := bd_of h
        refine gf_X1_200 hN hG g_16 hr_18 dX1_stops_36 ?_
        refine V_iload_n hG 1 rfl dX1_stops_39 ?_
        obtain ⟨g_19, h⟩ := gd_of h
        obtain ⟨g_20, h⟩ := gd_of h
        refine V_iaload hG g_19 g_20 dX1_stops_40 ?_
        refine V_aload_n hG 0 rfl dX1_stops_41 ?_
        refine V_iload_n hG 2 rfl dX1_stops_42 ?_
        obtain ⟨r_22, hc_21, h⟩ := bd_of h
        refine V_callV hE hG (ci := 0) (As := [.int p2]) (rest := [.int (mI M a_17 (Int32.toNatClampNeg p1))]) (ok_f_X1_trough hE hN hc_21) g_1 (by decide) rfl hw_X1_228 hdv_X1_trough ⟨Nat.le_of_ble_eq_true rfl, Nat.le_of_ble_eq_true rfl⟩ rfl rfl (Nat.le_of_ble_eq_true rfl) ⟨Nat.le_of_ble_eq_true rfl, Nat.le_of_ble_eq_true rfl⟩ dX1_stops_43 (V_zero rfl rfl ?_)
        obtain ⟨g_23, h⟩ := gd_of h
        refine gf_X1_232 hN hG g_23 dX1_stops_46 ?_
        refine V_icmp_ne hG 54 dX1_stops_49 (by decide) (fun c_24 => ?_) (fun c_24 => ?_)
        · have h := if_f c_24 h
          refine V_aload_n hG 0 rfl dX1_stops_54 ?_
          refine V_aload_n hG 0 rfl dX1_stops_55 ?_
          obtain ⟨a_25, hr_26, h⟩ := bd_of h
          refine gf_X1_119 hN hG g_1 hr_26 dX1_stops_56 ?_
          obtain ⟨M_28, hc_27, h⟩ := bd_of h
          refine V_callV hE hG (ci := 0) (As := [rf E a_25]) (rest := []) (ok_f_X1_clear hE hN hc_27) g_1 (by decide) rfl hw_X1_316 hdv_X1_clear ⟨Nat.le_of_ble_eq_true rfl, Nat.le_of_ble_eq_true rfl⟩ rfl rfl (Nat.le_of_ble_eq_true rfl) ⟨Nat.le_of_ble_eq_true rfl, Nat.le_of_ble_eq_true rfl⟩ dX1_stops_59 (V_zero rfl rfl ?_)
          refine V_aload_n hG 0 rfl dX1_stops_62 ?_
          refine V_iload_n hG 1 rfl dX1_stops_63 ?_
          refine V_aload_n hG 0 rfl dX1_stops_64 ?_
          obtain ⟨g_29, h⟩ := gd_of h
          obtain ⟨a_30, hr_31, h⟩ := bd_of h
          refine gf_X1_101 hN hG g_29 hr_31 dX1_stops_65 ?_
          obtain ⟨g_32, h⟩ := gd_of h
          obtain ⟨a_33, hr_34, h⟩ := bd_of h
          refine gf_X1_200 hN hG g_32 hr_34 dX1_stops_68 ?_
          refine V_iload_n hG 1 rfl dX1_stops_71 ?_
          obtain ⟨g_35, h⟩ := gd_of h
          obtain ⟨g_36, h⟩ := gd_of h
          refine V_iaload hG g_35 g_36 dX1_stops_72 ?_
          refine V_aload_n hG 0 rfl dX1_stops_73 ?_
          obtain ⟨a_37, hr_38, h⟩ := bd_of h
          refine gf_X1_101 hN hG g_29 hr_38 dX1_stops_74 ?_
          obtain ⟨g_39, h⟩ := gd_of h
          obtain ⟨a_40, hr_41, h⟩ := bd_of h
          refine gf_X1_203 hN hG g_39 hr_41 dX1_stops_77 ?_
          refine V_iload_n hG 1 rfl dX1_stops_80 ?_
          obtain ⟨g_42, h⟩ := gd_of h
          obtain ⟨g_43, h⟩ := gd_of h
          refine V_iaload hG g_42 g_43 dX1_stops_81 ?_
          obtain ⟨M_45, hc_44, h⟩ := bd_of h
          refine V_callV hE hG (ci := 0) (As := [.int p1, .int (mI M_28 a_33 (Int32.toNatClampNeg p1)), .int (mI M_28 a_40 (Int32.toNatClampNeg p1))]) (rest := []) (ok_f_X1_leg hE hN hc_44) g_29 (by decide) rfl hw_X1_319 hdv_X1_leg ⟨Nat.le_of_ble_eq_true rfl, Nat.le_of_ble_eq_true rfl⟩ rfl rfl (Nat.le_of_ble_eq_true rfl) ⟨Nat.le_of_ble_eq_true rfl, Nat.le_of_ble_eq_true rfl⟩ dX1_stops_82 (V_zero rfl rfl ?_)
          refine V_iconst hG 1 rfl dX1_stops_85 ?_
          refine V_istore_n hG rfl [(3, .int 1), (0, rf E p0), (1, .int p1), (2, .int p2)] dX1_stops_86 (Nat.le_of_ble_eq_true rfl) rfl ?_
          obtain ⟨rr_57, hL_56, hl_58, hr_53⟩ := bx2_of h
          have J_50 : ∀ q_59 : Int32 × Mem, Sum.inl q_59 = rr_57 → V E G q_59.2 0 0 5 199 [(3, .int q_59.1), (0, rf E p0), (1, .int p1), (2, .int p2)] [] Q := by
            intro q_59 e9
            obtain ⟨x3_54, S_55⟩ := q_59
            have h := hl_58 x3_54 S_55 e9.symm
            show V E G S_55 0 0 5 199 [(3, .int x3_54), (0, rf E p0), (1, .int p1), (2, .int p2)] [] Q
            refine V_bipush hG (-2) (by decide) dX1_stops_199 ?_
            cases h
            subst eQ
            exact V_iret hG dX1_stops_201
          refine lp_walk (W := fun s_60 : Int32 × Mem => V E G s_60.2 0 0 5 87 [(3, .int s_60.1), (0, rf E p0), (1, .int p1), (2, .int p2)] [] Q) ?_ N (1, M_45) hL_56
          intro s_60 b_46 hb_47 hk_48 hx_49
          obtain ⟨x3_51, S_52⟩ := s_60
          have hb_47 : f_X1_stops_b1 N p0 p1 p2 x3_51 S_52 = some b_46 := hb_47
          unfold f_X1_stops_b1 at hb_47
          show V E G S_52 0 0 5 87 [(3, .int x3_51), (0, rf E p0), (1, .int p1), (2, .int p2)] [] Q
          refine V_iload_n hG 0 rfl dX1_stops_87 ?_
          refine V_bipush hG 6 (by decide) dX1_stops_88 ?_
          refine V_icmp_gt hG 199 dX1_stops_90 (by decide) (fun c_61 => ?_) (fun c_61 => ?_)
          · have hb_47 := if_t c_61 hb_47
            cases hb_47
            exact J_50 _ (hx_49 _ rfl)
          · have hb_47 := if_f c_61 hb_47
            refine V_aload_n hG 1 rfl dX1_stops_93 ?_
            obtain ⟨g_62, hb_47⟩ := gd_of hb_47
            obtain ⟨a_63, hr_64, hb_47⟩ := bd_of hb_47
            refine gf_X1_119 hN hG g_62 hr_64 dX1_stops_94 ?_
            refine V_iload_n hG 3 rfl dX1_stops_97 ?_
            obtain ⟨g_65, hb_47⟩ := gd_of hb_47
            obtain ⟨g_66, hb_47⟩ := gd_of hb_47
            refine V_iaload hG g_65 g_66 dX1_stops_98 ?_
            refine V_iconst hG (-1) rfl dX1_stops_99 ?_
            refine V_icmp_eq hG 105 dX1_stops_100 (by decide) (fun c_67 => ?_) (fun c_67 => ?_)
            · have hb_47 := if_t c_67 hb_47
              refine V_iconst hG 0 rfl dX1_stops_105 ?_
              refine V_istore hG [(4, .int 0), (3, .int x3_51), (0, rf E p0), (1, .int p1), (2, .int p2)] dX1_stops_106 (Nat.le_of_ble_eq_true rfl) rfl ?_
              obtain ⟨x4_75, S_76, hL_77, hb_47⟩ := bd2_of hb_47
              have J_72 : ∀ q_78 : Int32 × Mem, q_78 = (x4_75, S_76) → V E G q_78.2 0 0 5 135 [(4, .int q_78.1), (3, .int x3_51), (0, rf E p0), (1, .int p1), (2, .int p2)] [] Q := by
                intro q_78 e9
                subst q_78
                show V E G S_76 0 0 5 135 [(4, .int x4_75), (3, .int x3_51), (0, rf E p0), (1, .int p1), (2, .int p2)] [] Q
                refine V_aload_n hG 2 rfl dX1_stops_135 ?_
                refine V_aload_n hG 2 rfl dX1_stops_136 ?_
                obtain ⟨g_79, hb_47⟩ := gd_of hb_47
                obtain ⟨a_80, hr_81, hb_47⟩ := bd_of hb_47
                refine gf_X1_119 hN hG g_79 hr_81 dX1_stops_137 ?_
                obtain ⟨M_83, hc_82, hb_47⟩ := bd_of hb_47
                refine V_callV hE hG (ci := 0) (As := [rf E a_80]) (rest := []) (ok_f_X1_clear hE hN hc_82) g_79 (by decide) rfl hw_X1_316 hdv_X1_clear ⟨Nat.le_of_ble_eq_true rfl, Nat.le_of_ble_eq_true rfl⟩ rfl rfl (Nat.le_of_ble_eq_true rfl) ⟨Nat.le_of_ble_eq_true rfl, Nat.le_of_ble_eq_true rfl⟩ dX1_stops_140 (V_zero rfl rfl ?_)
                refine V_iconst hG 0 rfl dX1_stops_143 ?_
                refine V_istore hG [(4, .int 0), (3, .int x3_51), (0, rf E p0), (1, .int p1), (2, .int p2)] dX1_stops_144 (Nat.le_of_ble_eq_true rfl) rfl ?_
                obtain ⟨x4_91, S_92, hL_93, hb_47⟩ := bd2_of hb_47
                have J_88 : ∀ q_94 : Int32 × Mem, q_94 = (x4_91, S_92) → V E G q_94.2 0 0 5 193 [(4, .int q_94.1), (3, .int x3_51), (0, rf E p0), (1, .int p1), (2, .int p2)] [] Q := by
                  intro q_94 e9
                  subst q_94
                  show V E G S_92 0 0 5 193 [(4, .int x4_91), (3, .int x3_51), (0, rf E p0), (1, .int p1), (2, .int p2)] [] Q
                  obtain ⟨x3_95, ex3_95, hb_47⟩ := be_of hb_47
                  refine V_iinc hG 1 x3_95 rfl (by rw [ex3_95]; rfl) [(3, .int x3_95), (4, .int x4_91), (0, rf E p0), (1, .int p1), (2, .int p2)] dX1_stops_193 (Nat.le_of_ble_eq_true rfl) rfl ?_
                  refine V_goto hG 87 dX1_stops_196 (by decide) ?_
                  cases hb_47
                  exact V_lv [0, 2, 3, 4] rfl (hk_48 _ rfl)
                refine lp_walk (W := fun s_96 : Int32 × Mem => V E G s_96.2 0 0 5 146 [(4, .int s_96.1), (3, .int x3_51), (0, rf E p0), (1, .int p1), (2, .int p2)] [] Q) ?_ N (0, M_83) hL_93
                intro s_96 b_84 hb_85 hk_86 hx_87
                obtain ⟨x4_89, S_90⟩ := s_96
                have hb_85 : f_X1_stops_b3 N x3_51 p0 p1 p2 x4_89 S_90 = some b_84 := hb_85
                unfold f_X1_stops_b3 at hb_85
                show V E G S_90 0 0 5 146 [(4, .int x4_89), (3, .int x3_51), (0, rf E p0), (1, .int p1), (2, .int p2)] [] Q
                refine V_iload hG 0 rfl dX1_stops_146 ?_
                refine V_aload_n hG 2 rfl dX1_stops_148 ?_
                obtain ⟨g_97, hb_85⟩ := gd_of hb_85
                obtain ⟨r_99, hc_98, hb_85⟩ := bd_of hb_85
                refine V_callV hE hG (ci := 0) (As := []) (rest := [.int x4_89]) (ok_f_X1_troughs hE hN hc_98) g_97 (by decide) rfl hw_X1_182 hdv_X1_troughs ⟨Nat.le_of_ble_eq_true rfl, Nat.le_of_ble_eq_true rfl⟩ rfl rfl (Nat.le_of_ble_eq_true rfl) ⟨Nat.le_of_ble_eq_true rfl, Nat.le_of_ble_eq_true rfl⟩ dX1_stops_149 (V_zero rfl rfl ?_)
                refine V_icmp_ge hG 193 dX1_stops_152 (by decide) (fun c_100 => ?_) (fun c_100 => ?_)
                · have hb_85 := if_t c_100 hb_85
                  cases hb_85
                  exact J_88 _ (hx_87 _ rfl)
                · have hb_85 := if_f c_100 hb_85
                  refine V_aload_n hG 2 rfl dX1_stops_155 ?_
                  obtain ⟨a_101, hr_102, hb_85⟩ := bd_of hb_85
                  refine gf_X1_115 hN hG g_97 hr_102 dX1_stops_156 ?_
                  refine V_iload hG 0 rfl dX1_stops_159 ?_
                  obtain ⟨g_103, hb_85⟩ := gd_of hb_85
                  obtain ⟨g_104, hb_85⟩ := gd_of hb_85
                  refine V_iaload hG g_103 g_104 dX1_stops_161 ?_
                  refine V_iconst hG (-1) rfl dX1_stops_162 ?_
                  obtain ⟨M_105, hj_107, hb_85⟩ := bd_of hb_85
                  have J_106 : V E G M_105 0 0 5 187 [(4, .int x4_89), (3, .int x3_51), (0, rf E p0), (1, .int p1), (2, .int p2)] [] Q := by
                    obtain ⟨x4_108, ex4_108, hb_85⟩ := be_of hb_85
                    refine V_iinc hG 0 x4_108 rfl (by rw [ex4_108]; rfl) [(4, .int x4_108), (3, .int x3_51), (0, rf E p0), (1, .int p1), (2, .int p2)] dX1_stops_187 (Nat.le_of_ble_eq_true rfl) rfl ?_
                    refine V_goto hG 146 dX1_stops_190 (by decide) ?_
                    cases hb_85
                    exact hk_86 _ rfl
                  refine V_icmp_eq hG 187 dX1_stops_163 (by decide) (fun c_109 => ?_) (fun c_109 => ?_)
                  · have hj_107 := if_t c_109 hj_107
                    cases hj_107
                    exact J_106
                  · have hj_107 := if_f c_109 hj_107
                    refine V_aload_n hG 2 rfl dX1_stops_166 ?_
                    refine V_iload_n hG 3 rfl dX1_stops_167 ?_
                    refine V_aload_n hG 2 rfl dX1_stops_168 ?_
                    refine V_iload hG 0 rfl dX1_stops_169 ?_
                    obtain ⟨r_111, hc_110, hj_107⟩ := bd_of hj_107
                    refine V_callV hE hG (ci := 0) (As := [.int x4_89]) (rest := [.int p1, rf E p0]) (ok_f_X1_trough hE hN hc_110) g_97 (by decide) rfl hw_X1_228 hdv_X1_trough ⟨Nat.le_of_ble_eq_true rfl, Nat.le_of_ble_eq_true rfl⟩ rfl rfl (Nat.le_of_ble_eq_true rfl) ⟨Nat.le_of_ble_eq_true rfl, Nat.le_of_ble_eq_true rfl⟩ dX1_stops_171 (V_zero rfl rfl ?_)
                    obtain ⟨g_112, hj_107⟩ := gd_of hj_107
                    refine gf_X1_232 hN hG g_112 dX1_stops_174 ?_
                    refine V_aload_n hG 2 rfl dX1_stops_177 ?_
                    obtain ⟨a_113, hr_114, hj_107⟩ := bd_of hj_107
                    refine gf_X1_115 hN hG g_97 hr_114 dX1_stops_178 ?_
                    refine V_iload hG 0 rfl dX1_stops_181 ?_
                    obtain ⟨g_115, hj_107⟩ := gd_of hj_107
                    obtain ⟨g_116, hj_107⟩ := gd_of hj_107
                    refine V_iaload hG g_115 g_116 dX1_stops_183 ?_
                    obtain ⟨M_118, hc_117, hj_107⟩ := bd_of hj_107
                    refine V_callV hE hG (ci := 0) (As := [.int p1, .int (mI S_90 r_111 0), .int (mI S_90 a_113 (Int32.toNatClampNeg x4_89))]) (rest := []) (ok_f_X1_leg hE hN hc_117) g_97 (by decide) rfl hw_X1_319 hdv_X1_leg ⟨Nat.le_of_ble_eq_true rfl, Nat.le_of_ble_eq_true rfl⟩ rfl rfl (Nat.le_of_ble_eq_true rfl) ⟨Nat.le_of_ble_eq_true rfl, Nat.le_of_ble_eq_true rfl⟩ dX1_stops_184 (V_zero rfl rfl ?_)
                    cases hj_107
                    exact J_106
              refine lp_walk (W := fun s_119 : Int32 × Mem => V E G s_119.2 0 0 5 108 [(4, .int s_119.1), (3, .int x3_51), (0, rf E p0), (1, .int p1), (2, .int p2)] [] Q) ?_ N (0, S_52) hL_77
              intro s_119 b_68 hb_69 hk_70 hx_71
              obtain ⟨x4_73, S_74⟩ := s_119
              have hb_69 : f_X1_stops_b2 N x3_51 p0 p1 p2 x4_73 S_74 = some b_68 := hb_69
              unfold f_X1_stops_b2 at hb_69
              show V E G S_74 0 0 5 108 [(4, .int x4_73), (3, .int x3_51), (0, rf E p0), (1, .int p1), (2, .int p2)] [] Q
              refine V_iload hG 0 rfl dX1_stops_108 ?_
              refine V_bipush hG 6 (by decide) dX1_stops_110 ?_
              refine V_icmp_ge hG 135 dX1_stops_112 (by decide) (fun c_120 => ?_) (fun c_120 => ?_)
              · have hb_69 := if_t c_120 hb_69
                cases hb_69
                exact J_72 _ (hx_71 _ rfl)
              · have hb_69 := if_f c_120 hb_69
                refine V_aload_n hG 2 rfl dX1_stops_115 ?_
                obtain ⟨g_121, hb_69⟩ := gd_of hb_69
                obtain ⟨a_122, hr_123, hb_69⟩ := bd_of hb_69
                refine gf_X1_115 hN hG g_121 hr_123 dX1_stops_116 ?_
                refine V_iload hG 0 rfl dX1_stops_119 ?_
                refine V_aload_n hG 2 rfl dX1_stops_121 ?_
                obtain ⟨a_124, hr_125, hb_69⟩ := bd_of hb_69
                refine gf_X1_119 hN hG g_121 hr_125 dX1_stops_122 ?_
                refine V_iload hG 0 rfl dX1_stops_125 ?_
                obtain ⟨g_126, hb_69⟩ := gd_of hb_69
                obtain ⟨g_127, hb_69⟩ := gd_of hb_69
                refine V_iaload hG g_126 g_127 dX1_stops_127 ?_
                obtain ⟨g_128, hb_69⟩ := gd_of hb_69
                obtain ⟨g_129, hb_69⟩ := gd_of hb_69
                obtain ⟨M_130, eM_130, hb_69⟩ := be_of hb_69
                refine W_iastore hG g_128 g_129 M_130 eM_130 dX1_stops_128 ?_
                have g_131 : mT M_130 p0 = 0 := by rw [eM_130]; exact g_121
                have g_132 : mT M_130 a_124 = 100 := by rw [eM_130]; exact g_126
                have g_133 : mT M_130 a_122 = 100 := by rw [eM_130]; exact g_128
                obtain ⟨x4_134, ex4_134, hb_69⟩ := be_of hb_69
                refine V_iinc hG 0 x4_134 rfl (by rw [ex4_134]; rfl) [(4, .int x4_134), (3, .int x3_51), (0, rf E p0), (1, .int p1), (2, .int p2)] dX1_stops_129 (Nat.le_of_ble_eq_true rfl) rfl ?_
                refine V_goto hG 108 dX1_stops_132 (by decide) ?_
                cases hb_69
                exact hk_70 _ rfl
            · have hb_47 := if_f c_67 hb_47
              refine V_iload_n hG 0 rfl dX1_stops_103 ?_
              cases hb_47
              have e_135 := hx_49 _ rfl
              have h_136 : some (x3_51, S_52) = some (r, M') := hr_53 _ e_135.symm
              cases h_136
              subst eQ
              exact V_iret hG dX1_stops_104
        · have h := if_t c_24 h
          refine V_iconst hG 0 rfl dX1_stops_52 ?_
          cases h
          subst eQ
          exact V_iret hG dX1_stops_53
      · have h := if_t c_13 h
        refine V_bipush hG (-2) (by decide) dX1_stops_29 ?_
        cases h
        subst eQ
        exact V_iret hG dX1_stops_31
    · have h := if_t c_7 h
      refine V_iconst hG (-1) rfl dX1_stops_16 ?_
      cases h
      subst eQ
      exact V_iret hG dX1_stops_17

def f_X21_init (p0 : Nat) (p1 : Int32) (M : Mem) : Option (Mem) :=
bd (f_X19_init p0 M) fun (u_2 : Unit) =>
gd (mT M p0 = 15) (
be (sI M p0 0 p1) fun (M_4 : Mem) =>
some M_4)
def rm_f_X21_init : Room := { frames := 2, cells := 0, slots := 0, locals := 60 }
theorem ok_f_X21_init {E : En} (hE : EOk E) (hN : NOk E) {p0 : Nat} {p1 : Int32} {M : Mem}  {M' : Mem} (h : f_X21_init p0 p1 M = some M') : CM E yX21_init cX21_init 2 none rm_f_X21_init [rf E p0, .int p1] M none M' := by
  unfold f_X21_init at h
  refine CM_introX (own := RX21) rfl (by decide +kernel) (Nat.le_of_ble_eq_true rfl) rfl (fun G hG hEn hI => ?_)
  obtain ⟨Q, eQ⟩ : ∃ Q, Q = QM E G none M' 0 0 := ⟨_, rfl⟩
  show V E G M 0 0 2 0 [(0, rf E p0), (1, .int p1)] [] (QM E G none M' 0 0)
  rw [← eQ]
  refine V_aload_n hG 0 rfl dX21_init_0 ?_
  obtain ⟨u_2, hc_1, h⟩ := bd_of h
  refine W_callIN hE hG hN (rt := none) (As := []) (rest := []) (ok_f_X19_init hE hN hc_1) q1377 (lw_meth q1348) q161 q1347 rfl hdc_X19_init ⟨Nat.le_of_ble_eq_true rfl, Nat.le_of_ble_eq_true rfl⟩ rfl rfl (Nat.le_of_ble_eq_true rfl) ⟨Nat.le_of_ble_eq_true rfl, Nat.le_of_ble_eq_true rfl⟩ dX21_init_1 (V_zero rfl rfl ?_)
  refine V_aload_n hG 0 rfl dX21_init_4 ?_
  refine V_iload_n hG 1 rfl dX21_init_5 ?_
  obtain ⟨g_3, h⟩ := gd_of h
  obtain ⟨M_4, eM_4, h⟩ := be_of h
  refine pf_X21_7 hN hG (hI rfl) g_3 eM_4 dX21_init_6 ?_
  have g_5 : mT M_4 p0 = 15 := by rw [eM_4]; exact g_3
  cases h
  subst eQ
  exact V_vret hG dX21_init_9

def f_X1_strike (LC LZ : Nat) (p0 : Nat) (p1 : Int32) (M : Mem) : Option (Int32 × Mem) :=
gd (mT M p0 = 0) (
bd (mR M p0 16) fun (a_2 : Nat) =>
gd (mT M a_2 = 3) (
gd (mN M ≤ LC ∧ mZ M ≤ LZ) (
bd (f_J2_size a_2 M) fun (r_7 : Int32) =>
gd (mN M ≤ LC ∧ mZ M ≤ LZ) (
bd (f_X1_in (Int32.toInt64 p1) 0 (Int32.toInt64 (r_7 - 1)) M) fun (r_10 : Int32) =>
bd2 (if r_10 = 0 then (
some ((-1), M))
else (
bd (mR M p0 16) fun (a_17 : Nat) =>
gd (mT M a_17 = 3) (
gd (mN M ≤ LC ∧ mZ M ≤ LZ) (
bd (f_J2_size a_17 M) fun (r_22 : Int32) =>
if 24 ≤ r_22 then (
some ((-1), M))
else (
gd (mN M + 1 ≤ LC ∧ mZ M + 1 ≤ LZ) (
be (nw M 15 1) fun (M_25 : Mem) =>
gd (mN M_25 ≤ LC ∧ mZ M_25 ≤ LZ) (
bd (f_X21_init (mN M) p1 M_25) fun (M_28 : Mem) =>
gd (mT M_28 p0 = 0) (
gd (mN M_28 ≤ LC ∧ mZ M_28 ≤ LZ) (
bd2 (f_X1_add p0 (mN M) M_28) fun (r_33 : Int32) (M_32 : Mem) =>
some (r_33, M_32))))))))) : Option (Int32 × Mem)) fun (t_11 : Int32) (M_12 : Mem) =>
gd (mN M_12 ≤ LC ∧ mZ M_12 ≤ LZ) (
some (t_11, M_12))))))
def rm_f_X1_strike (LC LZ : Nat) (M : Mem) : Room := { frames := 3, cells := LC - mN M, slots := LZ - mZ M, locals := 81 }
theorem ok_f_X1_strike {E : En} (hE : EOk E) (hN : NOk E) {LC LZ : Nat} {p0 : Nat} {p1 : Int32} {M : Mem} {r : Int32} {M' : Mem} (h : f_X1_strike LC LZ p0 p1 M = some (r, M')) : CM E yX1_strike cX1_strike 2 (some .int) (rm_f_X1_strike LC LZ M) [rf E p0, .int p1] M (some (.int r)) M' := by
  unfold f_X1_strike at h
  refine CM_introX (own := RX1) rfl (by decide +kernel) (Nat.le_of_ble_eq_true rfl) rfl (fun G hG hEn hI => ?_)
  obtain ⟨Q, eQ⟩ : ∃ Q, Q = QM E G (some (.int r)) M' (LC - mN M) (LZ - mZ M) := ⟨_, rfl⟩
  show V E G M 0 0 2 0 [(0, rf E p0), (1, .int p1)] [] (QM E G (some (.int r)) M' (LC - mN M) (LZ - mZ M))
  rw [← eQ]
  refine V_iload_n hG 1 rfl dX1_strike_0 ?_
  refine V_i2l hG dX1_strike_1 ?_
  refine V_lconst hG 0 rfl dX1_strike_2 ?_
  refine V_aload_n hG 0 rfl dX1_strike_3 ?_
  obtain ⟨g_1, h⟩ := gd_of h
  obtain ⟨a_2, hr_3, h⟩ := bd_of h
  refine gf_X1_125 hN hG g_1 hr_3 dX1_strike_4 ?_
  obtain ⟨g_4, h⟩ := gd_of h
  obtain ⟨g_5, h⟩ := gd_of h
  refine V_narrow hEn (fun n1 n2 n3 => ?_)
  obtain ⟨r_7, hc_6, h⟩ := bd_of h
  refine V_callV hE hG (ci := 3) (As := []) (rest := [.long 0, .long (Int32.toInt64 p1)]) (ok_f_J2_size hE hN hc_6) g_4 (by decide) rfl hw_X1_23 hdv_J2_size ⟨Nat.le_of_ble_eq_true rfl, Nat.le_of_ble_eq_true rfl⟩ rfl rfl (Nat.le_of_ble_eq_true rfl) ⟨by show _ + 0 ≤ LC - mN M; omega, by show _ + 0 ≤ LZ - mZ M; omega⟩ dX1_strike_7 ?_
  refine V_iconst hG 1 rfl dX1_strike_10 ?_
  refine V_isub hG dX1_strike_11 ?_
  refine V_i2l hG dX1_strike_12 ?_
  obtain ⟨g_8, h⟩ := gd_of h
  refine V_narrow hEn (fun n1 n2 n3 => ?_)
  obtain ⟨r_10, hc_9, h⟩ := bd_of h
  refine V_callS hE hG (As := [.long (Int32.toInt64 p1), .long 0, .long (Int32.toInt64 (r_7 - 1))]) (rest := []) (ok_f_X1_in hE hN hc_9) hw_X1_144 hdc_X1_in ⟨Nat.le_of_ble_eq_true rfl, Nat.le_of_ble_eq_true rfl⟩ rfl rfl (Nat.le_of_ble_eq_true rfl) ⟨by show _ + 0 ≤ LC - mN M; omega, by show _ + 0 ≤ LZ - mZ M; omega⟩ dX1_strike_13 ?_
  obtain ⟨t_11, M_12, hj_14, h⟩ := bd2_of h
  have J_13 : V E G M_12 (mN M_12 - mN M) (mZ M_12 - mZ M) 2 47 [(0, rf E p0), (1, .int p1)] [.int t_11] Q := by
    obtain ⟨g_15, h⟩ := gd_of h
    refine V_narrow hEn (fun n1 n2 n3 => V_widen (k := LC - mN M) (n := LZ - mZ M) (by omega) (by omega) ?_)
    cases h
    subst eQ
    exact V_iret hG dX1_strike_47
  refine V_if_eq hG 46 dX1_strike_16 (by decide) (fun c_16 => ?_) (fun c_16 => ?_)
  · have hj_14 := if_t c_16 hj_14
    refine V_iconst hG (-1) rfl dX1_strike_46 ?_
    cases hj_14
    exact V_narrow hEn (fun _ _ _ => J_13)
  · have hj_14 := if_f c_16 hj_14
    refine V_aload_n hG 0 rfl dX1_strike_19 ?_
    obtain ⟨a_17, hr_18, hj_14⟩ := bd_of hj_14
    refine gf_X1_125 hN hG g_1 hr_18 dX1_strike_20 ?_
    obtain ⟨g_19, hj_14⟩ := gd_of hj_14
    obtain ⟨g_20, hj_14⟩ := gd_of hj_14
    refine V_narrow hEn (fun n1 n2 n3 => ?_)
    obtain ⟨r_22, hc_21, hj_14⟩ := bd_of hj_14
    refine V_callV hE hG (ci := 3) (As := []) (rest := []) (ok_f_J2_size hE hN hc_21) g_19 (by decide) rfl hw_X1_23 hdv_J2_size ⟨Nat.le_of_ble_eq_true rfl, Nat.le_of_ble_eq_true rfl⟩ rfl rfl (Nat.le_of_ble_eq_true rfl) ⟨by show _ + 0 ≤ LC - mN M; omega, by show _ + 0 ≤ LZ - mZ M; omega⟩ dX1_strike_23 ?_
    refine V_bipush hG 24 (by decide) dX1_strike_26 ?_
    refine V_icmp_ge hG 46 dX1_strike_28 (by decide) (fun c_23 => ?_) (fun c_23 => ?_)
    · have hj_14 := if_t c_23 hj_14
      refine V_iconst hG (-1) rfl dX1_strike_46 ?_
      cases hj_14
      exact V_narrow hEn (fun _ _ _ => J_13)
    · have hj_14 := if_f c_23 hj_14
      refine V_aload_n hG 0 rfl dX1_strike_31 ?_
      obtain ⟨g_24, hj_14⟩ := gd_of hj_14
      obtain ⟨M_25, eM_25, hj_14⟩ := be_of hj_14
      refine nw_X1_378 hG hEn rfl rfl eM_25 g_24 dX1_strike_32 ?_
      refine V_dup hG rfl dX1_strike_35 ?_
      refine V_iload_n hG 1 rfl dX1_strike_36 ?_
      obtain ⟨g_26, hj_14⟩ := gd_of hj_14
      refine V_narrow hEn (fun n1 n2 n3 => ?_)
      obtain ⟨M_28, hc_27, hj_14⟩ := bd_of hj_14
      refine V_callI hE hG (rt := none) (As := [.int p1]) (rest := [rf E (mN M), rf E p0]) (ok_f_X21_init hE hN hc_27) (lw_meth q1376) q163 q1374 q1375 rfl hdc_X21_init ⟨Nat.le_of_ble_eq_true rfl, Nat.le_of_ble_eq_true rfl⟩ rfl rfl (Nat.le_of_ble_eq_true rfl) ⟨by show _ + 0 ≤ LC - mN M; omega, by show _ + 0 ≤ LZ - mZ M; omega⟩ dX1_strike_37 ?_
      obtain ⟨g_29, hj_14⟩ := gd_of hj_14
      obtain ⟨g_30, hj_14⟩ := gd_of hj_14
      refine V_narrow hEn (fun n1 n2 n3 => ?_)
      obtain ⟨r_33, M_32, hc_31, hj_14⟩ := bd2_of hj_14
      refine V_callV hE hG (ci := 0) (As := [rf E (mN M)]) (rest := []) (ok_f_X1_add hE hN hc_31) g_29 (by decide) rfl hw_X1_375 hdv_X1_add ⟨Nat.le_of_ble_eq_true rfl, Nat.le_of_ble_eq_true rfl⟩ rfl rfl (Nat.le_of_ble_eq_true rfl) ⟨by show _ + 0 ≤ LC - mN M; omega, by show _ + 0 ≤ LZ - mZ M; omega⟩ dX1_strike_40 ?_
      refine V_goto hG 47 dX1_strike_43 (by decide) ?_
      cases hj_14
      exact V_narrow hEn (fun _ _ _ => J_13)

def f_X1_thirstiest_b1 (N : Nat) (p0 : Nat) (M : Mem) (x2_6 : Int32) (x1_7 : Int32) : Option ((Int32 × Int32) ⊕ (Int32 × Int32)) :=
gd (mT M p0 = 0) (
bd (f_X1_horses p0 M) fun (r_15 : Int32) =>
if r_15 ≤ x2_6 then (
some (.inl (x2_6, x1_7)))
else (
bd (mR M p0 9) fun (a_17 : Nat) =>
gd (mT M a_17 = 5) (
bd (f_X6_isOn a_17 x2_6 M) fun (r_21 : Int32) =>
bd (if r_21 = 0 then (
some x1_7)
else (
if x1_7 = (-2) then (
some x2_6)
else (
bd (mR M p0 9) fun (a_28 : Nat) =>
gd (mT M a_28 = 5) (
bd (mR M a_28 1) fun (a_31 : Nat) =>
gd (mT M a_31 = 100) (
gd (inb x2_6 (mLn M a_31)) (
bd (mR M p0 9) fun (a_35 : Nat) =>
gd (mT M a_35 = 5) (
bd (mR M a_35 1) fun (a_38 : Nat) =>
gd (mT M a_38 = 100) (
gd (inb x1_7 (mLn M a_38)) (
if mI M a_31 (Int32.toNatClampNeg x2_6) ≤ mI M a_38 (Int32.toNatClampNeg x1_7) then (
some x1_7)
else (
some x2_6))))))))) : Option (Int32)) fun (x1_22 : Int32) =>
be (x2_6 + 1) fun (x2_25 : Int32) =>
some (.inr (x2_25, x1_22)))))
def f_X1_thirstiest (N : Nat) (p0 : Nat) (M : Mem) : Option (Int32) :=
bd2 (lp N (fun s_12 : Int32 × Int32 => f_X1_thirstiest_b1 N p0 M s_12.1 s_12.2) (0, (-2))) fun (x2_8 : Int32) (x1_9 : Int32) =>
some x1_9
def rm_f_X1_thirstiest : Room := { frames := 2, cells := 0, slots := 0, locals := 40 }
theorem ok_f_X1_thirstiest {E : En} (hE : EOk E) (hN : NOk E) {N : Nat} {p0 : Nat} {M : Mem} {r : Int32} (h : f_X1_thirstiest N p0 M = some r) : CM E yX1_thirstiest cX1_thirstiest 3 (some .int) rm_f_X1_thirstiest [rf E p0] M (some (.int r)) M := by
  unfold f_X1_thirstiest at h
  refine CM_introX (own := RX1) rfl (by decide +kernel) (Nat.le_of_ble_eq_true rfl) rfl (fun G hG hEn hI => ?_)
  obtain ⟨Q, eQ⟩ : ∃ Q, Q = QM E G (some (.int r)) M 0 0 := ⟨_, rfl⟩
  show V E G M 0 0 3 0 [(0, rf E p0)] [] (QM E G (some (.int r)) M 0 0)
  rw [← eQ]
  refine V_bipush hG (-2) (by decide) dX1_thirstiest_0 ?_
  refine V_istore_n hG rfl [(1, .int (-2)), (0, rf E p0)] dX1_thirstiest_2 (Nat.le_of_ble_eq_true rfl) rfl ?_
  refine V_iconst hG 0 rfl dX1_thirstiest_3 ?_
  refine V_istore_n hG rfl [(2, .int 0), (1, .int (-2)), (0, rf E p0)] dX1_thirstiest_4 (Nat.le_of_ble_eq_true rfl) rfl ?_
  obtain ⟨x2_8, x1_9, hL_10, h⟩ := bd2_of h
  have J_5 : ∀ q_11 : Int32 × Int32, q_11 = (x2_8, x1_9) → V E G M 0 0 3 59 [(2, .int q_11.1), (1, .int q_11.2), (0, rf E p0)] [] Q := by
    intro q_11 e9
    subst q_11
    show V E G M 0 0 3 59 [(2, .int x2_8), (1, .int x1_9), (0, rf E p0)] [] Q
    refine V_iload_n hG 1 rfl dX1_thirstiest_59 ?_
    cases h
    subst eQ
    exact V_iret hG dX1_thirstiest_60
  refine lp_walk (W := fun s_12 : Int32 × Int32 => V E G M 0 0 3 5 [(2, .int s_12.1), (1, .int s_12.2), (0, rf E p0)] [] Q) ?_ N (0, (-2)) hL_10
  intro s_12 b_1 hb_2 hk_3 hx_4
  obtain ⟨x2_6, x1_7⟩ := s_12
  have hb_2 : f_X1_thirstiest_b1 N p0 M x2_6 x1_7 = some b_1 := hb_2
  unfold f_X1_thirstiest_b1 at hb_2
  show V E G M 0 0 3 5 [(2, .int x2_6), (1, .int x1_7), (0, rf E p0)] [] Q
  refine V_iload_n hG 0 rfl dX1_thirstiest_5 ?_
  refine V_aload_n hG 2 rfl dX1_thirstiest_6 ?_
  obtain ⟨g_13, hb_2⟩ := gd_of hb_2
  obtain ⟨r_15, hc_14, hb_2⟩ := bd_of hb_2
  refine V_callV hE hG (ci := 0) (As := []) (rest := [.int x2_6]) (ok_f_X1_horses hE hN hc_14) g_13 (by decide) rfl hw_X1_184 hdv_X1_horses ⟨Nat.le_of_ble_eq_true rfl, Nat.le_of_ble_eq_true rfl⟩ rfl rfl (Nat.le_of_ble_eq_true rfl) ⟨Nat.le_of_ble_eq_true rfl, Nat.le_of_ble_eq_true rfl⟩ dX1_thirstiest_7 (V_zero rfl rfl ?_)
  refine V_icmp_ge hG 59 dX1_thirstiest_10 (by decide) (fun c_16 => ?_) (fun c_16 => ?_)
  · have hb_2 := if_t c_16 hb_2
    cases hb_2
    exact J_5 _ (hx_4 _ rfl)
  · have hb_2 := if_f c_16 hb_2
    refine V_aload_n hG 2 rfl dX1_thirstiest_13 ?_
    obtain ⟨a_17, hr_18, hb_2⟩ := bd_of hb_2
    refine gf_X1_101 hN hG g_13 hr_18 dX1_thirstiest_14 ?_
    refine V_iload_n hG 0 rfl dX1_thirstiest_17 ?_
    obtain ⟨g_19, hb_2⟩ := gd_of hb_2
    obtain ⟨r_21, hc_20, hb_2⟩ := bd_of hb_2
    refine V_callV hE hG (ci := 5) (As := [.int x2_6]) (rest := []) (ok_f_X6_isOn hE hN hc_20) g_19 (by decide) rfl hw_X1_219 hdv_X6_isOn ⟨Nat.le_of_ble_eq_true rfl, Nat.le_of_ble_eq_true rfl⟩ rfl rfl (Nat.le_of_ble_eq_true rfl) ⟨Nat.le_of_ble_eq_true rfl, Nat.le_of_ble_eq_true rfl⟩ dX1_thirstiest_18 (V_zero rfl rfl ?_)
    obtain ⟨x1_22, hj_24, hb_2⟩ := bd_of hb_2
    have J_23 : V E G M 0 0 3 53 [(2, .int x2_6), (1, .int x1_22), (0, rf E p0)] [] Q := by
      obtain ⟨x2_25, ex2_25, hb_2⟩ := be_of hb_2
      refine V_iinc hG 0 x2_25 rfl (by rw [ex2_25]; rfl) [(2, .int x2_25), (1, .int x1_22), (0, rf E p0)] dX1_thirstiest_53 (Nat.le_of_ble_eq_true rfl) rfl ?_
      refine V_goto hG 5 dX1_thirstiest_56 (by decide) ?_
      cases hb_2
      exact hk_3 _ rfl
    refine V_if_eq hG 53 dX1_thirstiest_21 (by decide) (fun c_26 => ?_) (fun c_26 => ?_)
    · have hj_24 := if_t c_26 hj_24
      cases hj_24
      exact J_23
    · have hj_24 := if_f c_26 hj_24
      refine V_iload_n hG 1 rfl dX1_thirstiest_24 ?_
      refine V_bipush hG (-2) (by decide) dX1_thirstiest_25 ?_
      refine V_icmp_eq hG 51 dX1_thirstiest_27 (by decide) (fun c_27 => ?_) (fun c_27 => ?_)
      · have hj_24 := if_t c_27 hj_24
        refine V_iload_n hG 0 rfl dX1_thirstiest_51 ?_
        refine V_istore_n hG rfl [(1, .int x2_6), (2, .int x2_6), (0, rf E p0)] dX1_thirstiest_52 (Nat.le_of_ble_eq_true rfl) rfl ?_
        cases hj_24
        exact V_lv [1, 0, 2] rfl (J_23)
      · have hj_24 := if_f c_27 hj_24
        refine V_aload_n hG 2 rfl dX1_thirstiest_30 ?_
        obtain ⟨a_28, hr_29, hj_24⟩ := bd_of hj_24
        refine gf_X1_101 hN hG g_13 hr_29 dX1_thirstiest_31 ?_
        obtain ⟨g_30, hj_24⟩ := gd_of hj_24
        obtain ⟨a_31, hr_32, hj_24⟩ := bd_of hj_24
        refine gf_X1_203 hN hG g_30 hr_32 dX1_thirstiest_34 ?_
        refine V_iload_n hG 0 rfl dX1_thirstiest_37 ?_
        obtain ⟨g_33, hj_24⟩ := gd_of hj_24
        obtain ⟨g_34, hj_24⟩ := gd_of hj_24
        refine V_iaload hG g_33 g_34 dX1_thirstiest_38 ?_
        refine V_aload_n hG 2 rfl dX1_thirstiest_39 ?_
        obtain ⟨a_35, hr_36, hj_24⟩ := bd_of hj_24
        refine gf_X1_101 hN hG g_13 hr_36 dX1_thirstiest_40 ?_
        obtain ⟨g_37, hj_24⟩ := gd_of hj_24
        obtain ⟨a_38, hr_39, hj_24⟩ := bd_of hj_24
        refine gf_X1_203 hN hG g_37 hr_39 dX1_thirstiest_43 ?_
        refine V_iload_n hG 1 rfl dX1_thirstiest_46 ?_
        obtain ⟨g_40, hj_24⟩ := gd_of hj_24
        obtain ⟨g_41, hj_24⟩ := gd_of hj_24
        refine V_iaload hG g_40 g_41 dX1_thirstiest_47 ?_
        refine V_icmp_le hG 53 dX1_thirstiest_48 (by decide) (fun c_42 => ?_) (fun c_42 => ?_)
        · have hj_24 := if_t c_42 hj_24
          cases hj_24
          exact J_23
        · have hj_24 := if_f c_42 hj_24
          refine V_iload_n hG 0 rfl dX1_thirstiest_51 ?_
          refine V_istore_n hG rfl [(1, .int x2_6), (2, .int x2_6), (0, rf E p0)] dX1_thirstiest_52 (Nat.le_of_ble_eq_true rfl) rfl ?_
          cases hj_24
          exact V_lv [1, 0, 2] rfl (J_23)

def f_X21_struck (p0 : Nat) (M : Mem) : Option (Int32) :=
gd (mT M p0 = 15) (
some (mI M p0 0))
def rm_f_X21_struck : Room := { frames := 0, cells := 0, slots := 0, locals := 0 }
theorem ok_f_X21_struck {E : En} (hE : EOk E) (hN : NOk E) {p0 : Nat} {M : Mem} {r : Int32} (h : f_X21_struck p0 M = some r) : CM E yX21_struck cX21_struck 1 (some .int) rm_f_X21_struck [rf E p0] M (some (.int r)) M := by
  unfold f_X21_struck at h
  refine CM_introX (own := RX21) rfl (by decide +kernel) (Nat.le_of_ble_eq_true rfl) rfl (fun G hG hEn hI => ?_)
  obtain ⟨Q, eQ⟩ : ∃ Q, Q = QM E G (some (.int r)) M 0 0 := ⟨_, rfl⟩
  show V E G M 0 0 1 0 [(0, rf E p0)] [] (QM E G (some (.int r)) M 0 0)
  rw [← eQ]
  refine V_aload_n hG 0 rfl dX21_struck_0 ?_
  obtain ⟨g_1, h⟩ := gd_of h
  refine gf_X21_7 hN hG g_1 dX21_struck_1 ?_
  cases h
  subst eQ
  exact V_iret hG dX21_struck_4

def f_X1_trough_2 (N : Nat) (p0 : Nat) (p1 : Int32) (p2 : Int32) (M : Mem) : Option (Int32) :=
gd (mT M p0 = 0) (
bd (f_X1_isTrough p0 p1 M) fun (r_3 : Int32) =>
if r_3 = 0 then (
some (-1))
else (
if p2 = 0 then (
bd (f_X1_trough p0 p1 M) fun (r_7 : Nat) =>
gd (mT M r_7 = 7) (
some (mI M r_7 0)))
else (
if p2 = 1 then (
bd (mR M p0 9) fun (a_10 : Nat) =>
gd (mT M a_10 = 5) (
bd (mR M a_10 5) fun (a_13 : Nat) =>
gd (mT M a_13 = 100) (
gd (inb p1 (mLn M a_13)) (
some (mI M a_13 (Int32.toNatClampNeg p1))))))
else (
if p2 = 2 then (
bd (f_X1_trough p0 p1 M) fun (r_19 : Nat) =>
gd (mT M r_19 = 7) (
some (mI M r_19 3)))
else (
if p2 = 3 then (
bd (f_X1_drinkers N p0 p1 M) fun (r_23 : Int32) =>
some r_23)
else (
some (-1)))))))
def rm_f_X1_trough_2 : Room := { frames := 5, cells := 0, slots := 0, locals := 108 }
theorem ok_f_X1_trough_2 {E : En} (hE : EOk E) (hN : NOk E) {N : Nat} {p0 : Nat} {p1 : Int32} {p2 : Int32} {M : Mem} {r : Int32} (h : f_X1_trough_2 N p0 p1 p2 M = some r) : CM E yX1_trough_2 cX1_trough_2 3 (some .int) rm_f_X1_trough_2 [rf E p0, .int p1, .int p2] M (some (.int r)) M := by
  unfold f_X1_trough_2 at h
  refine CM_introX (own := RX1) rfl (by decide +kernel) (Nat.le_of_ble_eq_true rfl) rfl (fun G hG hEn hI => ?_)
  obtain ⟨Q, eQ⟩ : ∃ Q, Q = QM E G (some (.int r)) M 0 0 := ⟨_, rfl⟩
  show V E G M 0 0 3 0 [(0, rf E p0), (1, .int p1), (2, .int p2)] [] (QM E G (some (.int r)) M 0 0)
  rw [← eQ]
  refine V_aload_n hG 0 rfl dX1_trough_2_0 ?_
  refine V_iload_n hG 1 rfl dX1_trough_2_1 ?_
  obtain ⟨g_1, h⟩ := gd_of h
  obtain ⟨r_3, hc_2, h⟩ := bd_of h
  refine V_callV hE hG (ci := 0) (As := [.int p1]) (rest := []) (ok_f_X1_isTrough hE hN hc_2) g_1 (by decide) rfl hw_X1_233 hdv_X1_isTrough ⟨Nat.le_of_ble_eq_true rfl, Nat.le_of_ble_eq_true rfl⟩ rfl rfl (Nat.le_of_ble_eq_true rfl) ⟨Nat.le_of_ble_eq_true rfl, Nat.le_of_ble_eq_true rfl⟩ dX1_trough_2_2 (V_zero rfl rfl ?_)
  refine V_if_ne hG 10 dX1_trough_2_5 (by decide) (fun c_4 => ?_) (fun c_4 => ?_)
  · have h := if_f c_4 h
    refine V_iload_n hG 2 rfl dX1_trough_2_10 ?_
    by_cases c_5 : p2 = 0
    · have h := if_t c_5 h
      refine V_tableIn hG 40 dX1_trough_2_11 (by rw [c_5]; decide) (by rw [c_5]; decide) (by rw [c_5]; rfl) (by decide) ?_
      refine V_aload_n hG 0 rfl dX1_trough_2_40 ?_
      refine V_iload_n hG 1 rfl dX1_trough_2_41 ?_
      obtain ⟨r_7, hc_6, h⟩ := bd_of h
      refine V_callV hE hG (ci := 0) (As := [.int p1]) (rest := []) (ok_f_X1_trough hE hN hc_6) g_1 (by decide) rfl hw_X1_228 hdv_X1_trough ⟨Nat.le_of_ble_eq_true rfl, Nat.le_of_ble_eq_true rfl⟩ rfl rfl (Nat.le_of_ble_eq_true rfl) ⟨Nat.le_of_ble_eq_true rfl, Nat.le_of_ble_eq_true rfl⟩ dX1_trough_2_42 (V_zero rfl rfl ?_)
      obtain ⟨g_8, h⟩ := gd_of h
      refine gf_X1_232 hN hG g_8 dX1_trough_2_45 ?_
      cases h
      subst eQ
      exact V_iret hG dX1_trough_2_48
    have h := if_f c_5 h
    by_cases c_9 : p2 = 1
    · have h := if_t c_9 h
      refine V_tableIn hG 49 dX1_trough_2_11 (by rw [c_9]; decide) (by rw [c_9]; decide) (by rw [c_9]; rfl) (by decide) ?_
      refine V_aload_n hG 0 rfl dX1_trough_2_49 ?_
      obtain ⟨a_10, hr_11, h⟩ := bd_of h
      refine gf_X1_101 hN hG g_1 hr_11 dX1_trough_2_50 ?_
      obtain ⟨g_12, h⟩ := gd_of h
      obtain ⟨a_13, hr_14, h⟩ := bd_of h
      refine gf_X1_236 hN hG g_12 hr_14 dX1_trough_2_53 ?_
      refine V_iload_n hG 1 rfl dX1_trough_2_56 ?_
      obtain ⟨g_15, h⟩ := gd_of h
      obtain ⟨g_16, h⟩ := gd_of h
      refine V_iaload hG g_15 g_16 dX1_trough_2_57 ?_
      cases h
      subst eQ
      exact V_iret hG dX1_trough_2_58
    have h := if_f c_9 h
    by_cases c_17 : p2 = 2
    · have h := if_t c_17 h
      refine V_tableIn hG 59 dX1_trough_2_11 (by rw [c_17]; decide) (by rw [c_17]; decide) (by rw [c_17]; rfl) (by decide) ?_
      refine V_aload_n hG 0 rfl dX1_trough_2_59 ?_
      refine V_iload_n hG 1 rfl dX1_trough_2_60 ?_
      obtain ⟨r_19, hc_18, h⟩ := bd_of h
      refine V_callV hE hG (ci := 0) (As := [.int p1]) (rest := []) (ok_f_X1_trough hE hN hc_18) g_1 (by decide) rfl hw_X1_228 hdv_X1_trough ⟨Nat.le_of_ble_eq_true rfl, Nat.le_of_ble_eq_true rfl⟩ rfl rfl (Nat.le_of_ble_eq_true rfl) ⟨Nat.le_of_ble_eq_true rfl, Nat.le_of_ble_eq_true rfl⟩ dX1_trough_2_61 (V_zero rfl rfl ?_)
      obtain ⟨g_20, h⟩ := gd_of h
      refine gf_X1_239 hN hG g_20 dX1_trough_2_64 ?_
      cases h
      subst eQ
      exact V_iret hG dX1_trough_2_67
    have h := if_f c_17 h
    by_cases c_21 : p2 = 3
    · have h := if_t c_21 h
      refine V_tableIn hG 68 dX1_trough_2_11 (by rw [c_21]; decide) (by rw [c_21]; decide) (by rw [c_21]; rfl) (by decide) ?_
      refine V_aload_n hG 0 rfl dX1_trough_2_68 ?_
      refine V_iload_n hG 1 rfl dX1_trough_2_69 ?_
      obtain ⟨r_23, hc_22, h⟩ := bd_of h
      refine V_callV hE hG (ci := 0) (As := [.int p1]) (rest := []) (ok_f_X1_drinkers hE hN hc_22) g_1 (by decide) rfl hw_X1_242 hdv_X1_drinkers ⟨Nat.le_of_ble_eq_true rfl, Nat.le_of_ble_eq_true rfl⟩ rfl rfl (Nat.le_of_ble_eq_true rfl) ⟨Nat.le_of_ble_eq_true rfl, Nat.le_of_ble_eq_true rfl⟩ dX1_trough_2_70 (V_zero rfl rfl ?_)
      cases h
      subst eQ
      exact V_iret hG dX1_trough_2_73
    have h := if_f c_21 h
    refine V_tableOut hG 74 dX1_trough_2_11 (by have := lv_neT c_5 (show Int32.toInt 0 = 0 from rfl); have := lv_neT c_9 (show Int32.toInt 1 = 1 from rfl); have := lv_neT c_17 (show Int32.toInt 2 = 2 from rfl); have := lv_neT c_21 (show Int32.toInt 3 = 3 from rfl); omega) (by decide) ?_
    refine V_iconst hG (-1) rfl dX1_trough_2_74 ?_
    cases h
    subst eQ
    exact V_iret hG dX1_trough_2_75
  · have h := if_t c_4 h
    refine V_iconst hG (-1) rfl dX1_trough_2_8 ?_
    cases h
    subst eQ
    exact V_iret hG dX1_trough_2_9

def f_X1_undo (N : Nat) (p0 : Nat) (M : Mem) : Option (Int32 × Mem) :=
gd (mT M p0 = 0) (
if mI M p0 4 = 0 then (
some ((-1), M))
else (
be (sI M p0 4 ((mI M p0 4) - 1)) fun (M_3 : Mem) =>
bd (mR M_3 p0 9) fun (a_5 : Nat) =>
bd (mR M_3 p0 12) fun (a_7 : Nat) =>
gd (mT M_3 a_7 = 106) (
gd (inb (mI M_3 p0 4) (mLn M_3 a_7)) (
bd (mR M_3 a_7 (Int32.toNatClampNeg (mI M_3 p0 4))) fun (a_11 : Nat) =>
gd (mT M_3 a_5 = 5) (
bd (f_X6_become N a_5 a_11 M_3) fun (M_15 : Mem) =>
gd (mT M_15 p0 = 0) (
some (mI M_15 p0 4, M_15)))))))
def rm_f_X1_undo : Room := { frames := 1, cells := 0, slots := 0, locals := 22 }
theorem ok_f_X1_undo {E : En} (hE : EOk E) (hN : NOk E) {N : Nat} {p0 : Nat} {M : Mem} {r : Int32} {M' : Mem} (h : f_X1_undo N p0 M = some (r, M')) : CM E yX1_undo cX1_undo 1 (some .int) rm_f_X1_undo [rf E p0] M (some (.int r)) M' := by
  unfold f_X1_undo at h
  refine CM_introX (own := RX1) rfl (by decide +kernel) (Nat.le_of_ble_eq_true rfl) rfl (fun G hG hEn hI => ?_)
  obtain ⟨Q, eQ⟩ : ∃ Q, Q = QM E G (some (.int r)) M' 0 0 := ⟨_, rfl⟩
  show V E G M 0 0 1 0 [(0, rf E p0)] [] (QM E G (some (.int r)) M' 0 0)
  rw [← eQ]
  refine V_aload_n hG 0 rfl dX1_undo_0 ?_
  obtain ⟨g_1, h⟩ := gd_of h
  refine gf_X1_163 hN hG g_1 dX1_undo_1 ?_
  refine V_if_ne hG 9 dX1_undo_4 (by decide) (fun c_2 => ?_) (fun c_2 => ?_)
  · have h := if_f c_2 h
    refine V_aload_n hG 0 rfl dX1_undo_9 ?_
    refine V_dup hG rfl dX1_undo_10 ?_
    refine gf_X1_163 hN hG g_1 dX1_undo_11 ?_
    refine V_iconst hG 1 rfl dX1_undo_14 ?_
    refine V_isub hG dX1_undo_15 ?_
    obtain ⟨M_3, eM_3, h⟩ := be_of h
    refine pf_X1_163 hN hG g_1 eM_3 dX1_undo_16 ?_
    have g_4 : mT M_3 p0 = 0 := by rw [eM_3]; exact g_1
    refine V_aload_n hG 0 rfl dX1_undo_19 ?_
    obtain ⟨a_5, hr_6, h⟩ := bd_of h
    refine gf_X1_101 hN hG g_4 hr_6 dX1_undo_20 ?_
    refine V_aload_n hG 0 rfl dX1_undo_23 ?_
    obtain ⟨a_7, hr_8, h⟩ := bd_of h
    refine gf_X1_111 hN hG g_4 hr_8 dX1_undo_24 ?_
    refine V_aload_n hG 0 rfl dX1_undo_27 ?_
    refine gf_X1_163 hN hG g_4 dX1_undo_28 ?_
    obtain ⟨g_9, h⟩ := gd_of h
    obtain ⟨g_10, h⟩ := gd_of h
    obtain ⟨a_11, hr_12, h⟩ := bd_of h
    refine W_aaload6 hG g_9 g_10 hr_12 dX1_undo_31 ?_
    obtain ⟨g_13, h⟩ := gd_of h
    obtain ⟨M_15, hc_14, h⟩ := bd_of h
    refine V_callV hE hG (ci := 5) (As := [rf E a_11]) (rest := []) (ok_f_X6_become hE hN hc_14) g_13 (by decide) rfl hw_X1_254 hdv_X6_become ⟨Nat.le_of_ble_eq_true rfl, Nat.le_of_ble_eq_true rfl⟩ rfl rfl (Nat.le_of_ble_eq_true rfl) ⟨Nat.le_of_ble_eq_true rfl, Nat.le_of_ble_eq_true rfl⟩ dX1_undo_32 (V_zero rfl rfl ?_)
    refine V_aload_n hG 0 rfl dX1_undo_35 ?_
    obtain ⟨g_16, h⟩ := gd_of h
    refine gf_X1_163 hN hG g_16 dX1_undo_36 ?_
    cases h
    subst eQ
    exact V_iret hG dX1_undo_39
  · have h := if_t c_2 h
    refine V_iconst hG (-1) rfl dX1_undo_7 ?_
    cases h
    subst eQ
    exact V_iret hG dX1_undo_8
