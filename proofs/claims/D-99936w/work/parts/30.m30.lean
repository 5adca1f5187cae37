set_option maxRecDepth 100000
set_option maxHeartbeats 4000000
def f_J0_init (p0 : Nat) (M : Mem) : Option (Unit) :=
some ()
def rm_f_J0_init : Room := { frames := 1, cells := 0, slots := 0, locals := 40 }
theorem ok_f_J0_init {E : En} (hE : EOk E) (hN : NOk E) {p0 : Nat} {M : Mem}  (h : f_J0_init p0 M = some ()) : CM E yJ0_init cJ0_init 1 none rm_f_J0_init [rf E p0] M none M := by
  unfold f_J0_init at h
  refine CM_introX (own := RJ0) rfl (by decide +kernel) (Nat.le_of_ble_eq_true rfl) rfl (fun G hG hEn hI => ?_)
  obtain ⟨Q, eQ⟩ : ∃ Q, Q = QM E G none M 0 0 := ⟨_, rfl⟩
  show V E G M 0 0 1 0 [(0, rf E p0)] [] (QM E G none M 0 0)
  rw [← eQ]
  refine V_aload_n hG 0 rfl dJ0_init_0 ?_
  refine V_objInit hG q224 q_oi q_oc (Nat.le_of_ble_eq_true rfl) (Nat.le_of_ble_eq_true rfl) dJ0_init_1 ?_
  cases h
  subst eQ
  exact V_vret hG dJ0_init_4

def f_J18_bitCount (p0 : Int32) (M : Mem) : Option (Int32) :=
be (p0 - ((UInt32.toInt32 (Int32.toUInt32 p0 >>> (Int32.toUInt32 ((1 : Int32)) &&& Int32.toUInt32 31))) &&& 1431655765)) fun (x0_1 : Int32) =>
be ((x0_1 &&& 858993459) + ((UInt32.toInt32 (Int32.toUInt32 x0_1 >>> (Int32.toUInt32 ((2 : Int32)) &&& Int32.toUInt32 31))) &&& 858993459)) fun (x0_2 : Int32) =>
be ((x0_2 + (UInt32.toInt32 (Int32.toUInt32 x0_2 >>> (Int32.toUInt32 ((4 : Int32)) &&& Int32.toUInt32 31)))) &&& 252645135) fun (x0_3 : Int32) =>
be (x0_3 + (UInt32.toInt32 (Int32.toUInt32 x0_3 >>> (Int32.toUInt32 ((8 : Int32)) &&& Int32.toUInt32 31)))) fun (x0_4 : Int32) =>
be (x0_4 + (UInt32.toInt32 (Int32.toUInt32 x0_4 >>> (Int32.toUInt32 ((16 : Int32)) &&& Int32.toUInt32 31)))) fun (x0_5 : Int32) =>
some (x0_5 &&& 63)
def rm_f_J18_bitCount : Room := { frames := 0, cells := 0, slots := 0, locals := 0 }
theorem ok_f_J18_bitCount {E : En} (hE : EOk E) (hN : NOk E) {p0 : Int32} {M : Mem} {r : Int32} (h : f_J18_bitCount p0 M = some r) : CM E yJ18_bitCount cJ18_bitCount 1 (some .int) rm_f_J18_bitCount [.int p0] M (some (.int r)) M := by
  unfold f_J18_bitCount at h
  refine CM_introX (own := RJ18) rfl (by decide +kernel) (Nat.le_of_ble_eq_true rfl) rfl (fun G hG hEn hI => ?_)
  obtain ⟨Q, eQ⟩ : ∃ Q, Q = QM E G (some (.int r)) M 0 0 := ⟨_, rfl⟩
  show V E G M 0 0 1 0 [(0, .int p0)] [] (QM E G (some (.int r)) M 0 0)
  rw [← eQ]
  refine V_iload_n hG 0 rfl dJ18_bitCount_0 ?_
  refine V_iload_n hG 0 rfl dJ18_bitCount_1 ?_
  refine V_iconst hG 1 rfl dJ18_bitCount_2 ?_
  refine V_iushr hG dJ18_bitCount_3 ?_
  refine V_ldcw hG q1203 dJ18_bitCount_4 ?_
  refine V_iand hG dJ18_bitCount_7 ?_
  refine V_isub hG dJ18_bitCount_8 ?_
  obtain ⟨x0_1, ex0_1, h⟩ := be_of h
  refine V_topi ex0_1 ?_
  refine V_istore_n hG rfl [(0, .int x0_1)] dJ18_bitCount_9 (Nat.le_of_ble_eq_true rfl) rfl ?_
  refine V_iload_n hG 0 rfl dJ18_bitCount_10 ?_
  refine V_ldcw hG q1204 dJ18_bitCount_11 ?_
  refine V_iand hG dJ18_bitCount_14 ?_
  refine V_iload_n hG 0 rfl dJ18_bitCount_15 ?_
  refine V_iconst hG 2 rfl dJ18_bitCount_16 ?_
  refine V_iushr hG dJ18_bitCount_17 ?_
  refine V_ldcw hG q1204 dJ18_bitCount_18 ?_
  refine V_iand hG dJ18_bitCount_21 ?_
  refine V_iadd hG dJ18_bitCount_22 ?_
  obtain ⟨x0_2, ex0_2, h⟩ := be_of h
  refine V_topi ex0_2 ?_
  refine V_istore_n hG rfl [(0, .int x0_2)] dJ18_bitCount_23 (Nat.le_of_ble_eq_true rfl) rfl ?_
  refine V_iload_n hG 0 rfl dJ18_bitCount_24 ?_
  refine V_iload_n hG 0 rfl dJ18_bitCount_25 ?_
  refine V_iconst hG 4 rfl dJ18_bitCount_26 ?_
  refine V_iushr hG dJ18_bitCount_27 ?_
  refine V_iadd hG dJ18_bitCount_28 ?_
  refine V_ldcw hG q1205 dJ18_bitCount_29 ?_
  refine V_iand hG dJ18_bitCount_32 ?_
  obtain ⟨x0_3, ex0_3, h⟩ := be_of h
  refine V_topi ex0_3 ?_
  refine V_istore_n hG rfl [(0, .int x0_3)] dJ18_bitCount_33 (Nat.le_of_ble_eq_true rfl) rfl ?_
  refine V_iload_n hG 0 rfl dJ18_bitCount_34 ?_
  refine V_iload_n hG 0 rfl dJ18_bitCount_35 ?_
  refine V_bipush hG 8 (by decide) dJ18_bitCount_36 ?_
  refine V_iushr hG dJ18_bitCount_38 ?_
  refine V_iadd hG dJ18_bitCount_39 ?_
  obtain ⟨x0_4, ex0_4, h⟩ := be_of h
  refine V_topi ex0_4 ?_
  refine V_istore_n hG rfl [(0, .int x0_4)] dJ18_bitCount_40 (Nat.le_of_ble_eq_true rfl) rfl ?_
  refine V_iload_n hG 0 rfl dJ18_bitCount_41 ?_
  refine V_iload_n hG 0 rfl dJ18_bitCount_42 ?_
  refine V_bipush hG 16 (by decide) dJ18_bitCount_43 ?_
  refine V_iushr hG dJ18_bitCount_45 ?_
  refine V_iadd hG dJ18_bitCount_46 ?_
  obtain ⟨x0_5, ex0_5, h⟩ := be_of h
  refine V_topi ex0_5 ?_
  refine V_istore_n hG rfl [(0, .int x0_5)] dJ18_bitCount_47 (Nat.le_of_ble_eq_true rfl) rfl ?_
  refine V_iload_n hG 0 rfl dJ18_bitCount_48 ?_
  refine V_bipush hG 63 (by decide) dJ18_bitCount_49 ?_
  refine V_iand hG dJ18_bitCount_51 ?_
  cases h
  subst eQ
  exact V_iret hG dJ18_bitCount_52

def f_J1_init (p0 : Nat) (M : Mem) : Option (Mem) :=
bd (f_J0_init p0 M) fun (u_2 : Unit) =>
gd (mT M p0 = 3) (
be (sI M p0 0 0) fun (M_4 : Mem) =>
some M_4)
def rm_f_J1_init : Room := { frames := 2, cells := 0, slots := 0, locals := 60 }
theorem ok_f_J1_init {E : En} (hE : EOk E) (hN : NOk E) {p0 : Nat} {M : Mem}  {M' : Mem} (h : f_J1_init p0 M = some M') : CM E yJ1_init cJ1_init 1 none rm_f_J1_init [rf E p0] M none M' := by
  unfold f_J1_init at h
  refine CM_introX (own := RJ1) rfl (by decide +kernel) (Nat.le_of_ble_eq_true rfl) rfl (fun G hG hEn hI => ?_)
  obtain ⟨Q, eQ⟩ : ∃ Q, Q = QM E G none M' 0 0 := ⟨_, rfl⟩
  show V E G M 0 0 1 0 [(0, rf E p0)] [] (QM E G none M' 0 0)
  rw [← eQ]
  refine V_aload_n hG 0 rfl dJ1_init_0 ?_
  obtain ⟨u_2, hc_1, h⟩ := bd_of h
  refine V_callI hE hG (rt := none) (As := []) (rest := []) (ok_f_J0_init hE hN hc_1) (lw_meth q223) q126 q221 q222 rfl hdc_J0_init ⟨Nat.le_of_ble_eq_true rfl, Nat.le_of_ble_eq_true rfl⟩ rfl rfl (Nat.le_of_ble_eq_true rfl) ⟨Nat.le_of_ble_eq_true rfl, Nat.le_of_ble_eq_true rfl⟩ dJ1_init_1 (V_zero rfl rfl ?_)
  refine V_aload_n hG 0 rfl dJ1_init_4 ?_
  refine V_iconst hG 0 rfl dJ1_init_5 ?_
  obtain ⟨g_3, h⟩ := gd_of h
  obtain ⟨M_4, eM_4, h⟩ := be_of h
  refine pf_J1_7 hN hG g_3 eM_4 dJ1_init_6 ?_
  have g_5 : mT M_4 p0 = 3 := by rw [eM_4]; exact g_3
  cases h
  subst eQ
  exact V_vret hG dJ1_init_9

def f_J2_add_2 (p0 : Nat) (p1 : Nat) (p2 : Nat) (p3 : Int32) (M : Mem) : Option (Mem) :=
gd (mT M p2 = 104) (
bd (if p3 = Int32.ofNat (mLn M p2) then (
none)
else (
some ()) : Option (Unit)) fun (u_3 : Unit) =>
gd (mT M p2 = 104) (
gd (inb p3 (mLn M p2)) (
gd (mT M p1 = 7 ∨ mT M p1 = 8 ∨ mT M p1 = 9 ∨ mT M p1 = 14 ∨ mT M p1 = 15) (
be (sR M p2 (Int32.toNatClampNeg p3) (some p1)) fun (M_8 : Mem) =>
gd (mT M_8 p0 = 3) (
be (sI M_8 p0 2 (p3 + 1)) fun (M_12 : Mem) =>
some M_12)))))
def rm_f_J2_add_2 : Room := { frames := 0, cells := 0, slots := 0, locals := 0 }
theorem ok_f_J2_add_2 {E : En} (hE : EOk E) (hN : NOk E) {p0 : Nat} {p1 : Nat} {p2 : Nat} {p3 : Int32} {M : Mem}  {M' : Mem} (h : f_J2_add_2 p0 p1 p2 p3 M = some M') : CM E yJ2_add_2 cJ2_add_2 4 none rm_f_J2_add_2 [rf E p0, rf E p1, rf E p2, .int p3] M none M' := by
  unfold f_J2_add_2 at h
  refine CM_introX (own := RJ2) rfl (by decide +kernel) (Nat.le_of_ble_eq_true rfl) rfl (fun G hG hEn hI => ?_)
  obtain ⟨Q, eQ⟩ : ∃ Q, Q = QM E G none M' 0 0 := ⟨_, rfl⟩
  show V E G M 0 0 4 0 [(0, rf E p0), (1, rf E p1), (2, rf E p2), (3, .int p3)] [] (QM E G none M' 0 0)
  rw [← eQ]
  refine V_iload_n hG 3 rfl dJ2_add_2_0 ?_
  refine V_aload_n hG 2 rfl dJ2_add_2_1 ?_
  obtain ⟨g_1, h⟩ := gd_of h
  refine V_alen hG (t := 4) g_1 (by decide) dJ2_add_2_2 ?_
  obtain ⟨u_3, hj_4, h⟩ := bd_of h
  have J_2 : V E G M 0 0 4 11 [(0, rf E p0), (1, rf E p1), (2, rf E p2), (3, .int p3)] [] Q := by
    refine V_aload_n hG 2 rfl dJ2_add_2_11 ?_
    refine V_iload_n hG 3 rfl dJ2_add_2_12 ?_
    refine V_aload_n hG 1 rfl dJ2_add_2_13 ?_
    obtain ⟨g_5, h⟩ := gd_of h
    obtain ⟨g_6, h⟩ := gd_of h
    obtain ⟨g_7, h⟩ := gd_of h
    obtain ⟨M_8, eM_8, h⟩ := be_of h
    refine as_4 hN hG g_5 g_6 g_7 eM_8 dJ2_add_2_14 ?_
    have g_9 : mT M_8 p2 = 104 := by rw [eM_8]; exact g_5
    have g_10 : mT M_8 p1 = 7 ∨ mT M_8 p1 = 8 ∨ mT M_8 p1 = 9 ∨ mT M_8 p1 = 14 ∨ mT M_8 p1 = 15 := by rw [eM_8]; exact g_7
    refine V_aload_n hG 0 rfl dJ2_add_2_15 ?_
    refine V_iload_n hG 3 rfl dJ2_add_2_16 ?_
    refine V_iconst hG 1 rfl dJ2_add_2_17 ?_
    refine V_iadd hG dJ2_add_2_18 ?_
    obtain ⟨g_11, h⟩ := gd_of h
    obtain ⟨M_12, eM_12, h⟩ := be_of h
    refine pf_J2_48 hN hG g_11 eM_12 dJ2_add_2_19 ?_
    have g_13 : mT M_12 p2 = 104 := by rw [eM_12]; exact g_9
    have g_14 : mT M_12 p1 = 7 ∨ mT M_12 p1 = 8 ∨ mT M_12 p1 = 9 ∨ mT M_12 p1 = 14 ∨ mT M_12 p1 = 15 := by rw [eM_12]; exact g_10
    have g_15 : mT M_12 p0 = 3 := by rw [eM_12]; exact g_11
    cases h
    subst eQ
    exact V_vret hG dJ2_add_2_22
  refine V_icmp_ne hG 11 dJ2_add_2_3 (by decide) (fun c_16 => ?_) (fun c_16 => ?_)
  · have hj_4 := if_f c_16 hj_4
    cases hj_4
    exact J_2
  · have hj_4 := if_t c_16 hj_4
    refine V_aload_n hG 0 rfl dJ2_add_2_6 ?_
    cases hj_4

def f_J2_add (p0 : Nat) (p1 : Nat) (M : Mem) : Option (Int32 × Mem) :=
gd (mT M p0 = 3) (
be (sI M p0 0 ((mI M p0 0) + 1)) fun (M_2 : Mem) =>
bd (mR M_2 p0 1) fun (a_4 : Nat) =>
bd (f_J2_add_2 p0 p1 a_4 (mI M_2 p0 2) M_2) fun (M_7 : Mem) =>
some (1, M_7))
def rm_f_J2_add : Room := { frames := 1, cells := 0, slots := 0, locals := 23 }
theorem ok_f_J2_add {E : En} (hE : EOk E) (hN : NOk E) {p0 : Nat} {p1 : Nat} {M : Mem} {r : Int32} {M' : Mem} (h : f_J2_add p0 p1 M = some (r, M')) : CM E yJ2_add cJ2_add 2 (some .boolean) rm_f_J2_add [rf E p0, rf E p1] M (some (.int r)) M' := by
  unfold f_J2_add at h
  refine CM_introX (own := RJ2) rfl (by decide +kernel) (Nat.le_of_ble_eq_true rfl) rfl (fun G hG hEn hI => ?_)
  obtain ⟨Q, eQ⟩ : ∃ Q, Q = QM E G (some (.int r)) M' 0 0 := ⟨_, rfl⟩
  show V E G M 0 0 2 0 [(0, rf E p0), (1, rf E p1)] [] (QM E G (some (.int r)) M' 0 0)
  rw [← eQ]
  refine V_aload_n hG 0 rfl dJ2_add_0 ?_
  refine V_dup hG rfl dJ2_add_1 ?_
  obtain ⟨g_1, h⟩ := gd_of h
  refine gf_J2_63 hN hG g_1 dJ2_add_2 ?_
  refine V_iconst hG 1 rfl dJ2_add_5 ?_
  refine V_iadd hG dJ2_add_6 ?_
  obtain ⟨M_2, eM_2, h⟩ := be_of h
  refine pf_J2_63 hN hG g_1 eM_2 dJ2_add_7 ?_
  have g_3 : mT M_2 p0 = 3 := by rw [eM_2]; exact g_1
  refine V_aload_n hG 0 rfl dJ2_add_10 ?_
  refine V_aload_n hG 1 rfl dJ2_add_11 ?_
  refine V_aload_n hG 0 rfl dJ2_add_12 ?_
  obtain ⟨a_4, hr_5, h⟩ := bd_of h
  refine gf_J2_9 hN hG g_3 hr_5 dJ2_add_13 ?_
  refine V_aload_n hG 0 rfl dJ2_add_16 ?_
  refine gf_J2_48 hN hG g_3 dJ2_add_17 ?_
  obtain ⟨M_7, hc_6, h⟩ := bd_of h
  refine V_callV hE hG (ci := 3) (As := [rf E p1, rf E a_4, .int (mI M_2 p0 2)]) (rest := []) (ok_f_J2_add_2 hE hN hc_6) g_3 (by decide) rfl hw_J2_131 hdv_J2_add_2 ⟨Nat.le_of_ble_eq_true rfl, Nat.le_of_ble_eq_true rfl⟩ rfl rfl (Nat.le_of_ble_eq_true rfl) ⟨Nat.le_of_ble_eq_true rfl, Nat.le_of_ble_eq_true rfl⟩ dJ2_add_20 (V_zero rfl rfl ?_)
  refine V_iconst hG 1 rfl dJ2_add_23 ?_
  cases h
  subst eQ
  exact V_zret hG (Or.inr rfl) dJ2_add_24

def f_J2_clear_b1 (N : Nat) (x2_6 : Int32) (a_4 : Nat) (p0 : Nat) (x3_14 : Int32) (S_15 : Mem) : Option ((Int32 × Mem) ⊕ (Int32 × Mem)) :=
if x2_6 ≤ x3_14 then (
some (.inl (x3_14, S_15)))
else (
gd (mT S_15 a_4 = 104) (
gd (inb x3_14 (mLn S_15 a_4)) (
be (sR S_15 a_4 (Int32.toNatClampNeg x3_14) none) fun (M_24 : Mem) =>
be (x3_14 + 1) fun (x3_26 : Int32) =>
some (.inr (x3_26, M_24)))))
def f_J2_clear (N : Nat) (p0 : Nat) (M : Mem) : Option (Mem) :=
gd (mT M p0 = 3) (
be (sI M p0 0 ((mI M p0 0) + 1)) fun (M_2 : Mem) =>
bd (mR M_2 p0 1) fun (a_4 : Nat) =>
be (mI M_2 p0 2) fun (x2_6 : Int32) =>
be (sI M_2 p0 2 0) fun (M_7 : Mem) =>
bd2 (lp N (fun s_20 : Int32 × Mem => f_J2_clear_b1 N x2_6 a_4 p0 s_20.1 s_20.2) (0, M_7)) fun (x3_16 : Int32) (S_17 : Mem) =>
some S_17)
def rm_f_J2_clear : Room := { frames := 0, cells := 0, slots := 0, locals := 0 }
theorem ok_f_J2_clear {E : En} (hE : EOk E) (hN : NOk E) {N : Nat} {p0 : Nat} {M : Mem}  {M' : Mem} (h : f_J2_clear N p0 M = some M') : CM E yJ2_clear cJ2_clear 4 none rm_f_J2_clear [rf E p0] M none M' := by
  unfold f_J2_clear at h
  refine CM_introX (own := RJ2) rfl (by decide +kernel) (Nat.le_of_ble_eq_true rfl) rfl (fun G hG hEn hI => ?_)
  obtain ⟨Q, eQ⟩ : ∃ Q, Q = QM E G none M' 0 0 := ⟨_, rfl⟩
  show V E G M 0 0 4 0 [(0, rf E p0)] [] (QM E G none M' 0 0)
  rw [← eQ]
  refine V_aload_n hG 0 rfl dJ2_clear_0 ?_
  refine V_dup hG rfl dJ2_clear_1 ?_
  obtain ⟨g_1, h⟩ := gd_of h
  refine gf_J2_63 hN hG g_1 dJ2_clear_2 ?_
  refine V_iconst hG 1 rfl dJ2_clear_5 ?_
  refine V_iadd hG dJ2_clear_6 ?_
  obtain ⟨M_2, eM_2, h⟩ := be_of h
  refine pf_J2_63 hN hG g_1 eM_2 dJ2_clear_7 ?_
  have g_3 : mT M_2 p0 = 3 := by rw [eM_2]; exact g_1
  refine V_aload_n hG 0 rfl dJ2_clear_10 ?_
  obtain ⟨a_4, hr_5, h⟩ := bd_of h
  refine gf_J2_9 hN hG g_3 hr_5 dJ2_clear_11 ?_
  refine V_astore_n hG rfl [(1, rf E a_4), (0, rf E p0)] dJ2_clear_14 (Nat.le_of_ble_eq_true rfl) rfl ?_
  refine V_aload_n hG 1 rfl dJ2_clear_15 ?_
  refine gf_J2_48 hN hG g_3 dJ2_clear_16 ?_
  obtain ⟨x2_6, ex2_6, h⟩ := be_of h
  refine V_topi ex2_6 ?_
  refine V_istore_n hG rfl [(2, .int x2_6), (1, rf E a_4), (0, rf E p0)] dJ2_clear_19 (Nat.le_of_ble_eq_true rfl) rfl ?_
  refine V_aload_n hG 2 rfl dJ2_clear_20 ?_
  refine V_iconst hG 0 rfl dJ2_clear_21 ?_
  refine V_dup_x1 hG rfl rfl dJ2_clear_22 ?_
  obtain ⟨M_7, eM_7, h⟩ := be_of h
  refine pf_J2_48 hN hG g_3 eM_7 dJ2_clear_23 ?_
  have g_8 : mT M_7 p0 = 3 := by rw [eM_7]; exact g_3
  refine V_istore_n hG rfl [(3, .int 0), (2, .int x2_6), (1, rf E a_4), (0, rf E p0)] dJ2_clear_26 (Nat.le_of_ble_eq_true rfl) rfl ?_
  obtain ⟨x3_16, S_17, hL_18, h⟩ := bd2_of h
  have J_13 : ∀ q_19 : Int32 × Mem, q_19 = (x3_16, S_17) → V E G q_19.2 0 0 4 42 [(3, .int q_19.1), (2, .int x2_6), (1, rf E a_4), (0, rf E p0)] [] Q := by
    intro q_19 e9
    subst q_19
    show V E G S_17 0 0 4 42 [(3, .int x3_16), (2, .int x2_6), (1, rf E a_4), (0, rf E p0)] [] Q
    cases h
    subst eQ
    exact V_vret hG dJ2_clear_42
  refine lp_walk (W := fun s_20 : Int32 × Mem => V E G s_20.2 0 0 4 27 [(3, .int s_20.1), (2, .int x2_6), (1, rf E a_4), (0, rf E p0)] [] Q) ?_ N (0, M_7) hL_18
  intro s_20 b_9 hb_10 hk_11 hx_12
  obtain ⟨x3_14, S_15⟩ := s_20
  have hb_10 : f_J2_clear_b1 N x2_6 a_4 p0 x3_14 S_15 = some b_9 := hb_10
  unfold f_J2_clear_b1 at hb_10
  show V E G S_15 0 0 4 27 [(3, .int x3_14), (2, .int x2_6), (1, rf E a_4), (0, rf E p0)] [] Q
  refine V_iload_n hG 0 rfl dJ2_clear_27 ?_
  refine V_iload_n hG 1 rfl dJ2_clear_28 ?_
  refine V_icmp_ge hG 42 dJ2_clear_29 (by decide) (fun c_21 => ?_) (fun c_21 => ?_)
  · have hb_10 := if_t c_21 hb_10
    cases hb_10
    exact J_13 _ (hx_12 _ rfl)
  · have hb_10 := if_f c_21 hb_10
    refine V_aload_n hG 2 rfl dJ2_clear_32 ?_
    refine V_iload_n hG 0 rfl dJ2_clear_33 ?_
    refine V_null hG dJ2_clear_34 ?_
    obtain ⟨g_22, hb_10⟩ := gd_of hb_10
    obtain ⟨g_23, hb_10⟩ := gd_of hb_10
    obtain ⟨M_24, eM_24, hb_10⟩ := be_of hb_10
    refine W_aastoreN4 hG g_22 g_23 M_24 eM_24 dJ2_clear_35 ?_
    have g_25 : mT M_24 a_4 = 104 := by rw [eM_24]; exact g_22
    obtain ⟨x3_26, ex3_26, hb_10⟩ := be_of hb_10
    refine V_iinc hG 0 x3_26 rfl (by rw [ex3_26]; rfl) [(3, .int x3_26), (2, .int x2_6), (1, rf E a_4), (0, rf E p0)] dJ2_clear_36 (Nat.le_of_ble_eq_true rfl) rfl ?_
    refine V_goto hG 27 dJ2_clear_39 (by decide) ?_
    cases hb_10
    exact hk_11 _ rfl

def f_J2_elementData (p0 : Nat) (p1 : Int32) (M : Mem) : Option (Nat) :=
gd (mT M p0 = 3) (
bd (mR M p0 1) fun (a_2 : Nat) =>
gd (mT M a_2 = 104) (
gd (inb p1 (mLn M a_2)) (
bd (mR M a_2 (Int32.toNatClampNeg p1)) fun (a_6 : Nat) =>
some a_6)))
def rm_f_J2_elementData : Room := { frames := 0, cells := 0, slots := 0, locals := 0 }
theorem ok_f_J2_elementData {E : En} (hE : EOk E) (hN : NOk E) {p0 : Nat} {p1 : Int32} {M : Mem} {r : Nat} (h : f_J2_elementData p0 p1 M = some r) : CM E yJ2_elementData cJ2_elementData 2 (some (.object "java/lang/Object")) rm_f_J2_elementData [rf E p0, .int p1] M (some (rf E r)) M := by
  unfold f_J2_elementData at h
  refine CM_introX (own := RJ2) rfl (by decide +kernel) (Nat.le_of_ble_eq_true rfl) rfl (fun G hG hEn hI => ?_)
  obtain ⟨Q, eQ⟩ : ∃ Q, Q = QM E G (some (rf E r)) M 0 0 := ⟨_, rfl⟩
  show V E G M 0 0 2 0 [(0, rf E p0), (1, .int p1)] [] (QM E G (some (rf E r)) M 0 0)
  rw [← eQ]
  refine V_aload_n hG 0 rfl dJ2_elementData_0 ?_
  obtain ⟨g_1, h⟩ := gd_of h
  obtain ⟨a_2, hr_3, h⟩ := bd_of h
  refine gf_J2_9 hN hG g_1 hr_3 dJ2_elementData_1 ?_
  refine V_iload_n hG 1 rfl dJ2_elementData_4 ?_
  obtain ⟨g_4, h⟩ := gd_of h
  obtain ⟨g_5, h⟩ := gd_of h
  obtain ⟨a_6, hr_7, h⟩ := bd_of h
  refine W_aaload4 hG g_4 g_5 hr_7 dJ2_elementData_5 ?_
  cases h
  subst eQ
  exact V_aret hG (Or.inr ⟨_, rfl⟩) dJ2_elementData_6

def f_J4_checkIndex (p0 : Int32) (p1 : Int32) (M : Mem) : Option (Int32) :=
if p0 < 0 then (
none)
else (
if p0 < p1 then (
some p0)
else (
none))
def rm_f_J4_checkIndex : Room := { frames := 0, cells := 0, slots := 0, locals := 0 }
theorem ok_f_J4_checkIndex {E : En} (hE : EOk E) (hN : NOk E) {p0 : Int32} {p1 : Int32} {M : Mem} {r : Int32} (h : f_J4_checkIndex p0 p1 M = some r) : CM E yJ4_checkIndex cJ4_checkIndex 3 (some .int) rm_f_J4_checkIndex [.int p0, .int p1, .null] M (some (.int r)) M := by
  unfold f_J4_checkIndex at h
  refine CM_introX (own := RJ4) rfl (by decide +kernel) (Nat.le_of_ble_eq_true rfl) rfl (fun G hG hEn hI => ?_)
  obtain ⟨Q, eQ⟩ : ∃ Q, Q = QM E G (some (.int r)) M 0 0 := ⟨_, rfl⟩
  show V E G M 0 0 3 0 [(0, .int p0), (1, .int p1), (2, .null)] [] (QM E G (some (.int r)) M 0 0)
  rw [← eQ]
  refine V_iload_n hG 0 rfl dJ4_checkIndex_0 ?_
  refine V_if_lt hG 9 dJ4_checkIndex_1 (by decide) (fun c_1 => ?_) (fun c_1 => ?_)
  · have h := if_t c_1 h
    cases h
  · have h := if_f c_1 h
    refine V_iload_n hG 0 rfl dJ4_checkIndex_4 ?_
    refine V_iload_n hG 1 rfl dJ4_checkIndex_5 ?_
    refine V_icmp_lt hG 16 dJ4_checkIndex_6 (by decide) (fun c_2 => ?_) (fun c_2 => ?_)
    · have h := if_t c_2 h
      refine V_iload_n hG 0 rfl dJ4_checkIndex_16 ?_
      cases h
      subst eQ
      exact V_iret hG dJ4_checkIndex_17
    · have h := if_f c_2 h
      cases h

def f_J3_checkIndex (p0 : Int32) (p1 : Int32) (M : Mem) : Option (Int32) :=
bd (f_J4_checkIndex p0 p1 M) fun (r_2 : Int32) =>
some r_2
def rm_f_J3_checkIndex : Room := { frames := 1, cells := 0, slots := 0, locals := 22 }
theorem ok_f_J3_checkIndex {E : En} (hE : EOk E) (hN : NOk E) {p0 : Int32} {p1 : Int32} {M : Mem} {r : Int32} (h : f_J3_checkIndex p0 p1 M = some r) : CM E yJ3_checkIndex cJ3_checkIndex 2 (some .int) rm_f_J3_checkIndex [.int p0, .int p1] M (some (.int r)) M := by
  unfold f_J3_checkIndex at h
  refine CM_introX (own := RJ3) rfl (by decide +kernel) (Nat.le_of_ble_eq_true rfl) rfl (fun G hG hEn hI => ?_)
  obtain ⟨Q, eQ⟩ : ∃ Q, Q = QM E G (some (.int r)) M 0 0 := ⟨_, rfl⟩
  show V E G M 0 0 2 0 [(0, .int p0), (1, .int p1)] [] (QM E G (some (.int r)) M 0 0)
  rw [← eQ]
  refine V_iload_n hG 0 rfl dJ3_checkIndex_0 ?_
  refine V_iload_n hG 1 rfl dJ3_checkIndex_1 ?_
  refine V_null hG dJ3_checkIndex_2 ?_
  obtain ⟨r_2, hc_1, h⟩ := bd_of h
  refine V_callS hE hG (As := [.int p0, .int p1, .null]) (rest := []) (ok_f_J4_checkIndex hE hN hc_1) hw_J3_105 hdc_J4_checkIndex ⟨Nat.le_of_ble_eq_true rfl, Nat.le_of_ble_eq_true rfl⟩ rfl rfl (Nat.le_of_ble_eq_true rfl) ⟨Nat.le_of_ble_eq_true rfl, Nat.le_of_ble_eq_true rfl⟩ dJ3_checkIndex_3 (V_zero rfl rfl ?_)
  cases h
  subst eQ
  exact V_iret hG dJ3_checkIndex_6

def f_J2_get (p0 : Nat) (p1 : Int32) (M : Mem) : Option (Nat) :=
gd (mT M p0 = 3) (
bd (f_J3_checkIndex p1 (mI M p0 2) M) fun (r_3 : Int32) =>
bd (f_J2_elementData p0 p1 M) fun (r_5 : Nat) =>
some r_5)
def rm_f_J2_get : Room := { frames := 2, cells := 0, slots := 0, locals := 43 }
theorem ok_f_J2_get {E : En} (hE : EOk E) (hN : NOk E) {p0 : Nat} {p1 : Int32} {M : Mem} {r : Nat} (h : f_J2_get p0 p1 M = some r) : CM E yJ2_get cJ2_get 2 (some (.object "java/lang/Object")) rm_f_J2_get [rf E p0, .int p1] M (some (rf E r)) M := by
  unfold f_J2_get at h
  refine CM_introX (own := RJ2) rfl (by decide +kernel) (Nat.le_of_ble_eq_true rfl) rfl (fun G hG hEn hI => ?_)
  obtain ⟨Q, eQ⟩ : ∃ Q, Q = QM E G (some (rf E r)) M 0 0 := ⟨_, rfl⟩
  show V E G M 0 0 2 0 [(0, rf E p0), (1, .int p1)] [] (QM E G (some (rf E r)) M 0 0)
  rw [← eQ]
  refine V_iload_n hG 1 rfl dJ2_get_0 ?_
  refine V_aload_n hG 0 rfl dJ2_get_1 ?_
  obtain ⟨g_1, h⟩ := gd_of h
  refine gf_J2_48 hN hG g_1 dJ2_get_2 ?_
  obtain ⟨r_3, hc_2, h⟩ := bd_of h
  refine V_callS hE hG (As := [.int p1, .int (mI M p0 2)]) (rest := []) (ok_f_J3_checkIndex hE hN hc_2) hw_J2_118 hdc_J3_checkIndex ⟨Nat.le_of_ble_eq_true rfl, Nat.le_of_ble_eq_true rfl⟩ rfl rfl (Nat.le_of_ble_eq_true rfl) ⟨Nat.le_of_ble_eq_true rfl, Nat.le_of_ble_eq_true rfl⟩ dJ2_get_5 (V_zero rfl rfl ?_)
  refine V_pop hG rfl dJ2_get_8 ?_
  refine V_aload_n hG 0 rfl dJ2_get_9 ?_
  refine V_iload_n hG 1 rfl dJ2_get_10 ?_
  obtain ⟨r_5, hc_4, h⟩ := bd_of h
  refine V_callV hE hG (ci := 3) (As := [.int p1]) (rest := []) (ok_f_J2_elementData hE hN hc_4) g_1 (by decide) rfl hw_J2_123 hdv_J2_elementData ⟨Nat.le_of_ble_eq_true rfl, Nat.le_of_ble_eq_true rfl⟩ rfl rfl (Nat.le_of_ble_eq_true rfl) ⟨Nat.le_of_ble_eq_true rfl, Nat.le_of_ble_eq_true rfl⟩ dJ2_get_11 (V_zero rfl rfl ?_)
  cases h
  subst eQ
  exact V_aret hG (Or.inr ⟨_, rfl⟩) dJ2_get_14

def f_J2_init (LC LZ : Nat) (p0 : Nat) (p1 : Int32) (M : Mem) : Option (Mem) :=
gd (mN M ≤ LC ∧ mZ M ≤ LZ) (
bd (f_J1_init p0 M) fun (M_3 : Mem) =>
if p1 ≤ 0 then (
if p1 = 0 then (
none)
else (
none))
else (
gd (¬ p1 < 0 ∧ Int32.toNatClampNeg p1 ≤ 60000) (
gd (mN M_3 + 1 ≤ LC ∧ mZ M_3 + (Int32.toNatClampNeg p1) ≤ LZ) (
be (nw M_3 104 (Int32.toNatClampNeg p1)) fun (M_8 : Mem) =>
gd (mT M_8 p0 = 3) (
be (sR M_8 p0 1 (some (mN M_3))) fun (M_10 : Mem) =>
gd (mN M_10 ≤ LC ∧ mZ M_10 ≤ LZ) (
some M_10))))))
def rm_f_J2_init (LC LZ : Nat) (M : Mem) : Room := { frames := 3, cells := LC - mN M, slots := LZ - mZ M, locals := 80 }
theorem ok_f_J2_init {E : En} (hE : EOk E) (hN : NOk E) {LC LZ : Nat} {p0 : Nat} {p1 : Int32} {M : Mem}  {M' : Mem} (h : f_J2_init LC LZ p0 p1 M = some M') : CM E yJ2_init cJ2_init 2 none (rm_f_J2_init LC LZ M) [rf E p0, .int p1] M none M' := by
  unfold f_J2_init at h
  refine CM_introX (own := RJ2) rfl (by decide +kernel) (Nat.le_of_ble_eq_true rfl) rfl (fun G hG hEn hI => ?_)
  obtain ⟨Q, eQ⟩ : ∃ Q, Q = QM E G none M' (LC - mN M) (LZ - mZ M) := ⟨_, rfl⟩
  show V E G M 0 0 2 0 [(0, rf E p0), (1, .int p1)] [] (QM E G none M' (LC - mN M) (LZ - mZ M))
  rw [← eQ]
  refine V_aload_n hG 0 rfl dJ2_init_0 ?_
  obtain ⟨g_1, h⟩ := gd_of h
  refine V_narrow hEn (fun n1 n2 n3 => ?_)
  obtain ⟨M_3, hc_2, h⟩ := bd_of h
  refine V_callI hE hG (rt := none) (As := []) (rest := []) (ok_f_J1_init hE hN hc_2) (lw_meth q220) q127 q218 q219 rfl hdc_J1_init ⟨Nat.le_of_ble_eq_true rfl, Nat.le_of_ble_eq_true rfl⟩ rfl rfl (Nat.le_of_ble_eq_true rfl) ⟨by show _ + 0 ≤ LC - mN M; omega, by show _ + 0 ≤ LZ - mZ M; omega⟩ dJ2_init_1 ?_
  refine V_iload_n hG 1 rfl dJ2_init_4 ?_
  refine V_if_le hG 19 dJ2_init_5 (by decide) (fun c_4 => ?_) (fun c_4 => ?_)
  · have h := if_t c_4 h
    refine V_iload_n hG 1 rfl dJ2_init_19 ?_
    refine V_if_ne hG 33 dJ2_init_20 (by decide) (fun c_5 => ?_) (fun c_5 => ?_)
    · have h := if_f c_5 h
      cases h
    · have h := if_t c_5 h
      refine V_aload_n hG 0 rfl dJ2_init_23 ?_
      cases h
  · have h := if_f c_4 h
    refine V_aload_n hG 0 rfl dJ2_init_8 ?_
    refine V_iload_n hG 1 rfl dJ2_init_9 ?_
    obtain ⟨g_6, h⟩ := gd_of h
    obtain ⟨g_7, h⟩ := gd_of h
    obtain ⟨M_8, eM_8, h⟩ := be_of h
    refine A_anew4 hG hN hEn rfl rfl q225 g_6 eM_8 g_7 dJ2_init_10 ?_
    obtain ⟨g_9, h⟩ := gd_of h
    obtain ⟨M_10, eM_10, h⟩ := be_of h
    refine pf_J2_9 hN hG g_9 eM_10 dJ2_init_13 ?_
    have g_11 : mT M_10 p0 = 3 := by rw [eM_10]; exact g_9
    refine V_goto hG 60 dJ2_init_16 (by decide) ?_
    obtain ⟨g_12, h⟩ := gd_of h
    refine V_narrow hEn (fun n1 n2 n3 => V_widen (k := LC - mN M) (n := LZ - mZ M) (by omega) (by omega) ?_)
    cases h
    subst eQ
    exact V_vret hG dJ2_init_60

def f_J2_size (p0 : Nat) (M : Mem) : Option (Int32) :=
gd (mT M p0 = 3) (
some (mI M p0 2))
def rm_f_J2_size : Room := { frames := 0, cells := 0, slots := 0, locals := 0 }
theorem ok_f_J2_size {E : En} (hE : EOk E) (hN : NOk E) {p0 : Nat} {M : Mem} {r : Int32} (h : f_J2_size p0 M = some r) : CM E yJ2_size cJ2_size 1 (some .int) rm_f_J2_size [rf E p0] M (some (.int r)) M := by
  unfold f_J2_size at h
  refine CM_introX (own := RJ2) rfl (by decide +kernel) (Nat.le_of_ble_eq_true rfl) rfl (fun G hG hEn hI => ?_)
  obtain ⟨Q, eQ⟩ : ∃ Q, Q = QM E G (some (.int r)) M 0 0 := ⟨_, rfl⟩
  show V E G M 0 0 1 0 [(0, rf E p0)] [] (QM E G (some (.int r)) M 0 0)
  rw [← eQ]
  refine V_aload_n hG 0 rfl dJ2_size_0 ?_
  obtain ⟨g_1, h⟩ := gd_of h
  refine gf_J2_48 hN hG g_1 dJ2_size_1 ?_
  cases h
  subst eQ
  exact V_iret hG dJ2_size_4

def f_J8_abs (p0 : Int32) (M : Mem) : Option (Int32) :=
be (if 0 ≤ p0 then (
p0)
else (
-p0) : Int32) fun (y_4 : Int32) =>
some y_4
def rm_f_J8_abs : Room := { frames := 0, cells := 0, slots := 0, locals := 0 }
theorem ok_f_J8_abs {E : En} (hE : EOk E) (hN : NOk E) {p0 : Int32} {M : Mem} {r : Int32} (h : f_J8_abs p0 M = some r) : CM E yJ8_abs cJ8_abs 1 (some .int) rm_f_J8_abs [.int p0] M (some (.int r)) M := by
  unfold f_J8_abs at h
  refine CM_introX (own := RJ8) rfl (by decide +kernel) (Nat.le_of_ble_eq_true rfl) rfl (fun G hG hEn hI => ?_)
  obtain ⟨Q, eQ⟩ : ∃ Q, Q = QM E G (some (.int r)) M 0 0 := ⟨_, rfl⟩
  show V E G M 0 0 1 0 [(0, .int p0)] [] (QM E G (some (.int r)) M 0 0)
  rw [← eQ]
  refine V_iload_n hG 0 rfl dJ8_abs_0 ?_
  obtain ⟨t_1, et_1, h⟩ := be_of h
  have J_2 : ∀ y_4 : Int32, y_4 = t_1 → V E G M 0 0 1 10 [(0, .int p0)] [.int y_4] Q := by
    intro y_4 ey
    subst ey
    cases h
    subst eQ
    exact V_iret hG dJ8_abs_10
  refine V_if_ge hG 9 dJ8_abs_1 (by decide) (fun c_3 => ?_) (fun c_3 => ?_)
  · refine V_iload_n hG 0 rfl dJ8_abs_9 ?_
    exact J_2 _ (by rw [et_1, if_pos c_3])
  · refine V_iload_n hG 0 rfl dJ8_abs_4 ?_
    refine V_ineg hG dJ8_abs_5 ?_
    refine V_goto hG 10 dJ8_abs_6 (by decide) ?_
    exact J_2 _ (by rw [et_1, if_neg c_3])

def f_J8_abs_2 (p0 : Int64) (M : Mem) : Option (Int64) :=
be (if 0 ≤ lg_cmp p0 0 then (
p0)
else (
-p0) : Int64) fun (y_4 : Int64) =>
some y_4
def rm_f_J8_abs_2 : Room := { frames := 0, cells := 0, slots := 0, locals := 0 }
theorem ok_f_J8_abs_2 {E : En} (hE : EOk E) (hN : NOk E) {p0 : Int64} {M : Mem} {r : Int64} (h : f_J8_abs_2 p0 M = some r) : CM E yJ8_abs_2 cJ8_abs_2 2 (some .long) rm_f_J8_abs_2 [.long p0] M (some (.long r)) M := by
  unfold f_J8_abs_2 at h
  refine CM_introX (own := RJ8) rfl (by decide +kernel) (Nat.le_of_ble_eq_true rfl) rfl (fun G hG hEn hI => ?_)
  obtain ⟨Q, eQ⟩ : ∃ Q, Q = QM E G (some (.long r)) M 0 0 := ⟨_, rfl⟩
  show V E G M 0 0 2 0 [(0, .long p0)] [] (QM E G (some (.long r)) M 0 0)
  rw [← eQ]
  refine V_lload_n hG 0 rfl dJ8_abs_2_0 ?_
  refine V_lconst hG 0 rfl dJ8_abs_2_1 ?_
  refine V_lcmp hG dJ8_abs_2_2 ?_
  obtain ⟨t_1, et_1, h⟩ := be_of h
  have J_2 : ∀ y_4 : Int64, y_4 = t_1 → V E G M 0 0 2 12 [(0, .long p0)] [.long y_4] Q := by
    intro y_4 ey
    subst ey
    cases h
    subst eQ
    exact V_lret hG dJ8_abs_2_12
  refine V_if_ge hG 11 dJ8_abs_2_3 (by decide) (fun c_3 => ?_) (fun c_3 => ?_)
  · refine V_lload_n hG 0 rfl dJ8_abs_2_11 ?_
    exact J_2 _ (by rw [et_1, if_pos c_3])
  · refine V_lload_n hG 0 rfl dJ8_abs_2_6 ?_
    refine V_lneg hG dJ8_abs_2_7 ?_
    refine V_goto hG 12 dJ8_abs_2_8 (by decide) ?_
    exact J_2 _ (by rw [et_1, if_neg c_3])

def f_J8_max (p0 : Int32) (p1 : Int32) (M : Mem) : Option (Int32) :=
be (if p0 < p1 then (
p1)
else (
p0) : Int32) fun (y_4 : Int32) =>
some y_4
def rm_f_J8_max : Room := { frames := 0, cells := 0, slots := 0, locals := 0 }
theorem ok_f_J8_max {E : En} (hE : EOk E) (hN : NOk E) {p0 : Int32} {p1 : Int32} {M : Mem} {r : Int32} (h : f_J8_max p0 p1 M = some r) : CM E yJ8_max cJ8_max 2 (some .int) rm_f_J8_max [.int p0, .int p1] M (some (.int r)) M := by
  unfold f_J8_max at h
  refine CM_introX (own := RJ8) rfl (by decide +kernel) (Nat.le_of_ble_eq_true rfl) rfl (fun G hG hEn hI => ?_)
  obtain ⟨Q, eQ⟩ : ∃ Q, Q = QM E G (some (.int r)) M 0 0 := ⟨_, rfl⟩
  show V E G M 0 0 2 0 [(0, .int p0), (1, .int p1)] [] (QM E G (some (.int r)) M 0 0)
  rw [← eQ]
  refine V_iload_n hG 0 rfl dJ8_max_0 ?_
  refine V_iload_n hG 1 rfl dJ8_max_1 ?_
  obtain ⟨t_1, et_1, h⟩ := be_of h
  have J_2 : ∀ y_4 : Int32, y_4 = t_1 → V E G M 0 0 2 10 [(0, .int p0), (1, .int p1)] [.int y_4] Q := by
    intro y_4 ey
    subst ey
    cases h
    subst eQ
    exact V_iret hG dJ8_max_10
  refine V_icmp_lt hG 9 dJ8_max_2 (by decide) (fun c_3 => ?_) (fun c_3 => ?_)
  · refine V_iload_n hG 1 rfl dJ8_max_9 ?_
    exact J_2 _ (by rw [et_1, if_pos c_3])
  · refine V_iload_n hG 0 rfl dJ8_max_5 ?_
    refine V_goto hG 10 dJ8_max_6 (by decide) ?_
    exact J_2 _ (by rw [et_1, if_neg c_3])

def f_J8_max_2 (p0 : Int64) (p2 : Int64) (M : Mem) : Option (Int64) :=
be (if lg_cmp p0 p2 < 0 then (
p2)
else (
p0) : Int64) fun (y_4 : Int64) =>
some y_4
def rm_f_J8_max_2 : Room := { frames := 0, cells := 0, slots := 0, locals := 0 }
theorem ok_f_J8_max_2 {E : En} (hE : EOk E) (hN : NOk E) {p0 : Int64} {p2 : Int64} {M : Mem} {r : Int64} (h : f_J8_max_2 p0 p2 M = some r) : CM E yJ8_max_2 cJ8_max_2 4 (some .long) rm_f_J8_max_2 [.long p0, .long p2] M (some (.long r)) M := by
  unfold f_J8_max_2 at h
  refine CM_introX (own := RJ8) rfl (by decide +kernel) (Nat.le_of_ble_eq_true rfl) rfl (fun G hG hEn hI => ?_)
  obtain ⟨Q, eQ⟩ : ∃ Q, Q = QM E G (some (.long r)) M 0 0 := ⟨_, rfl⟩
  show V E G M 0 0 4 0 [(0, .long p0), (2, .long p2)] [] (QM E G (some (.long r)) M 0 0)
  rw [← eQ]
  refine V_lload_n hG 0 rfl dJ8_max_2_0 ?_
  refine V_lload_n hG 1 rfl dJ8_max_2_1 ?_
  refine V_lcmp hG dJ8_max_2_2 ?_
  obtain ⟨t_1, et_1, h⟩ := be_of h
  have J_2 : ∀ y_4 : Int64, y_4 = t_1 → V E G M 0 0 4 11 [(0, .long p0), (2, .long p2)] [.long y_4] Q := by
    intro y_4 ey
    subst ey
    cases h
    subst eQ
    exact V_lret hG dJ8_max_2_11
  refine V_if_lt hG 10 dJ8_max_2_3 (by decide) (fun c_3 => ?_) (fun c_3 => ?_)
  · refine V_lload_n hG 1 rfl dJ8_max_2_10 ?_
    exact J_2 _ (by rw [et_1, if_pos c_3])
  · refine V_lload_n hG 0 rfl dJ8_max_2_6 ?_
    refine V_goto hG 11 dJ8_max_2_7 (by decide) ?_
    exact J_2 _ (by rw [et_1, if_neg c_3])

def f_J8_min (p0 : Int32) (p1 : Int32) (M : Mem) : Option (Int32) :=
be (if p1 < p0 then (
p1)
else (
p0) : Int32) fun (y_4 : Int32) =>
some y_4
def rm_f_J8_min : Room := { frames := 0, cells := 0, slots := 0, locals := 0 }
theorem ok_f_J8_min {E : En} (hE : EOk E) (hN : NOk E) {p0 : Int32} {p1 : Int32} {M : Mem} {r : Int32} (h : f_J8_min p0 p1 M = some r) : CM E yJ8_min cJ8_min 2 (some .int) rm_f_J8_min [.int p0, .int p1] M (some (.int r)) M := by
  unfold f_J8_min at h
  refine CM_introX (own := RJ8) rfl (by decide +kernel) (Nat.le_of_ble_eq_true rfl) rfl (fun G hG hEn hI => ?_)
  obtain ⟨Q, eQ⟩ : ∃ Q, Q = QM E G (some (.int r)) M 0 0 := ⟨_, rfl⟩
  show V E G M 0 0 2 0 [(0, .int p0), (1, .int p1)] [] (QM E G (some (.int r)) M 0 0)
  rw [← eQ]
  refine V_iload_n hG 0 rfl dJ8_min_0 ?_
  refine V_iload_n hG 1 rfl dJ8_min_1 ?_
  obtain ⟨t_1, et_1, h⟩ := be_of h
  have J_2 : ∀ y_4 : Int32, y_4 = t_1 → V E G M 0 0 2 10 [(0, .int p0), (1, .int p1)] [.int y_4] Q := by
    intro y_4 ey
    subst ey
    cases h
    subst eQ
    exact V_iret hG dJ8_min_10
  refine V_icmp_gt hG 9 dJ8_min_2 (by decide) (fun c_3 => ?_) (fun c_3 => ?_)
  · refine V_iload_n hG 1 rfl dJ8_min_9 ?_
    exact J_2 _ (by rw [et_1, if_pos c_3])
  · refine V_iload_n hG 0 rfl dJ8_min_5 ?_
    refine V_goto hG 10 dJ8_min_6 (by decide) ?_
    exact J_2 _ (by rw [et_1, if_neg c_3])

def f_J8_min_2 (p0 : Int64) (p2 : Int64) (M : Mem) : Option (Int64) :=
be (if 0 < lg_cmp p0 p2 then (
p2)
else (
p0) : Int64) fun (y_4 : Int64) =>
some y_4
def rm_f_J8_min_2 : Room := { frames := 0, cells := 0, slots := 0, locals := 0 }
theorem ok_f_J8_min_2 {E : En} (hE : EOk E) (hN : NOk E) {p0 : Int64} {p2 : Int64} {M : Mem} {r : Int64} (h : f_J8_min_2 p0 p2 M = some r) : CM E yJ8_min_2 cJ8_min_2 4 (some .long) rm_f_J8_min_2 [.long p0, .long p2] M (some (.long r)) M := by
  unfold f_J8_min_2 at h
  refine CM_introX (own := RJ8) rfl (by decide +kernel) (Nat.le_of_ble_eq_true rfl) rfl (fun G hG hEn hI => ?_)
  obtain ⟨Q, eQ⟩ : ∃ Q, Q = QM E G (some (.long r)) M 0 0 := ⟨_, rfl⟩
  show V E G M 0 0 4 0 [(0, .long p0), (2, .long p2)] [] (QM E G (some (.long r)) M 0 0)
  rw [← eQ]
  refine V_lload_n hG 0 rfl dJ8_min_2_0 ?_
  refine V_lload_n hG 1 rfl dJ8_min_2_1 ?_
  refine V_lcmp hG dJ8_min_2_2 ?_
  obtain ⟨t_1, et_1, h⟩ := be_of h
  have J_2 : ∀ y_4 : Int64, y_4 = t_1 → V E G M 0 0 4 11 [(0, .long p0), (2, .long p2)] [.long y_4] Q := by
    intro y_4 ey
    subst ey
    cases h
    subst eQ
    exact V_lret hG dJ8_min_2_11
  refine V_if_gt hG 10 dJ8_min_2_3 (by decide) (fun c_3 => ?_) (fun c_3 => ?_)
  · refine V_lload_n hG 1 rfl dJ8_min_2_10 ?_
    exact J_2 _ (by rw [et_1, if_pos c_3])
  · refine V_lload_n hG 0 rfl dJ8_min_2_6 ?_
    refine V_goto hG 11 dJ8_min_2_7 (by decide) ?_
    exact J_2 _ (by rw [et_1, if_neg c_3])

def f_X10_at_b1 (N : Nat) (p0 : Nat) (p1 : Int32) (M : Mem) (x2_6 : Int32) : Option (((Int32) ⊕ (Int32)) ⊕ (Int32)) :=
gd (mT M p0 = 3) (
bd (f_J2_size p0 M) fun (r_16 : Int32) =>
if r_16 ≤ x2_6 then (
some (.inl (.inl x2_6)))
else (
bd (f_J2_get p0 x2_6 M) fun (r_19 : Nat) =>
gd (mT M r_19 = 7 ∨ mT M r_19 = 8) (
if mI M r_19 0 = p1 then (
some (.inl (.inr x2_6)))
else (
be (x2_6 + 1) fun (x2_22 : Int32) =>
some (.inr x2_22)))))
def f_X10_at (N : Nat) (p0 : Nat) (p1 : Int32) (M : Mem) : Option (Int32) :=
bx (lp N (fun s_13 : Int32 => f_X10_at_b1 N p0 p1 M s_13) 0) (fun (x2_8 : Int32) =>
some (-1)) (fun (w_25 : Int32) => some w_25)
def rm_f_X10_at : Room := { frames := 3, cells := 0, slots := 0, locals := 64 }
theorem ok_f_X10_at {E : En} (hE : EOk E) (hN : NOk E) {N : Nat} {p0 : Nat} {p1 : Int32} {M : Mem} {r : Int32} (h : f_X10_at N p0 p1 M = some r) : CM E yX10_at cX10_at 3 (some .int) rm_f_X10_at [rf E p0, .int p1] M (some (.int r)) M := by
  unfold f_X10_at at h
  refine CM_introX (own := RX10) rfl (by decide +kernel) (Nat.le_of_ble_eq_true rfl) rfl (fun G hG hEn hI => ?_)
  obtain ⟨Q, eQ⟩ : ∃ Q, Q = QM E G (some (.int r)) M 0 0 := ⟨_, rfl⟩
  show V E G M 0 0 3 0 [(0, rf E p0), (1, .int p1)] [] (QM E G (some (.int r)) M 0 0)
  rw [← eQ]
  refine V_iconst hG 0 rfl dX10_at_0 ?_
  refine V_istore_n hG rfl [(2, .int 0), (0, rf E p0), (1, .int p1)] dX10_at_1 (Nat.le_of_ble_eq_true rfl) rfl ?_
  obtain ⟨rr_10, hL_9, hl_11, hr_7⟩ := bx_of h
  have J_5 : ∀ q_12 : Int32, Sum.inl q_12 = rr_10 → V E G M 0 0 3 33 [(2, .int q_12), (0, rf E p0), (1, .int p1)] [] Q := by
    intro q_12 e9
    obtain ⟨x2_8, rfl⟩ : ∃ z, z = q_12 := ⟨_, rfl⟩
    have h := hl_11 x2_8 e9.symm
    show V E G M 0 0 3 33 [(2, .int x2_8), (0, rf E p0), (1, .int p1)] [] Q
    refine V_iconst hG (-1) rfl dX10_at_33 ?_
    cases h
    subst eQ
    exact V_iret hG dX10_at_34
  refine lp_walk (W := fun s_13 : Int32 => V E G M 0 0 3 2 [(2, .int s_13), (0, rf E p0), (1, .int p1)] [] Q) ?_ N 0 hL_9
  intro s_13 b_1 hb_2 hk_3 hx_4
  obtain ⟨x2_6, rfl⟩ : ∃ z, z = s_13 := ⟨_, rfl⟩
  have hb_2 : f_X10_at_b1 N p0 p1 M x2_6 = some b_1 := hb_2
  unfold f_X10_at_b1 at hb_2
  show V E G M 0 0 3 2 [(2, .int x2_6), (0, rf E p0), (1, .int p1)] [] Q
  refine V_iload_n hG 0 rfl dX10_at_2 ?_
  refine V_aload_n hG 1 rfl dX10_at_3 ?_
  obtain ⟨g_14, hb_2⟩ := gd_of hb_2
  obtain ⟨r_16, hc_15, hb_2⟩ := bd_of hb_2
  refine V_callV hE hG (ci := 3) (As := []) (rest := [.int x2_6]) (ok_f_J2_size hE hN hc_15) g_14 (by decide) rfl hw_X10_9 hdv_J2_size ⟨Nat.le_of_ble_eq_true rfl, Nat.le_of_ble_eq_true rfl⟩ rfl rfl (Nat.le_of_ble_eq_true rfl) ⟨Nat.le_of_ble_eq_true rfl, Nat.le_of_ble_eq_true rfl⟩ dX10_at_4 (V_zero rfl rfl ?_)
  refine V_icmp_ge hG 33 dX10_at_7 (by decide) (fun c_17 => ?_) (fun c_17 => ?_)
  · have hb_2 := if_t c_17 hb_2
    cases hb_2
    exact J_5 _ (hx_4 _ rfl)
  · have hb_2 := if_f c_17 hb_2
    refine V_aload_n hG 1 rfl dX10_at_10 ?_
    refine V_iload_n hG 0 rfl dX10_at_11 ?_
    obtain ⟨r_19, hc_18, hb_2⟩ := bd_of hb_2
    refine V_callV hE hG (ci := 3) (As := [.int x2_6]) (rest := []) (ok_f_J2_get hE hN hc_18) g_14 (by decide) rfl hw_X10_15 hdv_J2_get ⟨Nat.le_of_ble_eq_true rfl, Nat.le_of_ble_eq_true rfl⟩ rfl rfl (Nat.le_of_ble_eq_true rfl) ⟨Nat.le_of_ble_eq_true rfl, Nat.le_of_ble_eq_true rfl⟩ dX10_at_12 (V_zero rfl rfl ?_)
    obtain ⟨g_20, hb_2⟩ := gd_of hb_2
    refine ck_X10_19 hN hG g_20 dX10_at_15 ?_
    refine gf_X10_21 hN hG g_20 dX10_at_18 ?_
    refine V_iload_n hG 2 rfl dX10_at_21 ?_
    refine V_icmp_ne hG 27 dX10_at_22 (by decide) (fun c_21 => ?_) (fun c_21 => ?_)
    · have hb_2 := if_f c_21 hb_2
      obtain ⟨x2_22, ex2_22, hb_2⟩ := be_of hb_2
      refine V_iinc hG 0 x2_22 rfl (by rw [ex2_22]; rfl) [(2, .int x2_22), (0, rf E p0), (1, .int p1)] dX10_at_27 (Nat.le_of_ble_eq_true rfl) rfl ?_
      refine V_goto hG 2 dX10_at_30 (by decide) ?_
      cases hb_2
      exact hk_3 _ rfl
    · have hb_2 := if_t c_21 hb_2
      refine V_iload_n hG 0 rfl dX10_at_25 ?_
      cases hb_2
      have e_23 := hx_4 _ rfl
      have h_24 : some x2_6 = some r := hr_7 _ e_23.symm
      cases h_24
      subst eQ
      exact V_iret hG dX10_at_26

def f_X9_init (p0 : Nat) (p1 : Int32) (M : Mem) : Option (Mem) :=
gd (mT M p0 = 7 ∨ mT M p0 = 8) (
be (sI M p0 1 p1) fun (M_2 : Mem) =>
some M_2)
def rm_f_X9_init : Room := { frames := 1, cells := 0, slots := 0, locals := 40 }
theorem ok_f_X9_init {E : En} (hE : EOk E) (hN : NOk E) {p0 : Nat} {p1 : Int32} {M : Mem}  {M' : Mem} (h : f_X9_init p0 p1 M = some M') : CM E yX9_init cX9_init 2 none rm_f_X9_init [rf E p0, .int p1] M none M' := by
  unfold f_X9_init at h
  refine CM_introX (own := RX9) rfl (by decide +kernel) (Nat.le_of_ble_eq_true rfl) rfl (fun G hG hEn hI => ?_)
  obtain ⟨Q, eQ⟩ : ∃ Q, Q = QM E G none M' 0 0 := ⟨_, rfl⟩
  show V E G M 0 0 2 0 [(0, rf E p0), (1, .int p1)] [] (QM E G none M' 0 0)
  rw [← eQ]
  refine V_aload_n hG 0 rfl dX9_init_0 ?_
  refine V_objInit hG q768 q_oi q_oc (Nat.le_of_ble_eq_true rfl) (Nat.le_of_ble_eq_true rfl) dX9_init_1 ?_
  refine V_aload_n hG 0 rfl dX9_init_4 ?_
  refine V_iload_n hG 1 rfl dX9_init_5 ?_
  obtain ⟨g_1, h⟩ := gd_of h
  obtain ⟨M_2, eM_2, h⟩ := be_of h
  refine pf_X9_9 hN hG (hI rfl) g_1 eM_2 dX9_init_6 ?_
  have g_3 : mT M_2 p0 = 7 ∨ mT M_2 p0 = 8 := by rw [eM_2]; exact g_1
  cases h
  subst eQ
  exact V_vret hG dX9_init_9

def f_X10_init (p0 : Nat) (p1 : Int32) (M : Mem) : Option (Mem) :=
bd (f_X9_init p0 p1 M) fun (M_2 : Mem) =>
some M_2
def rm_f_X10_init : Room := { frames := 2, cells := 0, slots := 0, locals := 61 }
theorem ok_f_X10_init {E : En} (hE : EOk E) (hN : NOk E) {p0 : Nat} {p1 : Int32} {M : Mem}  {M' : Mem} (h : f_X10_init p0 p1 M = some M') : CM E yX10_init cX10_init 2 none rm_f_X10_init [rf E p0, .int p1] M none M' := by
  unfold f_X10_init at h
  refine CM_introX (own := RX10) rfl (by decide +kernel) (Nat.le_of_ble_eq_true rfl) rfl (fun G hG hEn hI => ?_)
  obtain ⟨Q, eQ⟩ : ∃ Q, Q = QM E G none M' 0 0 := ⟨_, rfl⟩
  show V E G M 0 0 2 0 [(0, rf E p0), (1, .int p1)] [] (QM E G none M' 0 0)
  rw [← eQ]
  refine V_aload_n hG 0 rfl dX10_init_0 ?_
  refine V_iload_n hG 1 rfl dX10_init_1 ?_
  obtain ⟨M_2, hc_1, h⟩ := bd_of h
  refine V_callI hE hG (rt := none) (As := [.int p1]) (rest := []) (ok_f_X9_init hE hN hc_1) (lw_meth q767) q143 q765 q766 rfl hdc_X9_init ⟨Nat.le_of_ble_eq_true rfl, Nat.le_of_ble_eq_true rfl⟩ rfl rfl (Nat.le_of_ble_eq_true rfl) ⟨Nat.le_of_ble_eq_true rfl, Nat.le_of_ble_eq_true rfl⟩ dX10_init_2 (V_zero rfl rfl ?_)
  cases h
  subst eQ
  exact V_vret hG dX10_init_5

def f_X11_init (p0 : Nat) (p1 : Int32) (M : Mem) : Option (Mem) :=
bd (f_X10_init p0 p1 M) fun (M_2 : Mem) =>
some M_2
def rm_f_X11_init : Room := { frames := 3, cells := 0, slots := 0, locals := 82 }
theorem ok_f_X11_init {E : En} (hE : EOk E) (hN : NOk E) {p0 : Nat} {p1 : Int32} {M : Mem}  {M' : Mem} (h : f_X11_init p0 p1 M = some M') : CM E yX11_init cX11_init 2 none rm_f_X11_init [rf E p0, .int p1] M none M' := by
  unfold f_X11_init at h
  refine CM_introX (own := RX11) rfl (by decide +kernel) (Nat.le_of_ble_eq_true rfl) rfl (fun G hG hEn hI => ?_)
  obtain ⟨Q, eQ⟩ : ∃ Q, Q = QM E G none M' 0 0 := ⟨_, rfl⟩
  show V E G M 0 0 2 0 [(0, rf E p0), (1, .int p1)] [] (QM E G none M' 0 0)
  rw [← eQ]
  refine V_aload_n hG 0 rfl dX11_init_0 ?_
  refine V_iload_n hG 1 rfl dX11_init_1 ?_
  obtain ⟨M_2, hc_1, h⟩ := bd_of h
  refine V_callI hE hG (rt := none) (As := [.int p1]) (rest := []) (ok_f_X10_init hE hN hc_1) (lw_meth q764) q144 q762 q763 rfl hdc_X10_init ⟨Nat.le_of_ble_eq_true rfl, Nat.le_of_ble_eq_true rfl⟩ rfl rfl (Nat.le_of_ble_eq_true rfl) ⟨Nat.le_of_ble_eq_true rfl, Nat.le_of_ble_eq_true rfl⟩ dX11_init_2 (V_zero rfl rfl ?_)
  cases h
  subst eQ
  exact V_vret hG dX11_init_5

def f_X12_init (p0 : Nat) (p1 : Int32) (M : Mem) : Option (Mem) :=
bd (f_X10_init p0 p1 M) fun (M_2 : Mem) =>
some M_2
def rm_f_X12_init : Room := { frames := 3, cells := 0, slots := 0, locals := 82 }
theorem ok_f_X12_init {E : En} (hE : EOk E) (hN : NOk E) {p0 : Nat} {p1 : Int32} {M : Mem}  {M' : Mem} (h : f_X12_init p0 p1 M = some M') : CM E yX12_init cX12_init 2 none rm_f_X12_init [rf E p0, .int p1] M none M' := by
  unfold f_X12_init at h
  refine CM_introX (own := RX12) rfl (by decide +kernel) (Nat.le_of_ble_eq_true rfl) rfl (fun G hG hEn hI => ?_)
  obtain ⟨Q, eQ⟩ : ∃ Q, Q = QM E G none M' 0 0 := ⟨_, rfl⟩
  show V E G M 0 0 2 0 [(0, rf E p0), (1, .int p1)] [] (QM E G none M' 0 0)
  rw [← eQ]
  refine V_aload_n hG 0 rfl dX12_init_0 ?_
  refine V_iload_n hG 1 rfl dX12_init_1 ?_
  obtain ⟨M_2, hc_1, h⟩ := bd_of h
  refine V_callI hE hG (rt := none) (As := [.int p1]) (rest := []) (ok_f_X10_init hE hN hc_1) (lw_meth q764) q144 q871 q763 rfl hdc_X10_init ⟨Nat.le_of_ble_eq_true rfl, Nat.le_of_ble_eq_true rfl⟩ rfl rfl (Nat.le_of_ble_eq_true rfl) ⟨Nat.le_of_ble_eq_true rfl, Nat.le_of_ble_eq_true rfl⟩ dX12_init_2 (V_zero rfl rfl ?_)
  cases h
  subst eQ
  exact V_vret hG dX12_init_5

def f_X13_init (p0 : Nat) (p1 : Int32) (p2 : Int32) (p3 : Int32) (M : Mem) : Option (Mem) :=
gd (mT M p0 = 9) (
be (sI M p0 0 p1) fun (M_2 : Mem) =>
be (sI M_2 p0 1 p2) fun (M_4 : Mem) =>
be (sI M_4 p0 2 p3) fun (M_6 : Mem) =>
some M_6)
def rm_f_X13_init : Room := { frames := 1, cells := 0, slots := 0, locals := 40 }
theorem ok_f_X13_init {E : En} (hE : EOk E) (hN : NOk E) {p0 : Nat} {p1 : Int32} {p2 : Int32} {p3 : Int32} {M : Mem}  {M' : Mem} (h : f_X13_init p0 p1 p2 p3 M = some M') : CM E yX13_init cX13_init 4 none rm_f_X13_init [rf E p0, .int p1, .int p2, .int p3] M none M' := by
  unfold f_X13_init at h
  refine CM_introX (own := RX13) rfl (by decide +kernel) (Nat.le_of_ble_eq_true rfl) rfl (fun G hG hEn hI => ?_)
  obtain ⟨Q, eQ⟩ : ∃ Q, Q = QM E G none M' 0 0 := ⟨_, rfl⟩
  show V E G M 0 0 4 0 [(0, rf E p0), (1, .int p1), (2, .int p2), (3, .int p3)] [] (QM E G none M' 0 0)
  rw [← eQ]
  refine V_aload_n hG 0 rfl dX13_init_0 ?_
  refine V_objInit hG q898 q_oi q_oc (Nat.le_of_ble_eq_true rfl) (Nat.le_of_ble_eq_true rfl) dX13_init_1 ?_
  refine V_aload_n hG 0 rfl dX13_init_4 ?_
  refine V_iload_n hG 1 rfl dX13_init_5 ?_
  obtain ⟨g_1, h⟩ := gd_of h
  obtain ⟨M_2, eM_2, h⟩ := be_of h
  refine pf_X13_7 hN hG (hI rfl) g_1 eM_2 dX13_init_6 ?_
  have g_3 : mT M_2 p0 = 9 := by rw [eM_2]; exact g_1
  refine V_aload_n hG 0 rfl dX13_init_9 ?_
  refine V_iload_n hG 2 rfl dX13_init_10 ?_
  obtain ⟨M_4, eM_4, h⟩ := be_of h
  refine pf_X13_13 hN hG (hI rfl) g_3 eM_4 dX13_init_11 ?_
  have g_5 : mT M_4 p0 = 9 := by rw [eM_4]; exact g_3
  refine V_aload_n hG 0 rfl dX13_init_14 ?_
  refine V_iload_n hG 3 rfl dX13_init_15 ?_
  obtain ⟨M_6, eM_6, h⟩ := be_of h
  refine pf_X13_16 hN hG (hI rfl) g_5 eM_6 dX13_init_16 ?_
  have g_7 : mT M_6 p0 = 9 := by rw [eM_6]; exact g_5
  cases h
  subst eQ
  exact V_vret hG dX13_init_19

def f_X19_hours (p0 : Nat) (M : Mem) : Option (Int32) :=
some (-1)
def rm_f_X19_hours : Room := { frames := 0, cells := 0, slots := 0, locals := 0 }
theorem ok_f_X19_hours {E : En} (hE : EOk E) (hN : NOk E) {p0 : Nat} {M : Mem} {r : Int32} (h : f_X19_hours p0 M = some r) : CM E yX19_hours cX19_hours 1 (some .int) rm_f_X19_hours [rf E p0] M (some (.int r)) M := by
  unfold f_X19_hours at h
  refine CM_introX (own := RX19) rfl (by decide +kernel) (Nat.le_of_ble_eq_true rfl) rfl (fun G hG hEn hI => ?_)
  obtain ⟨Q, eQ⟩ : ∃ Q, Q = QM E G (some (.int r)) M 0 0 := ⟨_, rfl⟩
  show V E G M 0 0 1 0 [(0, rf E p0)] [] (QM E G (some (.int r)) M 0 0)
  rw [← eQ]
  refine V_iconst hG (-1) rfl dX19_hours_0 ?_
  cases h
  subst eQ
  exact V_iret hG dX19_hours_1

def f_X19_init (p0 : Nat) (M : Mem) : Option (Unit) :=
some ()
def rm_f_X19_init : Room := { frames := 1, cells := 0, slots := 0, locals := 40 }
theorem ok_f_X19_init {E : En} (hE : EOk E) (hN : NOk E) {p0 : Nat} {M : Mem}  (h : f_X19_init p0 M = some ()) : CM E yX19_init cX19_init 1 none rm_f_X19_init [rf E p0] M none M := by
  unfold f_X19_init at h
  refine CM_introX (own := RX19) rfl (by decide +kernel) (Nat.le_of_ble_eq_true rfl) rfl (fun G hG hEn hI => ?_)
  obtain ⟨Q, eQ⟩ : ∃ Q, Q = QM E G none M 0 0 := ⟨_, rfl⟩
  show V E G M 0 0 1 0 [(0, rf E p0)] [] (QM E G none M 0 0)
  rw [← eQ]
  refine V_aload_n hG 0 rfl dX19_init_0 ?_
  refine V_objInit hG q1349 q_oi q_oc (Nat.le_of_ble_eq_true rfl) (Nat.le_of_ble_eq_true rfl) dX19_init_1 ?_
  cases h
  subst eQ
  exact V_vret hG dX19_init_4

def f_X19_isSo (p0 : Nat) (p1 : Nat) (M : Mem) : Option (Int32) :=
some 1
def rm_f_X19_isSo : Room := { frames := 0, cells := 0, slots := 0, locals := 0 }
theorem ok_f_X19_isSo {E : En} (hE : EOk E) (hN : NOk E) {p0 : Nat} {p1 : Nat} {M : Mem} {r : Int32} (h : f_X19_isSo p0 p1 M = some r) : CM E yX19_isSo cX19_isSo 2 (some .boolean) rm_f_X19_isSo [rf E p0, rf E p1] M (some (.int r)) M := by
  unfold f_X19_isSo at h
  refine CM_introX (own := RX19) rfl (by decide +kernel) (Nat.le_of_ble_eq_true rfl) rfl (fun G hG hEn hI => ?_)
  obtain ⟨Q, eQ⟩ : ∃ Q, Q = QM E G (some (.int r)) M 0 0 := ⟨_, rfl⟩
  show V E G M 0 0 2 0 [(0, rf E p0), (1, rf E p1)] [] (QM E G (some (.int r)) M 0 0)
  rw [← eQ]
  refine V_iconst hG 1 rfl dX19_isSo_0 ?_
  cases h
  subst eQ
  exact V_zret hG (Or.inr rfl) dX19_isSo_1

def f_X19_struck (p0 : Nat) (M : Mem) : Option (Int32) :=
some (-1)
def rm_f_X19_struck : Room := { frames := 0, cells := 0, slots := 0, locals := 0 }
theorem ok_f_X19_struck {E : En} (hE : EOk E) (hN : NOk E) {p0 : Nat} {M : Mem} {r : Int32} (h : f_X19_struck p0 M = some r) : CM E yX19_struck cX19_struck 1 (some .int) rm_f_X19_struck [rf E p0] M (some (.int r)) M := by
  unfold f_X19_struck at h
  refine CM_introX (own := RX19) rfl (by decide +kernel) (Nat.le_of_ble_eq_true rfl) rfl (fun G hG hEn hI => ?_)
  obtain ⟨Q, eQ⟩ : ∃ Q, Q = QM E G (some (.int r)) M 0 0 := ⟨_, rfl⟩
  show V E G M 0 0 1 0 [(0, rf E p0)] [] (QM E G (some (.int r)) M 0 0)
  rw [← eQ]
  refine V_iconst hG (-1) rfl dX19_struck_0 ?_
  cases h
  subst eQ
  exact V_iret hG dX19_struck_1

def f_X1_add (p0 : Nat) (p1 : Nat) (M : Mem) : Option (Int32 × Mem) :=
gd (mT M p0 = 0) (
bd (mR M p0 16) fun (a_2 : Nat) =>
gd (mT M a_2 = 3) (
bd2 (f_J2_add a_2 p1 M) fun (r_7 : Int32) (M_6 : Mem) =>
gd (mT M_6 p0 = 0) (
bd (mR M_6 p0 16) fun (a_9 : Nat) =>
gd (mT M_6 a_9 = 3) (
bd (f_J2_size a_9 M_6) fun (r_13 : Int32) =>
some (r_13 - 1, M_6)))))
def rm_f_X1_add : Room := { frames := 2, cells := 0, slots := 0, locals := 44 }
theorem ok_f_X1_add {E : En} (hE : EOk E) (hN : NOk E) {p0 : Nat} {p1 : Nat} {M : Mem} {r : Int32} {M' : Mem} (h : f_X1_add p0 p1 M = some (r, M')) : CM E yX1_add cX1_add 2 (some .int) rm_f_X1_add [rf E p0, rf E p1] M (some (.int r)) M' := by
  unfold f_X1_add at h
  refine CM_introX (own := RX1) rfl (by decide +kernel) (Nat.le_of_ble_eq_true rfl) rfl (fun G hG hEn hI => ?_)
  obtain ⟨Q, eQ⟩ : ∃ Q, Q = QM E G (some (.int r)) M' 0 0 := ⟨_, rfl⟩
  show V E G M 0 0 2 0 [(0, rf E p0), (1, rf E p1)] [] (QM E G (some (.int r)) M' 0 0)
  rw [← eQ]
  refine V_aload_n hG 0 rfl dX1_add_0 ?_
  obtain ⟨g_1, h⟩ := gd_of h
  obtain ⟨a_2, hr_3, h⟩ := bd_of h
  refine gf_X1_125 hN hG g_1 hr_3 dX1_add_1 ?_
  refine V_aload_n hG 1 rfl dX1_add_4 ?_
  obtain ⟨g_4, h⟩ := gd_of h
  obtain ⟨r_7, M_6, hc_5, h⟩ := bd2_of h
  refine V_callV hE hG (ci := 3) (As := [rf E p1]) (rest := []) (ok_f_J2_add hE hN hc_5) g_4 (by decide) rfl hw_X1_366 hdv_J2_add ⟨Nat.le_of_ble_eq_true rfl, Nat.le_of_ble_eq_true rfl⟩ rfl rfl (Nat.le_of_ble_eq_true rfl) ⟨Nat.le_of_ble_eq_true rfl, Nat.le_of_ble_eq_true rfl⟩ dX1_add_5 (V_zero rfl rfl ?_)
  refine V_pop hG rfl dX1_add_8 ?_
  refine V_aload_n hG 0 rfl dX1_add_9 ?_
  obtain ⟨g_8, h⟩ := gd_of h
  obtain ⟨a_9, hr_10, h⟩ := bd_of h
  refine gf_X1_125 hN hG g_8 hr_10 dX1_add_10 ?_
  obtain ⟨g_11, h⟩ := gd_of h
  obtain ⟨r_13, hc_12, h⟩ := bd_of h
  refine V_callV hE hG (ci := 3) (As := []) (rest := []) (ok_f_J2_size hE hN hc_12) g_11 (by decide) rfl hw_X1_23 hdv_J2_size ⟨Nat.le_of_ble_eq_true rfl, Nat.le_of_ble_eq_true rfl⟩ rfl rfl (Nat.le_of_ble_eq_true rfl) ⟨Nat.le_of_ble_eq_true rfl, Nat.le_of_ble_eq_true rfl⟩ dX1_add_13 (V_zero rfl rfl ?_)
  refine V_iconst hG 1 rfl dX1_add_16 ?_
  refine V_isub hG dX1_add_17 ?_
  cases h
  subst eQ
  exact V_iret hG dX1_add_18

def f_X1_in (p0 : Int64) (p2 : Int64) (p4 : Int64) (M : Mem) : Option (Int32) :=
be (if lg_cmp p0 p2 < 0 then (
0)
else (
if 0 < lg_cmp p0 p4 then (
0)
else (
1)) : Int32) fun (y_5 : Int32) =>
gd (y_5 = 0 ∨ y_5 = 1) (
some y_5)
def rm_f_X1_in : Room := { frames := 0, cells := 0, slots := 0, locals := 0 }
theorem ok_f_X1_in {E : En} (hE : EOk E) (hN : NOk E) {p0 : Int64} {p2 : Int64} {p4 : Int64} {M : Mem} {r : Int32} (h : f_X1_in p0 p2 p4 M = some r) : CM E yX1_in cX1_in 6 (some .boolean) rm_f_X1_in [.long p0, .long p2, .long p4] M (some (.int r)) M := by
  unfold f_X1_in at h
  refine CM_introX (own := RX1) rfl (by decide +kernel) (Nat.le_of_ble_eq_true rfl) rfl (fun G hG hEn hI => ?_)
  obtain ⟨Q, eQ⟩ : ∃ Q, Q = QM E G (some (.int r)) M 0 0 := ⟨_, rfl⟩
  show V E G M 0 0 6 0 [(0, .long p0), (2, .long p2), (4, .long p4)] [] (QM E G (some (.int r)) M 0 0)
  rw [← eQ]
  refine V_lload_n hG 0 rfl dX1_in_0 ?_
  refine V_lload_n hG 1 rfl dX1_in_1 ?_
  refine V_lcmp hG dX1_in_2 ?_
  obtain ⟨t_1, et_1, h⟩ := be_of h
  have J_2 : ∀ y_5 : Int32, y_5 = t_1 → V E G M 0 0 6 18 [(0, .long p0), (2, .long p2), (4, .long p4)] [.int y_5] Q := by
    intro y_5 ey
    subst ey
    obtain ⟨g_6, h⟩ := gd_of h
    cases h
    subst eQ
    exact V_zret hG g_6 dX1_in_18
  refine V_if_lt hG 17 dX1_in_3 (by decide) (fun c_3 => ?_) (fun c_3 => ?_)
  · refine V_iconst hG 0 rfl dX1_in_17 ?_
    exact J_2 _ (by rw [et_1, if_pos c_3])
  · refine V_lload_n hG 0 rfl dX1_in_6 ?_
    refine V_lload hG 2 rfl dX1_in_7 ?_
    refine V_lcmp hG dX1_in_9 ?_
    refine V_if_gt hG 17 dX1_in_10 (by decide) (fun c_4 => ?_) (fun c_4 => ?_)
    · refine V_iconst hG 0 rfl dX1_in_17 ?_
      exact J_2 _ (by rw [et_1, if_neg c_3, if_pos c_4])
    · refine V_iconst hG 1 rfl dX1_in_13 ?_
      refine V_goto hG 18 dX1_in_14 (by decide) ?_
      exact J_2 _ (by rw [et_1, if_neg c_3, if_neg c_4])

def f_X1_troughs (p0 : Nat) (M : Mem) : Option (Int32) :=
gd (mT M p0 = 0) (
bd (mR M p0 6) fun (a_2 : Nat) =>
gd (mT M a_2 = 2) (
bd (mR M a_2 0) fun (a_5 : Nat) =>
gd (mT M a_5 = 3) (
bd (f_J2_size a_5 M) fun (r_9 : Int32) =>
some r_9)))
def rm_f_X1_troughs : Room := { frames := 1, cells := 0, slots := 0, locals := 20 }
theorem ok_f_X1_troughs {E : En} (hE : EOk E) (hN : NOk E) {p0 : Nat} {M : Mem} {r : Int32} (h : f_X1_troughs p0 M = some r) : CM E yX1_troughs cX1_troughs 1 (some .int) rm_f_X1_troughs [rf E p0] M (some (.int r)) M := by
  unfold f_X1_troughs at h
  refine CM_introX (own := RX1) rfl (by decide +kernel) (Nat.le_of_ble_eq_true rfl) rfl (fun G hG hEn hI => ?_)
  obtain ⟨Q, eQ⟩ : ∃ Q, Q = QM E G (some (.int r)) M 0 0 := ⟨_, rfl⟩
  show V E G M 0 0 1 0 [(0, rf E p0)] [] (QM E G (some (.int r)) M 0 0)
  rw [← eQ]
  refine V_aload_n hG 0 rfl dX1_troughs_0 ?_
  obtain ⟨g_1, h⟩ := gd_of h
  obtain ⟨a_2, hr_3, h⟩ := bd_of h
  refine gf_X1_13 hN hG g_1 hr_3 dX1_troughs_1 ?_
  obtain ⟨g_4, h⟩ := gd_of h
  obtain ⟨a_5, hr_6, h⟩ := bd_of h
  refine gf_X1_17 hN hG g_4 hr_6 dX1_troughs_4 ?_
  obtain ⟨g_7, h⟩ := gd_of h
  obtain ⟨r_9, hc_8, h⟩ := bd_of h
  refine V_callV hE hG (ci := 3) (As := []) (rest := []) (ok_f_J2_size hE hN hc_8) g_7 (by decide) rfl hw_X1_23 hdv_J2_size ⟨Nat.le_of_ble_eq_true rfl, Nat.le_of_ble_eq_true rfl⟩ rfl rfl (Nat.le_of_ble_eq_true rfl) ⟨Nat.le_of_ble_eq_true rfl, Nat.le_of_ble_eq_true rfl⟩ dX1_troughs_7 (V_zero rfl rfl ?_)
  cases h
  subst eQ
  exact V_iret hG dX1_troughs_10

def f_X1_isTrough (p0 : Nat) (p1 : Int32) (M : Mem) : Option (Int32) :=
gd (mT M p0 = 0) (
bd (f_X1_troughs p0 M) fun (r_3 : Int32) =>
bd (f_X1_in (Int32.toInt64 p1) 0 (Int32.toInt64 (r_3 - 1)) M) fun (r_5 : Int32) =>
gd (r_5 = 0 ∨ r_5 = 1) (
some r_5))
def rm_f_X1_isTrough : Room := { frames := 2, cells := 0, slots := 0, locals := 40 }
theorem ok_f_X1_isTrough {E : En} (hE : EOk E) (hN : NOk E) {p0 : Nat} {p1 : Int32} {M : Mem} {r : Int32} (h : f_X1_isTrough p0 p1 M = some r) : CM E yX1_isTrough cX1_isTrough 2 (some .boolean) rm_f_X1_isTrough [rf E p0, .int p1] M (some (.int r)) M := by
  unfold f_X1_isTrough at h
  refine CM_introX (own := RX1) rfl (by decide +kernel) (Nat.le_of_ble_eq_true rfl) rfl (fun G hG hEn hI => ?_)
  obtain ⟨Q, eQ⟩ : ∃ Q, Q = QM E G (some (.int r)) M 0 0 := ⟨_, rfl⟩
  show V E G M 0 0 2 0 [(0, rf E p0), (1, .int p1)] [] (QM E G (some (.int r)) M 0 0)
  rw [← eQ]
  refine V_iload_n hG 1 rfl dX1_isTrough_0 ?_
  refine V_i2l hG dX1_isTrough_1 ?_
  refine V_lconst hG 0 rfl dX1_isTrough_2 ?_
  refine V_aload_n hG 0 rfl dX1_isTrough_3 ?_
  obtain ⟨g_1, h⟩ := gd_of h
  obtain ⟨r_3, hc_2, h⟩ := bd_of h
  refine V_callV hE hG (ci := 0) (As := []) (rest := [.long 0, .long (Int32.toInt64 p1)]) (ok_f_X1_troughs hE hN hc_2) g_1 (by decide) rfl hw_X1_182 hdv_X1_troughs ⟨Nat.le_of_ble_eq_true rfl, Nat.le_of_ble_eq_true rfl⟩ rfl rfl (Nat.le_of_ble_eq_true rfl) ⟨Nat.le_of_ble_eq_true rfl, Nat.le_of_ble_eq_true rfl⟩ dX1_isTrough_4 (V_zero rfl rfl ?_)
  refine V_iconst hG 1 rfl dX1_isTrough_7 ?_
  refine V_isub hG dX1_isTrough_8 ?_
  refine V_i2l hG dX1_isTrough_9 ?_
  obtain ⟨r_5, hc_4, h⟩ := bd_of h
  refine V_callS hE hG (As := [.long (Int32.toInt64 p1), .long 0, .long (Int32.toInt64 (r_3 - 1))]) (rest := []) (ok_f_X1_in hE hN hc_4) hw_X1_144 hdc_X1_in ⟨Nat.le_of_ble_eq_true rfl, Nat.le_of_ble_eq_true rfl⟩ rfl rfl (Nat.le_of_ble_eq_true rfl) ⟨Nat.le_of_ble_eq_true rfl, Nat.le_of_ble_eq_true rfl⟩ dX1_isTrough_10 (V_zero rfl rfl ?_)
  obtain ⟨g_6, h⟩ := gd_of h
  cases h
  subst eQ
  exact V_zret hG g_6 dX1_isTrough_13

def f_X1_within (p0 : Int64) (p2 : Int32) (p3 : Int32) (p4 : Int32) (M : Mem) : Option (Int32) :=
bd (if lg_cmp p0 (-9223372036854775808) = 0 then (
some p4)
else (
bd (f_J8_min_2 (Int32.toInt64 p3) p0 M) fun (r_6 : Int64) =>
bd (f_J8_max_2 (Int32.toInt64 p2) r_6 M) fun (r_8 : Int64) =>
some (Int64.toInt32 r_8)) : Option (Int32)) fun (t_1 : Int32) =>
some t_1
def rm_f_X1_within : Room := { frames := 1, cells := 0, slots := 0, locals := 23 }
theorem ok_f_X1_within {E : En} (hE : EOk E) (hN : NOk E) {p0 : Int64} {p2 : Int32} {p3 : Int32} {p4 : Int32} {M : Mem} {r : Int32} (h : f_X1_within p0 p2 p3 p4 M = some r) : CM E yX1_within cX1_within 5 (some .int) rm_f_X1_within [.long p0, .int p2, .int p3, .int p4] M (some (.int r)) M := by
  unfold f_X1_within at h
  refine CM_introX (own := RX1) rfl (by decide +kernel) (Nat.le_of_ble_eq_true rfl) rfl (fun G hG hEn hI => ?_)
  obtain ⟨Q, eQ⟩ : ∃ Q, Q = QM E G (some (.int r)) M 0 0 := ⟨_, rfl⟩
  show V E G M 0 0 5 0 [(0, .long p0), (2, .int p2), (3, .int p3), (4, .int p4)] [] (QM E G (some (.int r)) M 0 0)
  rw [← eQ]
  refine V_lload_n hG 0 rfl dX1_within_0 ?_
  refine V_ldc2 hG q1038 dX1_within_1 ?_
  refine V_lcmp hG dX1_within_4 ?_
  obtain ⟨t_1, hj_3, h⟩ := bd_of h
  have J_2 : V E G M 0 0 5 25 [(0, .long p0), (2, .int p2), (3, .int p3), (4, .int p4)] [.int t_1] Q := by
    cases h
    subst eQ
    exact V_iret hG dX1_within_25
  refine V_if_ne hG 13 dX1_within_5 (by decide) (fun c_4 => ?_) (fun c_4 => ?_)
  · have hj_3 := if_f c_4 hj_3
    refine V_iload_n hG 1 rfl dX1_within_13 ?_
    refine V_i2l hG dX1_within_14 ?_
    refine V_iload_n hG 2 rfl dX1_within_15 ?_
    refine V_i2l hG dX1_within_16 ?_
    refine V_lload_n hG 0 rfl dX1_within_17 ?_
    obtain ⟨r_6, hc_5, hj_3⟩ := bd_of hj_3
    refine V_callS hE hG (As := [.long (Int32.toInt64 p3), .long p0]) (rest := [.long (Int32.toInt64 p2)]) (ok_f_J8_min_2 hE hN hc_5) hw_X1_58 hdc_J8_min_2 ⟨Nat.le_of_ble_eq_true rfl, Nat.le_of_ble_eq_true rfl⟩ rfl rfl (Nat.le_of_ble_eq_true rfl) ⟨Nat.le_of_ble_eq_true rfl, Nat.le_of_ble_eq_true rfl⟩ dX1_within_18 (V_zero rfl rfl ?_)
    obtain ⟨r_8, hc_7, hj_3⟩ := bd_of hj_3
    refine V_callS hE hG (As := [.long (Int32.toInt64 p2), .long r_6]) (rest := []) (ok_f_J8_max_2 hE hN hc_7) hw_X1_64 hdc_J8_max_2 ⟨Nat.le_of_ble_eq_true rfl, Nat.le_of_ble_eq_true rfl⟩ rfl rfl (Nat.le_of_ble_eq_true rfl) ⟨Nat.le_of_ble_eq_true rfl, Nat.le_of_ble_eq_true rfl⟩ dX1_within_21 (V_zero rfl rfl ?_)
    refine V_l2i hG dX1_within_24 ?_
    cases hj_3
    exact J_2
  · have hj_3 := if_t c_4 hj_3
    refine V_iload hG 3 rfl dX1_within_8 ?_
    refine V_goto hG 25 dX1_within_10 (by decide) ?_
    cases hj_3
    exact J_2

def f_X1_trough (p0 : Nat) (p1 : Int32) (M : Mem) : Option (Nat) :=
gd (mT M p0 = 0) (
bd (mR M p0 6) fun (a_2 : Nat) =>
gd (mT M a_2 = 2) (
bd (mR M a_2 0) fun (a_5 : Nat) =>
gd (mT M a_5 = 3) (
bd (f_J2_get a_5 p1 M) fun (r_9 : Nat) =>
gd (mT M r_9 = 7) (
some r_9))))
def rm_f_X1_trough : Room := { frames := 3, cells := 0, slots := 0, locals := 64 }
theorem ok_f_X1_trough {E : En} (hE : EOk E) (hN : NOk E) {p0 : Nat} {p1 : Int32} {M : Mem} {r : Nat} (h : f_X1_trough p0 p1 M = some r) : CM E yX1_trough cX1_trough 2 (some (.object "TroughTreaty$Trough")) rm_f_X1_trough [rf E p0, .int p1] M (some (rf E r)) M := by
  unfold f_X1_trough at h
  refine CM_introX (own := RX1) rfl (by decide +kernel) (Nat.le_of_ble_eq_true rfl) rfl (fun G hG hEn hI => ?_)
  obtain ⟨Q, eQ⟩ : ∃ Q, Q = QM E G (some (rf E r)) M 0 0 := ⟨_, rfl⟩
  show V E G M 0 0 2 0 [(0, rf E p0), (1, .int p1)] [] (QM E G (some (rf E r)) M 0 0)
  rw [← eQ]
  refine V_aload_n hG 0 rfl dX1_trough_0 ?_
  obtain ⟨g_1, h⟩ := gd_of h
  obtain ⟨a_2, hr_3, h⟩ := bd_of h
  refine gf_X1_13 hN hG g_1 hr_3 dX1_trough_1 ?_
  obtain ⟨g_4, h⟩ := gd_of h
  obtain ⟨a_5, hr_6, h⟩ := bd_of h
  refine gf_X1_17 hN hG g_4 hr_6 dX1_trough_4 ?_
  refine V_iload_n hG 1 rfl dX1_trough_7 ?_
  obtain ⟨g_7, h⟩ := gd_of h
  obtain ⟨r_9, hc_8, h⟩ := bd_of h
  refine V_callV hE hG (ci := 3) (As := [.int p1]) (rest := []) (ok_f_J2_get hE hN hc_8) g_7 (by decide) rfl hw_X1_29 hdv_J2_get ⟨Nat.le_of_ble_eq_true rfl, Nat.le_of_ble_eq_true rfl⟩ rfl rfl (Nat.le_of_ble_eq_true rfl) ⟨Nat.le_of_ble_eq_true rfl, Nat.le_of_ble_eq_true rfl⟩ dX1_trough_8 (V_zero rfl rfl ?_)
  obtain ⟨g_10, h⟩ := gd_of h
  refine ck_X1_33 hN hG g_10 dX1_trough_11 ?_
  cases h
  subst eQ
  exact V_aret hG (Or.inr ⟨_, rfl⟩) dX1_trough_14

def f_X1_horse (p0 : Nat) (p1 : Int32) (M : Mem) : Option (Nat) :=
gd (mT M p0 = 0) (
bd (mR M p0 6) fun (a_2 : Nat) =>
gd (mT M a_2 = 2) (
bd (mR M a_2 1) fun (a_5 : Nat) =>
gd (mT M a_5 = 3) (
bd (f_J2_get a_5 p1 M) fun (r_9 : Nat) =>
gd (mT M r_9 = 8) (
some r_9))))
def rm_f_X1_horse : Room := { frames := 3, cells := 0, slots := 0, locals := 64 }
theorem ok_f_X1_horse {E : En} (hE : EOk E) (hN : NOk E) {p0 : Nat} {p1 : Int32} {M : Mem} {r : Nat} (h : f_X1_horse p0 p1 M = some r) : CM E yX1_horse cX1_horse 2 (some (.object "TroughTreaty$Horse")) rm_f_X1_horse [rf E p0, .int p1] M (some (rf E r)) M := by
  unfold f_X1_horse at h
  refine CM_introX (own := RX1) rfl (by decide +kernel) (Nat.le_of_ble_eq_true rfl) rfl (fun G hG hEn hI => ?_)
  obtain ⟨Q, eQ⟩ : ∃ Q, Q = QM E G (some (rf E r)) M 0 0 := ⟨_, rfl⟩
  show V E G M 0 0 2 0 [(0, rf E p0), (1, .int p1)] [] (QM E G (some (rf E r)) M 0 0)
  rw [← eQ]
  refine V_aload_n hG 0 rfl dX1_horse_0 ?_
  obtain ⟨g_1, h⟩ := gd_of h
  obtain ⟨a_2, hr_3, h⟩ := bd_of h
  refine gf_X1_13 hN hG g_1 hr_3 dX1_horse_1 ?_
  obtain ⟨g_4, h⟩ := gd_of h
  obtain ⟨a_5, hr_6, h⟩ := bd_of h
  refine gf_X1_35 hN hG g_4 hr_6 dX1_horse_4 ?_
  refine V_iload_n hG 1 rfl dX1_horse_7 ?_
  obtain ⟨g_7, h⟩ := gd_of h
  obtain ⟨r_9, hc_8, h⟩ := bd_of h
  refine V_callV hE hG (ci := 3) (As := [.int p1]) (rest := []) (ok_f_J2_get hE hN hc_8) g_7 (by decide) rfl hw_X1_29 hdv_J2_get ⟨Nat.le_of_ble_eq_true rfl, Nat.le_of_ble_eq_true rfl⟩ rfl rfl (Nat.le_of_ble_eq_true rfl) ⟨Nat.le_of_ble_eq_true rfl, Nat.le_of_ble_eq_true rfl⟩ dX1_horse_8 (V_zero rfl rfl ?_)
  obtain ⟨g_10, h⟩ := gd_of h
  refine ck_X1_38 hN hG g_10 dX1_horse_11 ?_
  cases h
  subst eQ
  exact V_aret hG (Or.inr ⟨_, rfl⟩) dX1_horse_14

def f_X6_paceOf (p0 : Nat) (p1 : Int32) (M : Mem) : Option (Int32) :=
gd (mT M p0 = 5) (
bd (if mI M p0 12 = 4 then (
bd (mR M p0 17) fun (a_12 : Nat) =>
gd (mT M a_12 = 0) (
bd (f_X1_horse a_12 p1 M) fun (r_16 : Nat) =>
gd (mT M r_16 = 8) (
some (2 * (mI M r_16 4)))))
else (
bd (mR M p0 17) fun (a_6 : Nat) =>
gd (mT M a_6 = 0) (
bd (f_X1_horse a_6 p1 M) fun (r_10 : Nat) =>
gd (mT M r_10 = 8) (
some (mI M r_10 4)))) : Option (Int32)) fun (t_2 : Int32) =>
some t_2)
def rm_f_X6_paceOf : Room := { frames := 4, cells := 0, slots := 0, locals := 85 }
theorem ok_f_X6_paceOf {E : En} (hE : EOk E) (hN : NOk E) {p0 : Nat} {p1 : Int32} {M : Mem} {r : Int32} (h : f_X6_paceOf p0 p1 M = some r) : CM E yX6_paceOf cX6_paceOf 2 (some .int) rm_f_X6_paceOf [rf E p0, .int p1] M (some (.int r)) M := by
  unfold f_X6_paceOf at h
  refine CM_introX (own := RX6) rfl (by decide +kernel) (Nat.le_of_ble_eq_true rfl) rfl (fun G hG hEn hI => ?_)
  obtain ⟨Q, eQ⟩ : ∃ Q, Q = QM E G (some (.int r)) M 0 0 := ⟨_, rfl⟩
  show V E G M 0 0 2 0 [(0, rf E p0), (1, .int p1)] [] (QM E G (some (.int r)) M 0 0)
  rw [← eQ]
  refine V_aload_n hG 0 rfl dX6_paceOf_0 ?_
  obtain ⟨g_1, h⟩ := gd_of h
  refine gf_X6_88 hN hG g_1 dX6_paceOf_1 ?_
  refine V_iconst hG 4 rfl dX6_paceOf_4 ?_
  obtain ⟨t_2, hj_4, h⟩ := bd_of h
  have J_3 : V E G M 0 0 2 35 [(0, rf E p0), (1, .int p1)] [.int t_2] Q := by
    cases h
    subst eQ
    exact V_iret hG dX6_paceOf_35
  refine V_icmp_ne hG 24 dX6_paceOf_5 (by decide) (fun c_5 => ?_) (fun c_5 => ?_)
  · have hj_4 := if_f c_5 hj_4
    refine V_aload_n hG 0 rfl dX6_paceOf_24 ?_
    obtain ⟨a_6, hr_7, hj_4⟩ := bd_of hj_4
    refine gf_X6_3 hN hG g_1 hr_7 dX6_paceOf_25 ?_
    refine V_iload_n hG 1 rfl dX6_paceOf_28 ?_
    obtain ⟨g_8, hj_4⟩ := gd_of hj_4
    obtain ⟨r_10, hc_9, hj_4⟩ := bd_of hj_4
    refine W_callVN hE hG hN (ci := 0) (As := [.int p1]) (rest := []) (ok_f_X1_horse hE hN hc_9) g_8 (by decide) rfl q400 (lw_meth q403) q123 q402 qs1 hdc_X1_horse ⟨Nat.le_of_ble_eq_true rfl, Nat.le_of_ble_eq_true rfl⟩ rfl rfl (Nat.le_of_ble_eq_true rfl) ⟨Nat.le_of_ble_eq_true rfl, Nat.le_of_ble_eq_true rfl⟩ dX6_paceOf_29 (V_zero rfl rfl ?_)
    obtain ⟨g_11, hj_4⟩ := gd_of hj_4
    refine gf_X6_104 hN hG g_11 dX6_paceOf_32 ?_
    cases hj_4
    exact J_3
  · have hj_4 := if_t c_5 hj_4
    refine V_iconst hG 2 rfl dX6_paceOf_8 ?_
    refine V_aload_n hG 0 rfl dX6_paceOf_9 ?_
    obtain ⟨a_12, hr_13, hj_4⟩ := bd_of hj_4
    refine gf_X6_3 hN hG g_1 hr_13 dX6_paceOf_10 ?_
    refine V_iload_n hG 1 rfl dX6_paceOf_13 ?_
    obtain ⟨g_14, hj_4⟩ := gd_of hj_4
    obtain ⟨r_16, hc_15, hj_4⟩ := bd_of hj_4
    refine W_callVN hE hG hN (ci := 0) (As := [.int p1]) (rest := [.int 2]) (ok_f_X1_horse hE hN hc_15) g_14 (by decide) rfl q400 (lw_meth q403) q123 q402 qs1 hdc_X1_horse ⟨Nat.le_of_ble_eq_true rfl, Nat.le_of_ble_eq_true rfl⟩ rfl rfl (Nat.le_of_ble_eq_true rfl) ⟨Nat.le_of_ble_eq_true rfl, Nat.le_of_ble_eq_true rfl⟩ dX6_paceOf_14 (V_zero rfl rfl ?_)
    obtain ⟨g_17, hj_4⟩ := gd_of hj_4
    refine gf_X6_104 hN hG g_17 dX6_paceOf_17 ?_
    refine V_imul hG dX6_paceOf_20 ?_
    refine V_goto hG 35 dX6_paceOf_21 (by decide) ?_
    cases hj_4
    exact J_3

def f_X6_name (N : Nat) (p0 : Nat) (p1 : Int32) (M : Mem) : Option (Mem) :=
gd (mT M p0 = 5) (
bd (mR M p0 17) fun (a_2 : Nat) =>
gd (mT M a_2 = 0) (
bd (mR M a_2 6) fun (a_5 : Nat) =>
gd (mT M a_5 = 2) (
bd (mR M a_5 0) fun (a_8 : Nat) =>
bd (mR M p0 0) fun (a_10 : Nat) =>
gd (mT M a_10 = 100) (
gd (inb p1 (mLn M a_10)) (
bd (f_X10_at N a_8 (mI M a_10 (Int32.toNatClampNeg p1)) M) fun (r_15 : Int32) =>
bd (mR M p0 17) fun (a_16 : Nat) =>
gd (mT M a_16 = 0) (
bd (mR M a_16 7) fun (a_19 : Nat) =>
bd (mR M p0 1) fun (a_21 : Nat) =>
gd (mT M a_21 = 100) (
gd (inb p1 (mLn M a_21)) (
gd (mT M a_19 = 103) (
gd (inb 0 (mLn M a_19)) (
be (sL M a_19 (Int32.toNatClampNeg 0) (Int32.toInt64 (mI M a_21 (Int32.toNatClampNeg p1)))) fun (M_27 : Mem) =>
bd (mR M_27 p0 17) fun (a_35 : Nat) =>
gd (mT M_27 a_35 = 0) (
bd (mR M_27 a_35 7) fun (a_38 : Nat) =>
bd (f_X6_paceOf p0 p1 M_27) fun (r_41 : Int32) =>
gd (mT M_27 a_38 = 103) (
gd (inb 1 (mLn M_27 a_38)) (
be (sL M_27 a_38 (Int32.toNatClampNeg 1) (Int32.toInt64 r_41)) fun (M_44 : Mem) =>
bd (mR M_44 p0 17) fun (a_54 : Nat) =>
gd (mT M_44 a_54 = 0) (
bd (mR M_44 a_54 7) fun (a_57 : Nat) =>
bd (mR M_44 p0 17) fun (a_59 : Nat) =>
gd (mT M_44 a_59 = 0) (
bd (f_X1_horse a_59 p1 M_44) fun (r_63 : Nat) =>
gd (mT M_44 r_63 = 8) (
gd (mT M_44 a_57 = 103) (
gd (inb 2 (mLn M_44 a_57)) (
be (sL M_44 a_57 (Int32.toNatClampNeg 2) (Int32.toInt64 (mI M_44 r_63 2))) fun (M_67 : Mem) =>
bd (mR M_67 p0 17) fun (a_81 : Nat) =>
gd (mT M_67 a_81 = 0) (
bd (mR M_67 a_81 7) fun (a_84 : Nat) =>
bd (if r_15 = (-1) then (
some 0)
else (
bd (mR M_67 p0 5) fun (a_161 : Nat) =>
gd (mT M_67 a_161 = 100) (
gd (inb r_15 (mLn M_67 a_161)) (
some (Int32.toInt64 (mI M_67 a_161 (Int32.toNatClampNeg r_15)))))) : Option (Int64)) fun (t_86 : Int64) =>
gd (mT M_67 a_84 = 103) (
gd (inb 3 (mLn M_67 a_84)) (
be (sL M_67 a_84 (Int32.toNatClampNeg 3) t_86) fun (M_91 : Mem) =>
gd (mT M_91 p0 = 5) (
bd (mR M_91 p0 17) fun (a_94 : Nat) =>
gd (mT M_91 a_94 = 0) (
bd (mR M_91 a_94 7) fun (a_97 : Nat) =>
bd (mR M_91 p0 2) fun (a_99 : Nat) =>
gd (mT M_91 a_99 = 100) (
gd (inb p1 (mLn M_91 a_99)) (
bd (if mI M_91 a_99 (Int32.toNatClampNeg p1) = (-1) then (
some 0)
else (
bd (mR M_91 p0 17) fun (a_144 : Nat) =>
bd (mR M_91 p0 2) fun (a_146 : Nat) =>
gd (mT M_91 a_146 = 100) (
gd (inb p1 (mLn M_91 a_146)) (
gd (mT M_91 a_144 = 0) (
bd (f_X1_trough a_144 (mI M_91 a_146 (Int32.toNatClampNeg p1)) M_91) fun (r_152 : Nat) =>
gd (mT M_91 r_152 = 7) (
bd (mR M_91 p0 0) fun (a_154 : Nat) =>
gd (mT M_91 a_154 = 100) (
gd (inb p1 (mLn M_91 a_154)) (
bd (f_J8_abs ((mI M_91 r_152 0) - (mI M_91 a_154 (Int32.toNatClampNeg p1))) M_91) fun (r_159 : Int32) =>
some (Int32.toInt64 r_159)))))))) : Option (Int64)) fun (t_103 : Int64) =>
gd (mT M_91 a_97 = 103) (
gd (inb 4 (mLn M_91 a_97)) (
be (sL M_91 a_97 (Int32.toNatClampNeg 4) t_103) fun (M_108 : Mem) =>
gd (mT M_108 p0 = 5) (
bd (mR M_108 p0 17) fun (a_111 : Nat) =>
gd (mT M_108 a_111 = 0) (
bd (mR M_108 a_111 7) fun (a_114 : Nat) =>
bd (mR M_108 p0 3) fun (a_116 : Nat) =>
gd (mT M_108 a_116 = 100) (
gd (inb p1 (mLn M_108 a_116)) (
gd (mT M_108 a_114 = 103) (
gd (inb 5 (mLn M_108 a_114)) (
be (sL M_108 a_114 (Int32.toNatClampNeg 5) (Int32.toInt64 (mI M_108 a_116 (Int32.toNatClampNeg p1)))) fun (M_122 : Mem) =>
bd (mR M_122 p0 17) fun (a_128 : Nat) =>
gd (mT M_122 a_128 = 0) (
bd (mR M_122 a_128 7) fun (a_131 : Nat) =>
gd (mT M_122 a_131 = 103) (
gd (inb 6 (mLn M_122 a_131)) (
be (sL M_122 a_131 (Int32.toNatClampNeg 6) (Int32.toInt64 (mI M_122 p0 6))) fun (M_135 : Mem) =>
some M_135))))))))))))))))))))))))))))))))))))
def rm_f_X6_name : Room := { frames := 5, cells := 0, slots := 0, locals := 106 }
theorem ok_f_X6_name {E : En} (hE : EOk E) (hN : NOk E) {N : Nat} {p0 : Nat} {p1 : Int32} {M : Mem}  {M' : Mem} (h : f_X6_name N p0 p1 M = some M') : CM E yX6_name cX6_name 3 none rm_f_X6_name [rf E p0, .int p1] M none M' := by
  unfold f_X6_name at h
  refine CM_introX (own := RX6) rfl (by decide +kernel) (Nat.le_of_ble_eq_true rfl) rfl (fun G hG hEn hI => ?_)
  obtain ⟨Q, eQ⟩ : ∃ Q, Q = QM E G none M' 0 0 := ⟨_, rfl⟩
  show V E G M 0 0 3 0 [(0, rf E p0), (1, .int p1)] [] (QM E G none M' 0 0)
  rw [← eQ]
  refine V_aload_n hG 0 rfl dX6_name_0 ?_
  obtain ⟨g_1, h⟩ := gd_of h
  obtain ⟨a_2, hr_3, h⟩ := bd_of h
  refine gf_X6_3 hN hG g_1 hr_3 dX6_name_1 ?_
  obtain ⟨g_4, h⟩ := gd_of h
  obtain ⟨a_5, hr_6, h⟩ := bd_of h
  refine gf_X6_76 hN hG g_4 hr_6 dX6_name_4 ?_
  obtain ⟨g_7, h⟩ := gd_of h
  obtain ⟨a_8, hr_9, h⟩ := bd_of h
  refine gf_X6_107 hN hG g_7 hr_9 dX6_name_7 ?_
  refine V_aload_n hG 0 rfl dX6_name_10 ?_
  obtain ⟨a_10, hr_11, h⟩ := bd_of h
  refine gf_X6_15 hN hG g_1 hr_11 dX6_name_11 ?_
  refine V_iload_n hG 1 rfl dX6_name_14 ?_
  obtain ⟨g_12, h⟩ := gd_of h
  obtain ⟨g_13, h⟩ := gd_of h
  refine V_iaload hG g_12 g_13 dX6_name_15 ?_
  obtain ⟨r_15, hc_14, h⟩ := bd_of h
  refine V_callS hE hG (As := [rf E a_8, .int (mI M a_10 (Int32.toNatClampNeg p1))]) (rest := []) (ok_f_X10_at hE hN hc_14) hw_X6_110 hdc_X10_at ⟨Nat.le_of_ble_eq_true rfl, Nat.le_of_ble_eq_true rfl⟩ rfl rfl (Nat.le_of_ble_eq_true rfl) ⟨Nat.le_of_ble_eq_true rfl, Nat.le_of_ble_eq_true rfl⟩ dX6_name_16 (V_zero rfl rfl ?_)
  refine V_istore_n hG rfl [(2, .int r_15), (0, rf E p0), (1, .int p1)] dX6_name_19 (Nat.le_of_ble_eq_true rfl) rfl ?_
  refine V_aload_n hG 1 rfl dX6_name_20 ?_
  obtain ⟨a_16, hr_17, h⟩ := bd_of h
  refine gf_X6_3 hN hG g_1 hr_17 dX6_name_21 ?_
  obtain ⟨g_18, h⟩ := gd_of h
  obtain ⟨a_19, hr_20, h⟩ := bd_of h
  refine gf_X6_115 hN hG g_18 hr_20 dX6_name_24 ?_
  refine V_iconst hG 0 rfl dX6_name_27 ?_
  refine V_aload_n hG 1 rfl dX6_name_28 ?_
  obtain ⟨a_21, hr_22, h⟩ := bd_of h
  refine gf_X6_19 hN hG g_1 hr_22 dX6_name_29 ?_
  refine V_iload_n hG 2 rfl dX6_name_32 ?_
  obtain ⟨g_23, h⟩ := gd_of h
  obtain ⟨g_24, h⟩ := gd_of h
  refine V_iaload hG g_23 g_24 dX6_name_33 ?_
  refine V_i2l hG dX6_name_34 ?_
  obtain ⟨g_25, h⟩ := gd_of h
  obtain ⟨g_26, h⟩ := gd_of h
  obtain ⟨M_27, eM_27, h⟩ := be_of h
  refine W_lastore hG g_25 g_26 M_27 eM_27 dX6_name_35 ?_
  have g_28 : mT M_27 p0 = 5 := by rw [eM_27]; exact g_1
  have g_29 : mT M_27 a_2 = 0 := by rw [eM_27]; exact g_4
  have g_30 : mT M_27 a_5 = 2 := by rw [eM_27]; exact g_7
  have g_31 : mT M_27 a_10 = 100 := by rw [eM_27]; exact g_12
  have g_32 : mT M_27 a_16 = 0 := by rw [eM_27]; exact g_18
  have g_33 : mT M_27 a_21 = 100 := by rw [eM_27]; exact g_23
  have g_34 : mT M_27 a_19 = 103 := by rw [eM_27]; exact g_25
  refine V_aload_n hG 1 rfl dX6_name_36 ?_
  obtain ⟨a_35, hr_36, h⟩ := bd_of h
  refine gf_X6_3 hN hG g_28 hr_36 dX6_name_37 ?_
  obtain ⟨g_37, h⟩ := gd_of h
  obtain ⟨a_38, hr_39, h⟩ := bd_of h
  refine gf_X6_115 hN hG g_37 hr_39 dX6_name_40 ?_
  refine V_iconst hG 1 rfl dX6_name_43 ?_
  refine V_aload_n hG 1 rfl dX6_name_44 ?_
  refine V_iload_n hG 2 rfl dX6_name_45 ?_
  obtain ⟨r_41, hc_40, h⟩ := bd_of h
  refine V_callV hE hG (ci := 5) (As := [.int p1]) (rest := [.int 1, rf E a_38]) (ok_f_X6_paceOf hE hN hc_40) g_28 (by decide) rfl hw_X6_119 hdv_X6_paceOf ⟨Nat.le_of_ble_eq_true rfl, Nat.le_of_ble_eq_true rfl⟩ rfl rfl (Nat.le_of_ble_eq_true rfl) ⟨Nat.le_of_ble_eq_true rfl, Nat.le_of_ble_eq_true rfl⟩ dX6_name_46 (V_zero rfl rfl ?_)
  refine V_i2l hG dX6_name_49 ?_
  obtain ⟨g_42, h⟩ := gd_of h
  obtain ⟨g_43, h⟩ := gd_of h
  obtain ⟨M_44, eM_44, h⟩ := be_of h
  refine W_lastore hG g_42 g_43 M_44 eM_44 dX6_name_50 ?_
  have g_45 : mT M_44 p0 = 5 := by rw [eM_44]; exact g_28
  have g_46 : mT M_44 a_2 = 0 := by rw [eM_44]; exact g_29
  have g_47 : mT M_44 a_5 = 2 := by rw [eM_44]; exact g_30
  have g_48 : mT M_44 a_10 = 100 := by rw [eM_44]; exact g_31
  have g_49 : mT M_44 a_16 = 0 := by rw [eM_44]; exact g_32
  have g_50 : mT M_44 a_21 = 100 := by rw [eM_44]; exact g_33
  have g_51 : mT M_44 a_19 = 103 := by rw [eM_44]; exact g_34
  have g_52 : mT M_44 a_35 = 0 := by rw [eM_44]; exact g_37
  have g_53 : mT M_44 a_38 = 103 := by rw [eM_44]; exact g_42
  refine V_aload_n hG 1 rfl dX6_name_51 ?_
  obtain ⟨a_54, hr_55, h⟩ := bd_of h
  refine gf_X6_3 hN hG g_45 hr_55 dX6_name_52 ?_
  obtain ⟨g_56, h⟩ := gd_of h
  obtain ⟨a_57, hr_58, h⟩ := bd_of h
  refine gf_X6_115 hN hG g_56 hr_58 dX6_name_55 ?_
  refine V_iconst hG 2 rfl dX6_name_58 ?_
  refine V_aload_n hG 1 rfl dX6_name_59 ?_
  obtain ⟨a_59, hr_60, h⟩ := bd_of h
  refine gf_X6_3 hN hG g_45 hr_60 dX6_name_60 ?_
  refine V_iload_n hG 2 rfl dX6_name_63 ?_
  obtain ⟨g_61, h⟩ := gd_of h
  obtain ⟨r_63, hc_62, h⟩ := bd_of h
  refine W_callVN hE hG hN (ci := 0) (As := [.int p1]) (rest := [.int 2, rf E a_57]) (ok_f_X1_horse hE hN hc_62) g_61 (by decide) rfl q400 (lw_meth q403) q123 q402 qs1 hdc_X1_horse ⟨Nat.le_of_ble_eq_true rfl, Nat.le_of_ble_eq_true rfl⟩ rfl rfl (Nat.le_of_ble_eq_true rfl) ⟨Nat.le_of_ble_eq_true rfl, Nat.le_of_ble_eq_true rfl⟩ dX6_name_64 (V_zero rfl rfl ?_)
  obtain ⟨g_64, h⟩ := gd_of h
  refine gf_X6_123 hN hG g_64 dX6_name_67 ?_
  refine V_i2l hG dX6_name_70 ?_
  obtain ⟨g_65, h⟩ := gd_of h
  obtain ⟨g_66, h⟩ := gd_of h
  obtain ⟨M_67, eM_67, h⟩ := be_of h
  refine W_lastore hG g_65 g_66 M_67 eM_67 dX6_name_71 ?_
  have g_68 : mT M_67 p0 = 5 := by rw [eM_67]; exact g_45
  have g_69 : mT M_67 a_2 = 0 := by rw [eM_67]; exact g_46
  have g_70 : mT M_67 a_5 = 2 := by rw [eM_67]; exact g_47
  have g_71 : mT M_67 a_10 = 100 := by rw [eM_67]; exact g_48
  have g_72 : mT M_67 a_16 = 0 := by rw [eM_67]; exact g_49
  have g_73 : mT M_67 a_21 = 100 := by rw [eM_67]; exact g_50
  have g_74 : mT M_67 a_19 = 103 := by rw [eM_67]; exact g_51
  have g_75 : mT M_67 a_35 = 0 := by rw [eM_67]; exact g_52
  have g_76 : mT M_67 a_38 = 103 := by rw [eM_67]; exact g_53
  have g_77 : mT M_67 a_54 = 0 := by rw [eM_67]; exact g_56
  have g_78 : mT M_67 a_59 = 0 := by rw [eM_67]; exact g_61
  have g_79 : mT M_67 r_63 = 8 := by rw [eM_67]; exact g_64
  have g_80 : mT M_67 a_57 = 103 := by rw [eM_67]; exact g_65
  refine V_aload_n hG 1 rfl dX6_name_72 ?_
  obtain ⟨a_81, hr_82, h⟩ := bd_of h
  refine gf_X6_3 hN hG g_68 hr_82 dX6_name_73 ?_
  obtain ⟨g_83, h⟩ := gd_of h
  obtain ⟨a_84, hr_85, h⟩ := bd_of h
  refine gf_X6_115 hN hG g_83 hr_85 dX6_name_76 ?_
  refine V_iconst hG 3 rfl dX6_name_79 ?_
  refine V_iload_n hG 0 rfl dX6_name_80 ?_
  refine V_iconst hG (-1) rfl dX6_name_81 ?_
  obtain ⟨t_86, hj_88, h⟩ := bd_of h
  have J_87 : V E G M_67 0 0 3 96 [(2, .int r_15), (0, rf E p0), (1, .int p1)] [.long t_86, .int 3, rf E a_84] Q := by
    obtain ⟨g_89, h⟩ := gd_of h
    obtain ⟨g_90, h⟩ := gd_of h
    obtain ⟨M_91, eM_91, h⟩ := be_of h
    refine W_lastore hG g_89 g_90 M_91 eM_91 dX6_name_96 ?_
    have g_92 : mT M_91 a_84 = 103 := by rw [eM_91]; exact g_89
    refine V_aload_n hG 1 rfl dX6_name_97 ?_
    obtain ⟨g_93, h⟩ := gd_of h
    obtain ⟨a_94, hr_95, h⟩ := bd_of h
    refine gf_X6_3 hN hG g_93 hr_95 dX6_name_98 ?_
    obtain ⟨g_96, h⟩ := gd_of h
    obtain ⟨a_97, hr_98, h⟩ := bd_of h
    refine gf_X6_115 hN hG g_96 hr_98 dX6_name_101 ?_
    refine V_iconst hG 4 rfl dX6_name_104 ?_
    refine V_aload_n hG 1 rfl dX6_name_105 ?_
    obtain ⟨a_99, hr_100, h⟩ := bd_of h
    refine gf_X6_22 hN hG g_93 hr_100 dX6_name_106 ?_
    refine V_iload_n hG 2 rfl dX6_name_109 ?_
    obtain ⟨g_101, h⟩ := gd_of h
    obtain ⟨g_102, h⟩ := gd_of h
    refine V_iaload hG g_101 g_102 dX6_name_110 ?_
    refine V_iconst hG (-1) rfl dX6_name_111 ?_
    obtain ⟨t_103, hj_105, h⟩ := bd_of h
    have J_104 : V E G M_91 0 0 3 146 [(2, .int r_15), (0, rf E p0), (1, .int p1)] [.long t_103, .int 4, rf E a_97] Q := by
      obtain ⟨g_106, h⟩ := gd_of h
      obtain ⟨g_107, h⟩ := gd_of h
      obtain ⟨M_108, eM_108, h⟩ := be_of h
      refine W_lastore hG g_106 g_107 M_108 eM_108 dX6_name_146 ?_
      have g_109 : mT M_108 a_97 = 103 := by rw [eM_108]; exact g_106
      refine V_aload_n hG 1 rfl dX6_name_147 ?_
      obtain ⟨g_110, h⟩ := gd_of h
      obtain ⟨a_111, hr_112, h⟩ := bd_of h
      refine gf_X6_3 hN hG g_110 hr_112 dX6_name_148 ?_
      obtain ⟨g_113, h⟩ := gd_of h
      obtain ⟨a_114, hr_115, h⟩ := bd_of h
      refine gf_X6_115 hN hG g_113 hr_115 dX6_name_151 ?_
      refine V_iconst hG 5 rfl dX6_name_154 ?_
      refine V_aload_n hG 1 rfl dX6_name_155 ?_
      obtain ⟨a_116, hr_117, h⟩ := bd_of h
      refine gf_X6_25 hN hG g_110 hr_117 dX6_name_156 ?_
      refine V_iload_n hG 2 rfl dX6_name_159 ?_
      obtain ⟨g_118, h⟩ := gd_of h
      obtain ⟨g_119, h⟩ := gd_of h
      refine V_iaload hG g_118 g_119 dX6_name_160 ?_
      refine V_i2l hG dX6_name_161 ?_
      obtain ⟨g_120, h⟩ := gd_of h
      obtain ⟨g_121, h⟩ := gd_of h
      obtain ⟨M_122, eM_122, h⟩ := be_of h
      refine W_lastore hG g_120 g_121 M_122 eM_122 dX6_name_162 ?_
      have g_123 : mT M_122 a_97 = 103 := by rw [eM_122]; exact g_109
      have g_124 : mT M_122 p0 = 5 := by rw [eM_122]; exact g_110
      have g_125 : mT M_122 a_111 = 0 := by rw [eM_122]; exact g_113
      have g_126 : mT M_122 a_116 = 100 := by rw [eM_122]; exact g_118
      have g_127 : mT M_122 a_114 = 103 := by rw [eM_122]; exact g_120
      refine V_aload_n hG 1 rfl dX6_name_163 ?_
      obtain ⟨a_128, hr_129, h⟩ := bd_of h
      refine gf_X6_3 hN hG g_124 hr_129 dX6_name_164 ?_
      obtain ⟨g_130, h⟩ := gd_of h
      obtain ⟨a_131, hr_132, h⟩ := bd_of h
      refine gf_X6_115 hN hG g_130 hr_132 dX6_name_167 ?_
      refine V_bipush hG 6 (by decide) dX6_name_170 ?_
      refine V_aload_n hG 1 rfl dX6_name_172 ?_
      refine gf_X6_61 hN hG g_124 dX6_name_173 ?_
      refine V_i2l hG dX6_name_176 ?_
      obtain ⟨g_133, h⟩ := gd_of h
      obtain ⟨g_134, h⟩ := gd_of h
      obtain ⟨M_135, eM_135, h⟩ := be_of h
      refine W_lastore hG g_133 g_134 M_135 eM_135 dX6_name_177 ?_
      have g_136 : mT M_135 a_97 = 103 := by rw [eM_135]; exact g_123
      have g_137 : mT M_135 p0 = 5 := by rw [eM_135]; exact g_124
      have g_138 : mT M_135 a_111 = 0 := by rw [eM_135]; exact g_125
      have g_139 : mT M_135 a_116 = 100 := by rw [eM_135]; exact g_126
      have g_140 : mT M_135 a_114 = 103 := by rw [eM_135]; exact g_127
      have g_141 : mT M_135 a_128 = 0 := by rw [eM_135]; exact g_130
      have g_142 : mT M_135 a_131 = 103 := by rw [eM_135]; exact g_133
      cases h
      subst eQ
      exact V_vret hG dX6_name_178
    refine V_icmp_ne hG 119 dX6_name_112 (by decide) (fun c_143 => ?_) (fun c_143 => ?_)
    · have hj_105 := if_f c_143 hj_105
      refine V_aload_n hG 1 rfl dX6_name_119 ?_
      obtain ⟨a_144, hr_145, hj_105⟩ := bd_of hj_105
      refine gf_X6_3 hN hG g_93 hr_145 dX6_name_120 ?_
      refine V_aload_n hG 1 rfl dX6_name_123 ?_
      obtain ⟨a_146, hr_147, hj_105⟩ := bd_of hj_105
      refine gf_X6_22 hN hG g_93 hr_147 dX6_name_124 ?_
      refine V_iload_n hG 2 rfl dX6_name_127 ?_
      obtain ⟨g_148, hj_105⟩ := gd_of hj_105
      obtain ⟨g_149, hj_105⟩ := gd_of hj_105
      refine V_iaload hG g_148 g_149 dX6_name_128 ?_
      obtain ⟨g_150, hj_105⟩ := gd_of hj_105
      obtain ⟨r_152, hc_151, hj_105⟩ := bd_of hj_105
      refine W_callVN hE hG hN (ci := 0) (As := [.int (mI M_91 a_146 (Int32.toNatClampNeg p1))]) (rest := [.int 4, rf E a_97]) (ok_f_X1_trough hE hN hc_151) g_150 (by decide) rfl q423 (lw_meth q426) q123 q425 qs3 hdc_X1_trough ⟨Nat.le_of_ble_eq_true rfl, Nat.le_of_ble_eq_true rfl⟩ rfl rfl (Nat.le_of_ble_eq_true rfl) ⟨Nat.le_of_ble_eq_true rfl, Nat.le_of_ble_eq_true rfl⟩ dX6_name_129 (V_zero rfl rfl ?_)
      obtain ⟨g_153, hj_105⟩ := gd_of hj_105
      refine gf_X6_126 hN hG g_153 dX6_name_132 ?_
      refine V_aload_n hG 1 rfl dX6_name_135 ?_
      obtain ⟨a_154, hr_155, hj_105⟩ := bd_of hj_105
      refine gf_X6_15 hN hG g_93 hr_155 dX6_name_136 ?_
      refine V_iload_n hG 2 rfl dX6_name_139 ?_
      obtain ⟨g_156, hj_105⟩ := gd_of hj_105
      obtain ⟨g_157, hj_105⟩ := gd_of hj_105
      refine V_iaload hG g_156 g_157 dX6_name_140 ?_
      refine V_isub hG dX6_name_141 ?_
      obtain ⟨r_159, hc_158, hj_105⟩ := bd_of hj_105
      refine V_callS hE hG (As := [.int ((mI M_91 r_152 0) - (mI M_91 a_154 (Int32.toNatClampNeg p1)))]) (rest := [.int 4, rf E a_97]) (ok_f_J8_abs hE hN hc_158) hw_X6_127 hdc_J8_abs ⟨Nat.le_of_ble_eq_true rfl, Nat.le_of_ble_eq_true rfl⟩ rfl rfl (Nat.le_of_ble_eq_true rfl) ⟨Nat.le_of_ble_eq_true rfl, Nat.le_of_ble_eq_true rfl⟩ dX6_name_142 (V_zero rfl rfl ?_)
      refine V_i2l hG dX6_name_145 ?_
      cases hj_105
      exact J_104
    · have hj_105 := if_t c_143 hj_105
      refine V_lconst hG 0 rfl dX6_name_115 ?_
      refine V_goto hG 146 dX6_name_116 (by decide) ?_
      cases hj_105
      exact J_104
  refine V_icmp_ne hG 89 dX6_name_82 (by decide) (fun c_160 => ?_) (fun c_160 => ?_)
  · have hj_88 := if_f c_160 hj_88
    refine V_aload_n hG 1 rfl dX6_name_89 ?_
    obtain ⟨a_161, hr_162, hj_88⟩ := bd_of hj_88
    refine gf_X6_31 hN hG g_68 hr_162 dX6_name_90 ?_
    refine V_iload_n hG 0 rfl dX6_name_93 ?_
    obtain ⟨g_163, hj_88⟩ := gd_of hj_88
    obtain ⟨g_164, hj_88⟩ := gd_of hj_88
    refine V_iaload hG g_163 g_164 dX6_name_94 ?_
    refine V_i2l hG dX6_name_95 ?_
    cases hj_88
    exact J_87
  · have hj_88 := if_t c_160 hj_88
    refine V_lconst hG 0 rfl dX6_name_85 ?_
    refine V_goto hG 96 dX6_name_86 (by decide) ?_
    cases hj_88
    exact J_87

def f_X4_gulps (p0 : Nat) (p1 : Nat) (p2 : Int32) (M : Mem) : Option (Int32) :=
some 9
def rm_f_X4_gulps : Room := { frames := 0, cells := 0, slots := 0, locals := 0 }
theorem ok_f_X4_gulps {E : En} (hE : EOk E) (hN : NOk E) {p0 : Nat} {p1 : Nat} {p2 : Int32} {M : Mem} {r : Int32} (h : f_X4_gulps p0 p1 p2 M = some r) : CM E yX4_gulps cX4_gulps 3 (some .int) rm_f_X4_gulps [rf E p0, rf E p1, .int p2] M (some (.int r)) M := by
  unfold f_X4_gulps at h
  refine CM_introX (own := RX4) rfl (by decide +kernel) (Nat.le_of_ble_eq_true rfl) rfl (fun G hG hEn hI => ?_)
  obtain ⟨Q, eQ⟩ : ∃ Q, Q = QM E G (some (.int r)) M 0 0 := ⟨_, rfl⟩
  show V E G M 0 0 3 0 [(0, rf E p0), (1, rf E p1), (2, .int p2)] [] (QM E G (some (.int r)) M 0 0)
  rw [← eQ]
  refine V_bipush hG 9 (by decide) dX4_gulps_0 ?_
  cases h
  subst eQ
  exact V_iret hG dX4_gulps_2
