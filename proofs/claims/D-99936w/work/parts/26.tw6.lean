set_option maxRecDepth 100000
set_option maxHeartbeats 4000000
def tw_peace (p1 : Int32) (p2 : Int32) (S : TS) : Option (Int32 × TS) :=
be (tsI S 0 2 0) fun S_1 =>
bd (tw_isIn p1 0 3 S_1) fun r_3 =>
if r_3 = 0 then (
some ((-1), S_1))
else (
bd (tw_isIn p2 0 3 S_1) fun r_6 =>
if r_6 = 0 then (
some ((-1), S_1))
else (
if p1 = p2 then (
some ((-1), S_1))
else (
bd (tw_isOf (tI S_1 38 (Int32.toNatClampNeg 0)) ((4 * p1) + p2) S_1) fun r_10 =>
bd (if r_10 = 0 then (
some 0)
else (
bd (tw_isOf (tI S_1 39 (Int32.toNatClampNeg 0)) ((4 * p1) + p2) S_1) fun r_16 =>
if r_16 = 0 then (
some 1)
else (
some 0)) : Option (Int32)) fun (t_11 : Int32) =>
some (t_11, S_1))))
def rm_tw_peace : Room := { frames := 1, cells := 0, slots := 0, locals := 22 }
theorem ok_tw_peace {E : En} (hE : EOk E) {o : Nat} {M0 : Mem} (hM : TwS o M0) {p1 : Int32} {p2 : Int32} {S : TS} {r : Int32} {S' : TS} (h : tw_peace p1 p2 S = some (r, S')) : CM E yX7_peace cX7_peace 3 (some .int) rm_tw_peace [rf E o, .int p1, .int p2] (tw o S M0) (some (.int r)) (tw o S' M0) := by
  unfold tw_peace at h
  refine CM_intro (own := RX7) rfl (by decide) (Nat.le_of_ble_eq_true rfl) rfl (fun G hG => ?_)
  obtain ⟨Q, eQ⟩ : ∃ Q, Q = QM E G (some (.int r)) (tw o S' M0) 0 0 := ⟨_, rfl⟩
  show V E G (tw o S M0) 0 0 3 0 [(0, rf E o), (1, .int p1), (2, .int p2)] [] (QM E G (some (.int r)) (tw o S' M0) 0 0)
  rw [← eQ]
  refine V_aload_n hG 0 rfl dX7_peace_0 ?_
  refine V_iconst hG 0 rfl dX7_peace_1 ?_
  obtain ⟨S_1, eS_1, h⟩ := be_of h
  refine p7_160 hM hG eS_1 dX7_peace_2 ?_
  refine V_iload_n hG 1 rfl dX7_peace_5 ?_
  refine V_iconst hG 0 rfl dX7_peace_6 ?_
  refine V_iconst hG 3 rfl dX7_peace_7 ?_
  obtain ⟨r_3, hc_2, h⟩ := bd_of h
  refine V_callS0 hE hG (As := [.int p1, .int 0, .int 3]) (rest := []) (ok_tw_isIn hE hM hc_2) hw7_205 hd_tw_isIn ⟨Nat.le_of_ble_eq_true rfl, Nat.le_of_ble_eq_true rfl⟩ rfl rfl (Nat.le_of_ble_eq_true rfl) rfl rfl dX7_peace_8 ?_
  refine V_if_eq hG 28 dX7_peace_11 (by decide) (fun c_4 => ?_) (fun c_4 => ?_)
  · have h := if_t c_4 h
    refine V_iconst hG (-1) rfl dX7_peace_28 ?_
    cases h
    subst eQ
    exact V_iret hG dX7_peace_29
  · have h := if_f c_4 h
    refine V_iload_n hG 2 rfl dX7_peace_14 ?_
    refine V_iconst hG 0 rfl dX7_peace_15 ?_
    refine V_iconst hG 3 rfl dX7_peace_16 ?_
    obtain ⟨r_6, hc_5, h⟩ := bd_of h
    refine V_callS0 hE hG (As := [.int p2, .int 0, .int 3]) (rest := []) (ok_tw_isIn hE hM hc_5) hw7_205 hd_tw_isIn ⟨Nat.le_of_ble_eq_true rfl, Nat.le_of_ble_eq_true rfl⟩ rfl rfl (Nat.le_of_ble_eq_true rfl) rfl rfl dX7_peace_17 ?_
    refine V_if_eq hG 28 dX7_peace_20 (by decide) (fun c_7 => ?_) (fun c_7 => ?_)
    · have h := if_t c_7 h
      refine V_iconst hG (-1) rfl dX7_peace_28 ?_
      cases h
      subst eQ
      exact V_iret hG dX7_peace_29
    · have h := if_f c_7 h
      refine V_iload_n hG 1 rfl dX7_peace_23 ?_
      refine V_iload_n hG 2 rfl dX7_peace_24 ?_
      refine V_icmp_ne hG 30 dX7_peace_25 (by decide) (fun c_8 => ?_) (fun c_8 => ?_)
      · have h := if_f c_8 h
        refine V_aload_n hG 0 rfl dX7_peace_30 ?_
        refine g7_127 hM hG dX7_peace_31 ?_
        refine V_iconst hG 0 rfl dX7_peace_34 ?_
        refine T_iaload hM hG (by decide) (by decide) dX7_peace_35 ?_
        refine V_iconst hG 4 rfl dX7_peace_36 ?_
        refine V_iload_n hG 1 rfl dX7_peace_37 ?_
        refine V_imul hG dX7_peace_38 ?_
        refine V_iload_n hG 2 rfl dX7_peace_39 ?_
        refine V_iadd hG dX7_peace_40 ?_
        obtain ⟨r_10, hc_9, h⟩ := bd_of h
        refine V_callS0 hE hG (As := [.int (tI S_1 38 (Int32.toNatClampNeg 0)), .int ((4 * p1) + p2)]) (rest := []) (ok_tw_isOf hE hM hc_9) hw7_488 hd_tw_isOf ⟨Nat.le_of_ble_eq_true rfl, Nat.le_of_ble_eq_true rfl⟩ rfl rfl (Nat.le_of_ble_eq_true rfl) rfl rfl dX7_peace_41 ?_
        obtain ⟨t_11, hj_13, h⟩ := bd_of h
        have J_12 : V E G (tw o S_1 M0) 0 0 3 69 [(0, rf E o), (1, .int p1), (2, .int p2)] [.int t_11] Q := by
          cases h
          subst eQ
          exact V_iret hG dX7_peace_69
        refine V_if_eq hG 68 dX7_peace_44 (by decide) (fun c_14 => ?_) (fun c_14 => ?_)
        · have hj_13 := if_t c_14 hj_13
          refine V_iconst hG 0 rfl dX7_peace_68 ?_
          cases hj_13
          exact J_12
        · have hj_13 := if_f c_14 hj_13
          refine V_aload_n hG 0 rfl dX7_peace_47 ?_
          refine g7_130 hM hG dX7_peace_48 ?_
          refine V_iconst hG 0 rfl dX7_peace_51 ?_
          refine T_iaload hM hG (by decide) (by decide) dX7_peace_52 ?_
          refine V_iconst hG 4 rfl dX7_peace_53 ?_
          refine V_iload_n hG 1 rfl dX7_peace_54 ?_
          refine V_imul hG dX7_peace_55 ?_
          refine V_iload_n hG 2 rfl dX7_peace_56 ?_
          refine V_iadd hG dX7_peace_57 ?_
          obtain ⟨r_16, hc_15, hj_13⟩ := bd_of hj_13
          refine V_callS0 hE hG (As := [.int (tI S_1 39 (Int32.toNatClampNeg 0)), .int ((4 * p1) + p2)]) (rest := []) (ok_tw_isOf hE hM hc_15) hw7_488 hd_tw_isOf ⟨Nat.le_of_ble_eq_true rfl, Nat.le_of_ble_eq_true rfl⟩ rfl rfl (Nat.le_of_ble_eq_true rfl) rfl rfl dX7_peace_58 ?_
          refine V_if_ne hG 68 dX7_peace_61 (by decide) (fun c_17 => ?_) (fun c_17 => ?_)
          · have hj_13 := if_f c_17 hj_13
            refine V_iconst hG 0 rfl dX7_peace_68 ?_
            cases hj_13
            exact J_12
          · have hj_13 := if_t c_17 hj_13
            refine V_iconst hG 1 rfl dX7_peace_64 ?_
            refine V_goto hG 69 dX7_peace_65 (by decide) ?_
            cases hj_13
            exact J_12
      · have h := if_t c_8 h
        refine V_iconst hG (-1) rfl dX7_peace_28 ?_
        cases h
        subst eQ
        exact V_iret hG dX7_peace_29

def tw_plain_b2 (N : Nat) (x1_24 : Int32) (S_25 : TS) : Option ((Int32 × TS) ⊕ (Int32 × TS)) :=
if 6 ≤ x1_24 then (
some (.inl (x1_24, S_25)))
else (
gd (inb x1_24 (lenA 17)) (
be (tsI S_25 17 (Int32.toNatClampNeg x1_24) 0) fun S_33 =>
be (x1_24 + 1) fun (x1_34 : Int32) =>
some (.inr (x1_34, S_33))))
def tw_plain_b1 (N : Nat) (x1_13 : Int32) (S_14 : TS) : Option ((Int32 × TS) ⊕ (Int32 × TS)) :=
if 2 ≤ x1_13 then (
some (.inl (x1_13, S_14)))
else (
gd (inb x1_13 (lenA 3)) (
be (tsI S_14 3 (Int32.toNatClampNeg x1_13) 0) fun S_38 =>
gd (inb (2 + x1_13) (lenA 4)) (
be (tsI S_38 4 (Int32.toNatClampNeg (2 + x1_13)) 0) fun S_40 =>
be (x1_13 + 1) fun (x1_41 : Int32) =>
some (.inr (x1_41, S_40)))))
def tw_plain (N : Nat)  (S : TS) : Option (TS) :=
be (tsI S 0 17 0) fun S_1 =>
be (tsI S_1 0 18 0) fun S_2 =>
be (tsI S_2 0 19 0) fun S_3 =>
be (tsI S_3 0 20 20) fun S_4 =>
be (tsI S_4 0 21 0) fun S_5 =>
be (tsI S_5 0 22 0) fun S_6 =>
be (tsI S_6 0 48 0) fun S_7 =>
bd2 (lp N (fun s_35 : Int32 × TS => tw_plain_b1 N s_35.1 s_35.2) (0, S_7)) fun (x1_15 : Int32) (S_16 : TS) =>
bd2 (lp N (fun s_30 : Int32 × TS => tw_plain_b2 N s_30.1 s_30.2) (3, S_16)) fun (x1_26 : Int32) (S_27 : TS) =>
some S_27
def rm_tw_plain : Room := { frames := 0, cells := 0, slots := 0, locals := 0 }
theorem ok_tw_plain {E : En} (hE : EOk E) {o : Nat} {M0 : Mem} (hM : TwS o M0) {N : Nat}  {S : TS}  {S' : TS} (h : tw_plain N  S = some S') : CM E yX7_plain cX7_plain 2 none rm_tw_plain [rf E o] (tw o S M0) none (tw o S' M0) := by
  unfold tw_plain at h
  refine CM_intro (own := RX7) rfl (by decide) (Nat.le_of_ble_eq_true rfl) rfl (fun G hG => ?_)
  obtain ⟨Q, eQ⟩ : ∃ Q, Q = QM E G none (tw o S' M0) 0 0 := ⟨_, rfl⟩
  show V E G (tw o S M0) 0 0 2 0 [(0, rf E o)] [] (QM E G none (tw o S' M0) 0 0)
  rw [← eQ]
  refine V_aload_n hG 0 rfl dX7_plain_0 ?_
  refine V_iconst hG 0 rfl dX7_plain_1 ?_
  obtain ⟨S_1, eS_1, h⟩ := be_of h
  refine p7_222 hM hG eS_1 dX7_plain_2 ?_
  refine V_aload_n hG 0 rfl dX7_plain_5 ?_
  refine V_iconst hG 0 rfl dX7_plain_6 ?_
  obtain ⟨S_2, eS_2, h⟩ := be_of h
  refine p7_225 hM hG eS_2 dX7_plain_7 ?_
  refine V_aload_n hG 0 rfl dX7_plain_10 ?_
  refine V_iconst hG 0 rfl dX7_plain_11 ?_
  obtain ⟨S_3, eS_3, h⟩ := be_of h
  refine p7_228 hM hG eS_3 dX7_plain_12 ?_
  refine V_aload_n hG 0 rfl dX7_plain_15 ?_
  refine V_bipush hG 20 (by decide) dX7_plain_16 ?_
  obtain ⟨S_4, eS_4, h⟩ := be_of h
  refine p7_231 hM hG eS_4 dX7_plain_18 ?_
  refine V_aload_n hG 0 rfl dX7_plain_21 ?_
  refine V_iconst hG 0 rfl dX7_plain_22 ?_
  obtain ⟨S_5, eS_5, h⟩ := be_of h
  refine p7_234 hM hG eS_5 dX7_plain_23 ?_
  refine V_aload_n hG 0 rfl dX7_plain_26 ?_
  refine V_iconst hG 0 rfl dX7_plain_27 ?_
  obtain ⟨S_6, eS_6, h⟩ := be_of h
  refine p7_237 hM hG eS_6 dX7_plain_28 ?_
  refine V_aload_n hG 0 rfl dX7_plain_31 ?_
  refine V_iconst hG 0 rfl dX7_plain_32 ?_
  obtain ⟨S_7, eS_7, h⟩ := be_of h
  refine p7_240 hM hG eS_7 dX7_plain_33 ?_
  refine V_iconst hG 0 rfl dX7_plain_36 ?_
  refine V_istore_n hG rfl [(1, .int 0), (0, rf E o)] dX7_plain_37 (Nat.le_of_ble_eq_true rfl) rfl ?_
  obtain ⟨x1_15, S_16, hL_17, h⟩ := bd2_of h
  have J_12 : ∀ q_18 : Int32 × TS, q_18 = (x1_15, S_16) → V E G (tw o q_18.2 M0) 0 0 2 65 [(1, .int q_18.1), (0, rf E o)] [] Q := by
    intro q_18 e9
    subst q_18
    show V E G (tw o S_16 M0) 0 0 2 65 [(1, .int x1_15), (0, rf E o)] [] Q
    refine V_iconst hG 3 rfl dX7_plain_65 ?_
    refine V_istore_n hG rfl [(1, .int 3), (0, rf E o)] dX7_plain_66 (Nat.le_of_ble_eq_true rfl) rfl ?_
    obtain ⟨x1_26, S_27, hL_28, h⟩ := bd2_of h
    have J_23 : ∀ q_29 : Int32 × TS, q_29 = (x1_26, S_27) → V E G (tw o q_29.2 M0) 0 0 2 86 [(1, .int q_29.1), (0, rf E o)] [] Q := by
      intro q_29 e9
      subst q_29
      show V E G (tw o S_27 M0) 0 0 2 86 [(1, .int x1_26), (0, rf E o)] [] Q
      cases h
      subst eQ
      exact V_vret hG dX7_plain_86
    refine lp_walk (W := fun s_30 : Int32 × TS => V E G (tw o s_30.2 M0) 0 0 2 67 [(1, .int s_30.1), (0, rf E o)] [] Q) ?_ N (3, S_16) hL_28
    intro s_30 b_19 hb_20 hk_21 hx_22
    obtain ⟨x1_24, S_25⟩ := s_30
    have hb_20 : tw_plain_b2 N x1_24 S_25 = some b_19 := hb_20
    unfold tw_plain_b2 at hb_20
    show V E G (tw o S_25 M0) 0 0 2 67 [(1, .int x1_24), (0, rf E o)] [] Q
    refine V_iload_n hG 0 rfl dX7_plain_67 ?_
    refine V_bipush hG 6 (by decide) dX7_plain_68 ?_
    refine V_icmp_ge hG 86 dX7_plain_70 (by decide) (fun c_31 => ?_) (fun c_31 => ?_)
    · have hb_20 := if_t c_31 hb_20
      cases hb_20
      exact J_23 _ (hx_22 _ rfl)
    · have hb_20 := if_f c_31 hb_20
      refine V_aload_n hG 1 rfl dX7_plain_73 ?_
      refine g7_63 hM hG dX7_plain_74 ?_
      refine V_iload_n hG 0 rfl dX7_plain_77 ?_
      refine V_iconst hG 0 rfl dX7_plain_78 ?_
      obtain ⟨g_32, hb_20⟩ := gd_of hb_20
      obtain ⟨S_33, eS_33, hb_20⟩ := be_of hb_20
      refine T_zastore hM hG eS_33 (Or.inl rfl) (by decide) g_32 dX7_plain_79 ?_
      obtain ⟨x1_34, ex1_34, hb_20⟩ := be_of hb_20
      refine V_iinc hG 0 x1_34 rfl (by rw [ex1_34]; rfl) [(1, .int x1_34), (0, rf E o)] dX7_plain_80 (Nat.le_of_ble_eq_true rfl) rfl ?_
      refine V_goto hG 67 dX7_plain_83 (by decide) ?_
      cases hb_20
      exact hk_21 _ rfl
  refine lp_walk (W := fun s_35 : Int32 × TS => V E G (tw o s_35.2 M0) 0 0 2 38 [(1, .int s_35.1), (0, rf E o)] [] Q) ?_ N (0, S_7) hL_17
  intro s_35 b_8 hb_9 hk_10 hx_11
  obtain ⟨x1_13, S_14⟩ := s_35
  have hb_9 : tw_plain_b1 N x1_13 S_14 = some b_8 := hb_9
  unfold tw_plain_b1 at hb_9
  show V E G (tw o S_14 M0) 0 0 2 38 [(1, .int x1_13), (0, rf E o)] [] Q
  refine V_iload_n hG 0 rfl dX7_plain_38 ?_
  refine V_iconst hG 2 rfl dX7_plain_39 ?_
  refine V_icmp_ge hG 65 dX7_plain_40 (by decide) (fun c_36 => ?_) (fun c_36 => ?_)
  · have hb_9 := if_t c_36 hb_9
    cases hb_9
    exact J_12 _ (hx_11 _ rfl)
  · have hb_9 := if_f c_36 hb_9
    refine V_aload_n hG 1 rfl dX7_plain_43 ?_
    refine g7_20 hM hG dX7_plain_44 ?_
    refine V_iload_n hG 0 rfl dX7_plain_47 ?_
    refine V_iconst hG 0 rfl dX7_plain_48 ?_
    obtain ⟨g_37, hb_9⟩ := gd_of hb_9
    obtain ⟨S_38, eS_38, hb_9⟩ := be_of hb_9
    refine T_zastore hM hG eS_38 (Or.inl rfl) (by decide) g_37 dX7_plain_49 ?_
    refine V_aload_n hG 1 rfl dX7_plain_50 ?_
    refine g7_24 hM hG dX7_plain_51 ?_
    refine V_iconst hG 2 rfl dX7_plain_54 ?_
    refine V_iload_n hG 0 rfl dX7_plain_55 ?_
    refine V_iadd hG dX7_plain_56 ?_
    refine V_iconst hG 0 rfl dX7_plain_57 ?_
    obtain ⟨g_39, hb_9⟩ := gd_of hb_9
    obtain ⟨S_40, eS_40, hb_9⟩ := be_of hb_9
    refine T_iastore hM hG eS_40 (by decide) g_39 dX7_plain_58 ?_
    obtain ⟨x1_41, ex1_41, hb_9⟩ := be_of hb_9
    refine V_iinc hG 0 x1_41 rfl (by rw [ex1_41]; rfl) [(1, .int x1_41), (0, rf E o)] dX7_plain_59 (Nat.le_of_ble_eq_true rfl) rfl ?_
    refine V_goto hG 38 dX7_plain_62 (by decide) ?_
    cases hb_9
    exact hk_10 _ rfl

def tw_pump_b2 (N : Nat) (x3_10 : Int32) (x2_11 : Int32) (p1 : Int32) (x4_33 : Int32) (S_34 : TS) : Option ((Int32 × TS) ⊕ (Int32 × TS)) :=
if tI S_34 0 12 ≤ x4_33 then (
some (.inl (x4_33, S_34)))
else (
bd (tw_isOf x3_10 x4_33 S_34) fun r_49 =>
bd (if r_49 = 0 then (
gd (inb x4_33 (lenA 33)) (
some (tI S_34 33 (Int32.toNatClampNeg x4_33))))
else (
some 99) : Option (Int32)) fun (t_50 : Int32) =>
gd (inb (6 + x4_33) (lenA 33)) (
be (tsI S_34 33 (Int32.toNatClampNeg (6 + x4_33)) t_50) fun S_54 =>
be (x4_33 + 1) fun (x4_55 : Int32) =>
some (.inr (x4_55, S_54))))
def tw_pump_b3 (N : Nat) (x3_10 : Int32) (x2_11 : Int32) (p1 : Int32) (x4_70 : Int32) (S_71 : TS) : Option ((Int32 × TS) ⊕ (Int32 × TS)) :=
if tI S_71 0 12 ≤ x4_70 then (
some (.inl (x4_70, S_71)))
else (
bd (tw_isOf x3_10 x4_70 S_71) fun r_86 =>
bd (if r_86 = 0 then (
gd (inb x4_70 (lenA 33)) (
some (tI S_71 33 (Int32.toNatClampNeg x4_70))))
else (
some 99) : Option (Int32)) fun (t_87 : Int32) =>
gd (inb (6 + x4_70) (lenA 33)) (
be (tsI S_71 33 (Int32.toNatClampNeg (6 + x4_70)) t_87) fun S_91 =>
be (x4_70 + 1) fun (x4_92 : Int32) =>
some (.inr (x4_92, S_91))))
def tw_pump_b1 (N : Nat) (p1 : Int32) (x3_10 : Int32) (x2_11 : Int32) (S_12 : TS) : Option ((Int32 × Int32 × TS) ⊕ (Int32 × Int32 × TS)) :=
if 1 <<< ((tI S_12 0 12) &&& 31) ≤ x3_10 then (
some (.inl (x3_10, x2_11, S_12)))
else (
bd2 (if x2_11 < 0 then (
bd (tw_layTried N S_12) fun S_27 =>
bd2 (lp N (fun s_46 : Int32 × TS => tw_pump_b2 N x3_10 x2_11 p1 s_46.1 s_46.2) (0, S_27)) fun (x4_35 : Int32) (S_36 : TS) =>
bd (tw_goMany N p1 S_36) fun S_40 =>
bd (tw_onMany N 1 S_40) fun r_42 =>
bd (tw_onMany N 0 S_40) fun r_44 =>
if r_42 = r_44 then (
some (x3_10, S_40))
else (
some (x2_11, S_40)))
else (
bd (tw_manyOf N x3_10 S_12) fun r_59 =>
bd (tw_manyOf N x2_11 S_12) fun r_61 =>
if r_59 < r_61 then (
bd (tw_layTried N S_12) fun S_64 =>
bd2 (lp N (fun s_83 : Int32 × TS => tw_pump_b3 N x3_10 x2_11 p1 s_83.1 s_83.2) (0, S_64)) fun (x4_72 : Int32) (S_73 : TS) =>
bd (tw_goMany N p1 S_73) fun S_77 =>
bd (tw_onMany N 1 S_77) fun r_79 =>
bd (tw_onMany N 0 S_77) fun r_81 =>
if r_79 = r_81 then (
some (x3_10, S_77))
else (
some (x2_11, S_77)))
else (
some (x2_11, S_12))) : Option (Int32 × TS)) fun (x2_20 : Int32) (S_21 : TS) =>
be (x3_10 + 1) fun (x3_24 : Int32) =>
some (.inr (x3_24, x2_20, S_21)))
def tw_pump (N : Nat) (p1 : Int32) (S : TS) : Option (Int32 × TS) :=
be (tsI S 0 2 0) fun S_1 =>
bd (tw_isIn p1 1 60 S_1) fun r_3 =>
if r_3 = 0 then (
some ((-1), S_1))
else (
bd3 (lp N (fun s_18 : Int32 × Int32 × TS => tw_pump_b1 N p1 s_18.1 s_18.2.1 s_18.2.2) (0, (-2), S_1)) fun (x3_13 : Int32) (x2_14 : Int32) (S_15 : TS) =>
some (x2_14, S_15))
def rm_tw_pump : Room := { frames := 7, cells := 0, slots := 0, locals := 169 }
theorem ok_tw_pump {E : En} (hE : EOk E) {o : Nat} {M0 : Mem} (hM : TwS o M0) {N : Nat} {p1 : Int32} {S : TS} {r : Int32} {S' : TS} (h : tw_pump N p1 S = some (r, S')) : CM E yX7_pump cX7_pump 5 (some .int) rm_tw_pump [rf E o, .int p1] (tw o S M0) (some (.int r)) (tw o S' M0) := by
  unfold tw_pump at h
  refine CM_intro (own := RX7) rfl (by decide) (Nat.le_of_ble_eq_true rfl) rfl (fun G hG => ?_)
  obtain ⟨Q, eQ⟩ : ∃ Q, Q = QM E G (some (.int r)) (tw o S' M0) 0 0 := ⟨_, rfl⟩
  show V E G (tw o S M0) 0 0 5 0 [(0, rf E o), (1, .int p1)] [] (QM E G (some (.int r)) (tw o S' M0) 0 0)
  rw [← eQ]
  refine V_aload_n hG 0 rfl dX7_pump_0 ?_
  refine V_iconst hG 0 rfl dX7_pump_1 ?_
  obtain ⟨S_1, eS_1, h⟩ := be_of h
  refine p7_160 hM hG eS_1 dX7_pump_2 ?_
  refine V_iload_n hG 1 rfl dX7_pump_5 ?_
  refine V_iconst hG 1 rfl dX7_pump_6 ?_
  refine V_bipush hG 60 (by decide) dX7_pump_7 ?_
  obtain ⟨r_3, hc_2, h⟩ := bd_of h
  refine V_callS0 hE hG (As := [.int p1, .int 1, .int 60]) (rest := []) (ok_tw_isIn hE hM hc_2) hw7_205 hd_tw_isIn ⟨Nat.le_of_ble_eq_true rfl, Nat.le_of_ble_eq_true rfl⟩ rfl rfl (Nat.le_of_ble_eq_true rfl) rfl rfl dX7_pump_9 ?_
  refine V_if_ne hG 17 dX7_pump_12 (by decide) (fun c_4 => ?_) (fun c_4 => ?_)
  · have h := if_f c_4 h
    refine V_bipush hG (-2) (by decide) dX7_pump_17 ?_
    refine V_istore_n hG rfl [(2, .int (-2)), (0, rf E o), (1, .int p1)] dX7_pump_19 (Nat.le_of_ble_eq_true rfl) rfl ?_
    refine V_iconst hG 0 rfl dX7_pump_20 ?_
    refine V_istore_n hG rfl [(3, .int 0), (2, .int (-2)), (0, rf E o), (1, .int p1)] dX7_pump_21 (Nat.le_of_ble_eq_true rfl) rfl ?_
    obtain ⟨x3_13, x2_14, S_15, hL_16, h⟩ := bd3_of h
    have J_9 : ∀ q_17 : Int32 × Int32 × TS, q_17 = (x3_13, x2_14, S_15) → V E G (tw o q_17.2.2 M0) 0 0 5 129 [(3, .int q_17.1), (2, .int q_17.2.1), (0, rf E o), (1, .int p1)] [] Q := by
      intro q_17 e9
      subst q_17
      show V E G (tw o S_15 M0) 0 0 5 129 [(3, .int x3_13), (2, .int x2_14), (0, rf E o), (1, .int p1)] [] Q
      refine V_iload_n hG 1 rfl dX7_pump_129 ?_
      cases h
      subst eQ
      exact V_iret hG dX7_pump_130
    refine lp_walk (W := fun s_18 : Int32 × Int32 × TS => V E G (tw o s_18.2.2 M0) 0 0 5 22 [(3, .int s_18.1), (2, .int s_18.2.1), (0, rf E o), (1, .int p1)] [] Q) ?_ N (0, (-2), S_1) hL_16
    intro s_18 b_5 hb_6 hk_7 hx_8
    obtain ⟨x3_10, x2_11, S_12⟩ := s_18
    have hb_6 : tw_pump_b1 N p1 x3_10 x2_11 S_12 = some b_5 := hb_6
    unfold tw_pump_b1 at hb_6
    show V E G (tw o S_12 M0) 0 0 5 22 [(3, .int x3_10), (2, .int x2_11), (0, rf E o), (1, .int p1)] [] Q
    refine V_iload_n hG 0 rfl dX7_pump_22 ?_
    refine V_iconst hG 1 rfl dX7_pump_23 ?_
    refine V_aload_n hG 2 rfl dX7_pump_24 ?_
    refine g7_243 hM hG dX7_pump_25 ?_
    refine V_ishl hG dX7_pump_28 ?_
    refine V_icmp_ge hG 129 dX7_pump_29 (by decide) (fun c_19 => ?_) (fun c_19 => ?_)
    · have hb_6 := if_t c_19 hb_6
      cases hb_6
      exact J_9 _ (hx_8 _ rfl)
    · have hb_6 := if_f c_19 hb_6
      refine V_iload_n hG 1 rfl dX7_pump_32 ?_
      obtain ⟨x2_20, S_21, hj_23, hb_6⟩ := bd2_of hb_6
      have J_22 : V E G (tw o S_21 M0) 0 0 5 123 [(3, .int x3_10), (2, .int x2_20), (0, rf E o), (1, .int p1)] [] Q := by
        obtain ⟨x3_24, ex3_24, hb_6⟩ := be_of hb_6
        refine V_iinc hG 0 x3_24 rfl (by rw [ex3_24]; rfl) [(3, .int x3_24), (2, .int x2_20), (0, rf E o), (1, .int p1)] dX7_pump_123 (Nat.le_of_ble_eq_true rfl) rfl ?_
        refine V_goto hG 22 dX7_pump_126 (by decide) ?_
        cases hb_6
        exact hk_7 _ rfl
      refine V_if_lt hG 50 dX7_pump_33 (by decide) (fun c_25 => ?_) (fun c_25 => ?_)
      · have hj_23 := if_t c_25 hj_23
        refine V_aload_n hG 2 rfl dX7_pump_50 ?_
        obtain ⟨S_27, hc_26, hj_23⟩ := bd_of hj_23
        refine V_callV0 hE hG (As := []) (rest := []) (ok_tw_layTried hE hM hc_26) hM.1 (by decide) rfl hw7_473 hd_tw_layTried ⟨Nat.le_of_ble_eq_true rfl, Nat.le_of_ble_eq_true rfl⟩ rfl rfl (Nat.le_of_ble_eq_true rfl) rfl rfl dX7_pump_51 ?_
        refine V_iconst hG 0 rfl dX7_pump_54 ?_
        refine V_istore hG [(4, .int 0), (3, .int x3_10), (2, .int x2_11), (0, rf E o), (1, .int p1)] dX7_pump_55 (Nat.le_of_ble_eq_true rfl) rfl ?_
        obtain ⟨x4_35, S_36, hL_37, hj_23⟩ := bd2_of hj_23
        have J_32 : ∀ q_38 : Int32 × TS, q_38 = (x4_35, S_36) → V E G (tw o q_38.2 M0) 0 0 5 103 [(4, .int q_38.1), (3, .int x3_10), (2, .int x2_11), (0, rf E o), (1, .int p1)] [] Q := by
          intro q_38 e9
          subst q_38
          show V E G (tw o S_36 M0) 0 0 5 103 [(4, .int x4_35), (3, .int x3_10), (2, .int x2_11), (0, rf E o), (1, .int p1)] [] Q
          refine V_aload_n hG 3 rfl dX7_pump_103 ?_
          refine V_iload_n hG 4 rfl dX7_pump_104 ?_
          obtain ⟨S_40, hc_39, hj_23⟩ := bd_of hj_23
          refine V_callV0 hE hG (As := [.int p1]) (rest := []) (ok_tw_goMany hE hM hc_39) hM.1 (by decide) rfl hw7_476 hd_tw_goMany ⟨Nat.le_of_ble_eq_true rfl, Nat.le_of_ble_eq_true rfl⟩ rfl rfl (Nat.le_of_ble_eq_true rfl) rfl rfl dX7_pump_105 ?_
          refine V_aload_n hG 3 rfl dX7_pump_108 ?_
          refine V_iconst hG 1 rfl dX7_pump_109 ?_
          obtain ⟨r_42, hc_41, hj_23⟩ := bd_of hj_23
          refine V_callV0 hE hG (As := [.int 1]) (rest := []) (ok_tw_onMany hE hM hc_41) hM.1 (by decide) rfl hw7_479 hd_tw_onMany ⟨Nat.le_of_ble_eq_true rfl, Nat.le_of_ble_eq_true rfl⟩ rfl rfl (Nat.le_of_ble_eq_true rfl) rfl rfl dX7_pump_110 ?_
          refine V_aload_n hG 3 rfl dX7_pump_113 ?_
          refine V_iconst hG 0 rfl dX7_pump_114 ?_
          obtain ⟨r_44, hc_43, hj_23⟩ := bd_of hj_23
          refine V_callV0 hE hG (As := [.int 0]) (rest := [.int r_42]) (ok_tw_onMany hE hM hc_43) hM.1 (by decide) rfl hw7_479 hd_tw_onMany ⟨Nat.le_of_ble_eq_true rfl, Nat.le_of_ble_eq_true rfl⟩ rfl rfl (Nat.le_of_ble_eq_true rfl) rfl rfl dX7_pump_115 ?_
          refine V_icmp_ne hG 123 dX7_pump_118 (by decide) (fun c_45 => ?_) (fun c_45 => ?_)
          · have hj_23 := if_f c_45 hj_23
            cases hj_23
            exact V_lv [1, 2, 3, 4] rfl (J_22)
          · have hj_23 := if_t c_45 hj_23
            refine V_iload_n hG 1 rfl dX7_pump_121 ?_
            refine V_istore_n hG rfl [(2, .int x3_10), (4, .int x4_35), (3, .int x3_10), (0, rf E o), (1, .int p1)] dX7_pump_122 (Nat.le_of_ble_eq_true rfl) rfl ?_
            cases hj_23
            exact V_lv [2, 0, 3, 4] rfl (J_22)
        refine lp_walk (W := fun s_46 : Int32 × TS => V E G (tw o s_46.2 M0) 0 0 5 57 [(4, .int s_46.1), (3, .int x3_10), (2, .int x2_11), (0, rf E o), (1, .int p1)] [] Q) ?_ N (0, S_27) hL_37
        intro s_46 b_28 hb_29 hk_30 hx_31
        obtain ⟨x4_33, S_34⟩ := s_46
        have hb_29 : tw_pump_b2 N x3_10 x2_11 p1 x4_33 S_34 = some b_28 := hb_29
        unfold tw_pump_b2 at hb_29
        show V E G (tw o S_34 M0) 0 0 5 57 [(4, .int x4_33), (3, .int x3_10), (2, .int x2_11), (0, rf E o), (1, .int p1)] [] Q
        refine V_iload hG 0 rfl dX7_pump_57 ?_
        refine V_aload_n hG 3 rfl dX7_pump_59 ?_
        refine g7_243 hM hG dX7_pump_60 ?_
        refine V_icmp_ge hG 103 dX7_pump_63 (by decide) (fun c_47 => ?_) (fun c_47 => ?_)
        · have hb_29 := if_t c_47 hb_29
          cases hb_29
          exact J_32 _ (hx_31 _ rfl)
        · have hb_29 := if_f c_47 hb_29
          refine V_aload_n hG 3 rfl dX7_pump_66 ?_
          refine g7_112 hM hG dX7_pump_67 ?_
          refine V_bipush hG 6 (by decide) dX7_pump_70 ?_
          refine V_iload hG 0 rfl dX7_pump_72 ?_
          refine V_iadd hG dX7_pump_74 ?_
          refine V_iload_n hG 1 rfl dX7_pump_75 ?_
          refine V_iload hG 0 rfl dX7_pump_76 ?_
          obtain ⟨r_49, hc_48, hb_29⟩ := bd_of hb_29
          refine V_callS0 hE hG (As := [.int x3_10, .int x4_33]) (rest := [.int (6 + x4_33), rf E ((o + 33))]) (ok_tw_isOf hE hM hc_48) hw7_488 hd_tw_isOf ⟨Nat.le_of_ble_eq_true rfl, Nat.le_of_ble_eq_true rfl⟩ rfl rfl (Nat.le_of_ble_eq_true rfl) rfl rfl dX7_pump_78 ?_
          obtain ⟨t_50, hj_52, hb_29⟩ := bd_of hb_29
          have J_51 : V E G (tw o S_34 M0) 0 0 5 96 [(4, .int x4_33), (3, .int x3_10), (2, .int x2_11), (0, rf E o), (1, .int p1)] [.int t_50, .int (6 + x4_33), rf E ((o + 33))] Q := by
            obtain ⟨g_53, hb_29⟩ := gd_of hb_29
            obtain ⟨S_54, eS_54, hb_29⟩ := be_of hb_29
            refine T_iastore hM hG eS_54 (by decide) g_53 dX7_pump_96 ?_
            obtain ⟨x4_55, ex4_55, hb_29⟩ := be_of hb_29
            refine V_iinc hG 0 x4_55 rfl (by rw [ex4_55]; rfl) [(4, .int x4_55), (3, .int x3_10), (2, .int x2_11), (0, rf E o), (1, .int p1)] dX7_pump_97 (Nat.le_of_ble_eq_true rfl) rfl ?_
            refine V_goto hG 57 dX7_pump_100 (by decide) ?_
            cases hb_29
            exact hk_30 _ rfl
          refine V_if_eq hG 89 dX7_pump_81 (by decide) (fun c_56 => ?_) (fun c_56 => ?_)
          · have hj_52 := if_t c_56 hj_52
            refine V_aload_n hG 3 rfl dX7_pump_89 ?_
            refine g7_112 hM hG dX7_pump_90 ?_
            refine V_iload hG 0 rfl dX7_pump_93 ?_
            obtain ⟨g_57, hj_52⟩ := gd_of hj_52
            refine T_iaload hM hG (by decide) g_57 dX7_pump_95 ?_
            cases hj_52
            exact J_51
          · have hj_52 := if_f c_56 hj_52
            refine V_bipush hG 99 (by decide) dX7_pump_84 ?_
            refine V_goto hG 96 dX7_pump_86 (by decide) ?_
            cases hj_52
            exact J_51
      · have hj_23 := if_f c_25 hj_23
        refine V_iload_n hG 0 rfl dX7_pump_36 ?_
        obtain ⟨r_59, hc_58, hj_23⟩ := bd_of hj_23
        refine V_callS0 hE hG (As := [.int x3_10]) (rest := []) (ok_tw_manyOf hE hM hc_58) hw7_485 hd_tw_manyOf ⟨Nat.le_of_ble_eq_true rfl, Nat.le_of_ble_eq_true rfl⟩ rfl rfl (Nat.le_of_ble_eq_true rfl) rfl rfl dX7_pump_37 ?_
        refine V_iload_n hG 1 rfl dX7_pump_40 ?_
        obtain ⟨r_61, hc_60, hj_23⟩ := bd_of hj_23
        refine V_callS0 hE hG (As := [.int x2_11]) (rest := [.int r_59]) (ok_tw_manyOf hE hM hc_60) hw7_485 hd_tw_manyOf ⟨Nat.le_of_ble_eq_true rfl, Nat.le_of_ble_eq_true rfl⟩ rfl rfl (Nat.le_of_ble_eq_true rfl) rfl rfl dX7_pump_41 ?_
        refine V_icmp_lt hG 50 dX7_pump_44 (by decide) (fun c_62 => ?_) (fun c_62 => ?_)
        · have hj_23 := if_t c_62 hj_23
          refine V_aload_n hG 2 rfl dX7_pump_50 ?_
          obtain ⟨S_64, hc_63, hj_23⟩ := bd_of hj_23
          refine V_callV0 hE hG (As := []) (rest := []) (ok_tw_layTried hE hM hc_63) hM.1 (by decide) rfl hw7_473 hd_tw_layTried ⟨Nat.le_of_ble_eq_true rfl, Nat.le_of_ble_eq_true rfl⟩ rfl rfl (Nat.le_of_ble_eq_true rfl) rfl rfl dX7_pump_51 ?_
          refine V_iconst hG 0 rfl dX7_pump_54 ?_
          refine V_istore hG [(4, .int 0), (3, .int x3_10), (2, .int x2_11), (0, rf E o), (1, .int p1)] dX7_pump_55 (Nat.le_of_ble_eq_true rfl) rfl ?_
          obtain ⟨x4_72, S_73, hL_74, hj_23⟩ := bd2_of hj_23
          have J_69 : ∀ q_75 : Int32 × TS, q_75 = (x4_72, S_73) → V E G (tw o q_75.2 M0) 0 0 5 103 [(4, .int q_75.1), (3, .int x3_10), (2, .int x2_11), (0, rf E o), (1, .int p1)] [] Q := by
            intro q_75 e9
            subst q_75
            show V E G (tw o S_73 M0) 0 0 5 103 [(4, .int x4_72), (3, .int x3_10), (2, .int x2_11), (0, rf E o), (1, .int p1)] [] Q
            refine V_aload_n hG 3 rfl dX7_pump_103 ?_
            refine V_iload_n hG 4 rfl dX7_pump_104 ?_
            obtain ⟨S_77, hc_76, hj_23⟩ := bd_of hj_23
            refine V_callV0 hE hG (As := [.int p1]) (rest := []) (ok_tw_goMany hE hM hc_76) hM.1 (by decide) rfl hw7_476 hd_tw_goMany ⟨Nat.le_of_ble_eq_true rfl, Nat.le_of_ble_eq_true rfl⟩ rfl rfl (Nat.le_of_ble_eq_true rfl) rfl rfl dX7_pump_105 ?_
            refine V_aload_n hG 3 rfl dX7_pump_108 ?_
            refine V_iconst hG 1 rfl dX7_pump_109 ?_
            obtain ⟨r_79, hc_78, hj_23⟩ := bd_of hj_23
            refine V_callV0 hE hG (As := [.int 1]) (rest := []) (ok_tw_onMany hE hM hc_78) hM.1 (by decide) rfl hw7_479 hd_tw_onMany ⟨Nat.le_of_ble_eq_true rfl, Nat.le_of_ble_eq_true rfl⟩ rfl rfl (Nat.le_of_ble_eq_true rfl) rfl rfl dX7_pump_110 ?_
            refine V_aload_n hG 3 rfl dX7_pump_113 ?_
            refine V_iconst hG 0 rfl dX7_pump_114 ?_
            obtain ⟨r_81, hc_80, hj_23⟩ := bd_of hj_23
            refine V_callV0 hE hG (As := [.int 0]) (rest := [.int r_79]) (ok_tw_onMany hE hM hc_80) hM.1 (by decide) rfl hw7_479 hd_tw_onMany ⟨Nat.le_of_ble_eq_true rfl, Nat.le_of_ble_eq_true rfl⟩ rfl rfl (Nat.le_of_ble_eq_true rfl) rfl rfl dX7_pump_115 ?_
            refine V_icmp_ne hG 123 dX7_pump_118 (by decide) (fun c_82 => ?_) (fun c_82 => ?_)
            · have hj_23 := if_f c_82 hj_23
              cases hj_23
              exact V_lv [1, 2, 3, 4] rfl (J_22)
            · have hj_23 := if_t c_82 hj_23
              refine V_iload_n hG 1 rfl dX7_pump_121 ?_
              refine V_istore_n hG rfl [(2, .int x3_10), (4, .int x4_72), (3, .int x3_10), (0, rf E o), (1, .int p1)] dX7_pump_122 (Nat.le_of_ble_eq_true rfl) rfl ?_
              cases hj_23
              exact V_lv [2, 0, 3, 4] rfl (J_22)
          refine lp_walk (W := fun s_83 : Int32 × TS => V E G (tw o s_83.2 M0) 0 0 5 57 [(4, .int s_83.1), (3, .int x3_10), (2, .int x2_11), (0, rf E o), (1, .int p1)] [] Q) ?_ N (0, S_64) hL_74
          intro s_83 b_65 hb_66 hk_67 hx_68
          obtain ⟨x4_70, S_71⟩ := s_83
          have hb_66 : tw_pump_b3 N x3_10 x2_11 p1 x4_70 S_71 = some b_65 := hb_66
          unfold tw_pump_b3 at hb_66
          show V E G (tw o S_71 M0) 0 0 5 57 [(4, .int x4_70), (3, .int x3_10), (2, .int x2_11), (0, rf E o), (1, .int p1)] [] Q
          refine V_iload hG 0 rfl dX7_pump_57 ?_
          refine V_aload_n hG 3 rfl dX7_pump_59 ?_
          refine g7_243 hM hG dX7_pump_60 ?_
          refine V_icmp_ge hG 103 dX7_pump_63 (by decide) (fun c_84 => ?_) (fun c_84 => ?_)
          · have hb_66 := if_t c_84 hb_66
            cases hb_66
            exact J_69 _ (hx_68 _ rfl)
          · have hb_66 := if_f c_84 hb_66
            refine V_aload_n hG 3 rfl dX7_pump_66 ?_
            refine g7_112 hM hG dX7_pump_67 ?_
            refine V_bipush hG 6 (by decide) dX7_pump_70 ?_
            refine V_iload hG 0 rfl dX7_pump_72 ?_
            refine V_iadd hG dX7_pump_74 ?_
            refine V_iload_n hG 1 rfl dX7_pump_75 ?_
            refine V_iload hG 0 rfl dX7_pump_76 ?_
            obtain ⟨r_86, hc_85, hb_66⟩ := bd_of hb_66
            refine V_callS0 hE hG (As := [.int x3_10, .int x4_70]) (rest := [.int (6 + x4_70), rf E ((o + 33))]) (ok_tw_isOf hE hM hc_85) hw7_488 hd_tw_isOf ⟨Nat.le_of_ble_eq_true rfl, Nat.le_of_ble_eq_true rfl⟩ rfl rfl (Nat.le_of_ble_eq_true rfl) rfl rfl dX7_pump_78 ?_
            obtain ⟨t_87, hj_89, hb_66⟩ := bd_of hb_66
            have J_88 : V E G (tw o S_71 M0) 0 0 5 96 [(4, .int x4_70), (3, .int x3_10), (2, .int x2_11), (0, rf E o), (1, .int p1)] [.int t_87, .int (6 + x4_70), rf E ((o + 33))] Q := by
              obtain ⟨g_90, hb_66⟩ := gd_of hb_66
              obtain ⟨S_91, eS_91, hb_66⟩ := be_of hb_66
              refine T_iastore hM hG eS_91 (by decide) g_90 dX7_pump_96 ?_
              obtain ⟨x4_92, ex4_92, hb_66⟩ := be_of hb_66
              refine V_iinc hG 0 x4_92 rfl (by rw [ex4_92]; rfl) [(4, .int x4_92), (3, .int x3_10), (2, .int x2_11), (0, rf E o), (1, .int p1)] dX7_pump_97 (Nat.le_of_ble_eq_true rfl) rfl ?_
              refine V_goto hG 57 dX7_pump_100 (by decide) ?_
              cases hb_66
              exact hk_67 _ rfl
            refine V_if_eq hG 89 dX7_pump_81 (by decide) (fun c_93 => ?_) (fun c_93 => ?_)
            · have hj_89 := if_t c_93 hj_89
              refine V_aload_n hG 3 rfl dX7_pump_89 ?_
              refine g7_112 hM hG dX7_pump_90 ?_
              refine V_iload hG 0 rfl dX7_pump_93 ?_
              obtain ⟨g_94, hj_89⟩ := gd_of hj_89
              refine T_iaload hM hG (by decide) g_94 dX7_pump_95 ?_
              cases hj_89
              exact J_88
            · have hj_89 := if_f c_93 hj_89
              refine V_bipush hG 99 (by decide) dX7_pump_84 ?_
              refine V_goto hG 96 dX7_pump_86 (by decide) ?_
              cases hj_89
              exact J_88
        · have hj_23 := if_f c_62 hj_23
          refine V_goto hG 123 dX7_pump_47 (by decide) ?_
          cases hj_23
          exact J_22
  · have h := if_t c_4 h
    refine V_iconst hG (-1) rfl dX7_pump_15 ?_
    cases h
    subst eQ
    exact V_iret hG dX7_pump_16

def tw_reach_b1 (N : Nat) (p1 : Int32) (S_1 : TS) (x3_10 : Int32) (x2_11 : Int32) : Option ((Int32 × Int32) ⊕ (Int32 × Int32)) :=
if tI S_1 0 12 ≤ x3_10 then (
some (.inl (x3_10, x2_11)))
else (
gd (inb p1 (lenA 31)) (
bd (if tI S_1 31 (Int32.toNatClampNeg p1) = 0 then (
some 0)
else (
gd (inb p1 (lenA 28)) (
gd (inb p1 (lenA 27)) (
gd (inb x3_10 (lenA 6)) (
bd (tw_legOf p1 (tI S_1 27 (Int32.toNatClampNeg p1)) (tI S_1 6 (Int32.toNatClampNeg x3_10)) S_1) fun r_29 =>
if 100 ≤ (tI S_1 28 (Int32.toNatClampNeg p1)) + r_29 then (
some 0)
else (
some (1 <<< (x3_10 &&& 31))))))) : Option (Int32)) fun (t_19 : Int32) =>
be (x2_11 ||| t_19) fun (x2_22 : Int32) =>
be (x3_10 + 1) fun (x3_23 : Int32) =>
some (.inr (x3_23, x2_22))))
def tw_reach (N : Nat) (p1 : Int32) (S : TS) : Option (Int32 × TS) :=
be (tsI S 0 2 0) fun S_1 =>
bd (tw_isHorse p1 S_1) fun r_3 =>
if r_3 = 0 then (
some ((-1), S_1))
else (
bd2 (lp N (fun s_16 : Int32 × Int32 => tw_reach_b1 N p1 S_1 s_16.1 s_16.2) (0, 0)) fun (x3_12 : Int32) (x2_13 : Int32) =>
some (x2_13, S_1))
def rm_tw_reach : Room := { frames := 2, cells := 0, slots := 0, locals := 43 }
theorem ok_tw_reach {E : En} (hE : EOk E) {o : Nat} {M0 : Mem} (hM : TwS o M0) {N : Nat} {p1 : Int32} {S : TS} {r : Int32} {S' : TS} (h : tw_reach N p1 S = some (r, S')) : CM E yX7_reach cX7_reach 4 (some .int) rm_tw_reach [rf E o, .int p1] (tw o S M0) (some (.int r)) (tw o S' M0) := by
  unfold tw_reach at h
  refine CM_intro (own := RX7) rfl (by decide) (Nat.le_of_ble_eq_true rfl) rfl (fun G hG => ?_)
  obtain ⟨Q, eQ⟩ : ∃ Q, Q = QM E G (some (.int r)) (tw o S' M0) 0 0 := ⟨_, rfl⟩
  show V E G (tw o S M0) 0 0 4 0 [(0, rf E o), (1, .int p1)] [] (QM E G (some (.int r)) (tw o S' M0) 0 0)
  rw [← eQ]
  refine V_aload_n hG 0 rfl dX7_reach_0 ?_
  refine V_iconst hG 0 rfl dX7_reach_1 ?_
  obtain ⟨S_1, eS_1, h⟩ := be_of h
  refine p7_160 hM hG eS_1 dX7_reach_2 ?_
  refine V_aload_n hG 0 rfl dX7_reach_5 ?_
  refine V_iload_n hG 1 rfl dX7_reach_6 ?_
  obtain ⟨r_3, hc_2, h⟩ := bd_of h
  refine V_callV0 hE hG (As := [.int p1]) (rest := []) (ok_tw_isHorse hE hM hc_2) hM.1 (by decide) rfl hw7_459 hd_tw_isHorse ⟨Nat.le_of_ble_eq_true rfl, Nat.le_of_ble_eq_true rfl⟩ rfl rfl (Nat.le_of_ble_eq_true rfl) rfl rfl dX7_reach_7 ?_
  refine V_if_ne hG 15 dX7_reach_10 (by decide) (fun c_4 => ?_) (fun c_4 => ?_)
  · have h := if_f c_4 h
    refine V_iconst hG 0 rfl dX7_reach_15 ?_
    refine V_istore_n hG rfl [(2, .int 0), (0, rf E o), (1, .int p1)] dX7_reach_16 (Nat.le_of_ble_eq_true rfl) rfl ?_
    refine V_iconst hG 0 rfl dX7_reach_17 ?_
    refine V_istore_n hG rfl [(3, .int 0), (2, .int 0), (0, rf E o), (1, .int p1)] dX7_reach_18 (Nat.le_of_ble_eq_true rfl) rfl ?_
    obtain ⟨x3_12, x2_13, hL_14, h⟩ := bd2_of h
    have J_9 : ∀ q_15 : Int32 × Int32, q_15 = (x3_12, x2_13) → V E G (tw o S_1 M0) 0 0 4 81 [(3, .int q_15.1), (2, .int q_15.2), (0, rf E o), (1, .int p1)] [] Q := by
      intro q_15 e9
      subst q_15
      show V E G (tw o S_1 M0) 0 0 4 81 [(3, .int x3_12), (2, .int x2_13), (0, rf E o), (1, .int p1)] [] Q
      refine V_iload_n hG 1 rfl dX7_reach_81 ?_
      cases h
      subst eQ
      exact V_iret hG dX7_reach_82
    refine lp_walk (W := fun s_16 : Int32 × Int32 => V E G (tw o S_1 M0) 0 0 4 19 [(3, .int s_16.1), (2, .int s_16.2), (0, rf E o), (1, .int p1)] [] Q) ?_ N (0, 0) hL_14
    intro s_16 b_5 hb_6 hk_7 hx_8
    obtain ⟨x3_10, x2_11⟩ := s_16
    have hb_6 : tw_reach_b1 N p1 S_1 x3_10 x2_11 = some b_5 := hb_6
    unfold tw_reach_b1 at hb_6
    show V E G (tw o S_1 M0) 0 0 4 19 [(3, .int x3_10), (2, .int x2_11), (0, rf E o), (1, .int p1)] [] Q
    refine V_iload_n hG 0 rfl dX7_reach_19 ?_
    refine V_aload_n hG 2 rfl dX7_reach_20 ?_
    refine g7_243 hM hG dX7_reach_21 ?_
    refine V_icmp_ge hG 81 dX7_reach_24 (by decide) (fun c_17 => ?_) (fun c_17 => ?_)
    · have hb_6 := if_t c_17 hb_6
      cases hb_6
      exact J_9 _ (hx_8 _ rfl)
    · have hb_6 := if_f c_17 hb_6
      refine V_iload_n hG 1 rfl dX7_reach_27 ?_
      refine V_aload_n hG 2 rfl dX7_reach_28 ?_
      refine g7_106 hM hG dX7_reach_29 ?_
      refine V_iload_n hG 3 rfl dX7_reach_32 ?_
      obtain ⟨g_18, hb_6⟩ := gd_of hb_6
      refine T_zaload hM hG (by decide) g_18 dX7_reach_33 ?_
      obtain ⟨t_19, hj_21, hb_6⟩ := bd_of hb_6
      have J_20 : V E G (tw o S_1 M0) 0 0 4 73 [(3, .int x3_10), (2, .int x2_11), (0, rf E o), (1, .int p1)] [.int t_19, .int x2_11] Q := by
        refine V_ior hG dX7_reach_73 ?_
        obtain ⟨x2_22, ex2_22, hb_6⟩ := be_of hb_6
        refine V_topi ex2_22 ?_
        refine V_istore_n hG rfl [(2, .int x2_22), (3, .int x3_10), (0, rf E o), (1, .int p1)] dX7_reach_74 (Nat.le_of_ble_eq_true rfl) rfl ?_
        obtain ⟨x3_23, ex3_23, hb_6⟩ := be_of hb_6
        refine V_iinc hG 1 x3_23 rfl (by rw [ex3_23]; rfl) [(3, .int x3_23), (2, .int x2_22), (0, rf E o), (1, .int p1)] dX7_reach_75 (Nat.le_of_ble_eq_true rfl) rfl ?_
        refine V_goto hG 19 dX7_reach_78 (by decide) ?_
        cases hb_6
        exact hk_7 _ rfl
      refine V_if_eq hG 72 dX7_reach_34 (by decide) (fun c_24 => ?_) (fun c_24 => ?_)
      · have hj_21 := if_t c_24 hj_21
        refine V_iconst hG 0 rfl dX7_reach_72 ?_
        cases hj_21
        exact J_20
      · have hj_21 := if_f c_24 hj_21
        refine V_aload_n hG 2 rfl dX7_reach_37 ?_
        refine g7_97 hM hG dX7_reach_38 ?_
        refine V_iload_n hG 3 rfl dX7_reach_41 ?_
        obtain ⟨g_25, hj_21⟩ := gd_of hj_21
        refine T_iaload hM hG (by decide) g_25 dX7_reach_42 ?_
        refine V_aload_n hG 2 rfl dX7_reach_43 ?_
        refine V_iload_n hG 3 rfl dX7_reach_44 ?_
        refine V_aload_n hG 2 rfl dX7_reach_45 ?_
        refine g7_94 hM hG dX7_reach_46 ?_
        refine V_iload_n hG 3 rfl dX7_reach_49 ?_
        obtain ⟨g_26, hj_21⟩ := gd_of hj_21
        refine T_iaload hM hG (by decide) g_26 dX7_reach_50 ?_
        refine V_aload_n hG 2 rfl dX7_reach_51 ?_
        refine g7_30 hM hG dX7_reach_52 ?_
        refine V_iload_n hG 0 rfl dX7_reach_55 ?_
        obtain ⟨g_27, hj_21⟩ := gd_of hj_21
        refine T_iaload hM hG (by decide) g_27 dX7_reach_56 ?_
        obtain ⟨r_29, hc_28, hj_21⟩ := bd_of hj_21
        refine V_callV0 hE hG (As := [.int p1, .int (tI S_1 27 (Int32.toNatClampNeg p1)), .int (tI S_1 6 (Int32.toNatClampNeg x3_10))]) (rest := [.int (tI S_1 28 (Int32.toNatClampNeg p1)), .int x2_11]) (ok_tw_legOf hE hM hc_28) hM.1 (by decide) rfl hw7_491 hd_tw_legOf ⟨Nat.le_of_ble_eq_true rfl, Nat.le_of_ble_eq_true rfl⟩ rfl rfl (Nat.le_of_ble_eq_true rfl) rfl rfl dX7_reach_57 ?_
        refine V_iadd hG dX7_reach_60 ?_
        refine V_bipush hG 100 (by decide) dX7_reach_61 ?_
        refine V_icmp_ge hG 72 dX7_reach_63 (by decide) (fun c_30 => ?_) (fun c_30 => ?_)
        · have hj_21 := if_t c_30 hj_21
          refine V_iconst hG 0 rfl dX7_reach_72 ?_
          cases hj_21
          exact J_20
        · have hj_21 := if_f c_30 hj_21
          refine V_iconst hG 1 rfl dX7_reach_66 ?_
          refine V_iload_n hG 0 rfl dX7_reach_67 ?_
          refine V_ishl hG dX7_reach_68 ?_
          refine V_goto hG 73 dX7_reach_69 (by decide) ?_
          cases hj_21
          exact J_20
  · have h := if_t c_4 h
    refine V_iconst hG (-1) rfl dX7_reach_13 ?_
    cases h
    subst eQ
    exact V_iret hG dX7_reach_14

def tw_restAt_b1 (N : Nat) (p1 : Int32) (p2 : Int32) (p3 : Int32) (S : TS) (x5_6 : Int32) (x4_7 : Int32) : Option (((Int32 × Int32) ⊕ (Int32)) ⊕ (Int32 × Int32)) :=
if 4 ≤ x5_6 then (
some (.inl (.inl (x5_6, x4_7))))
else (
be (x5_6 / 2) fun (x6_21 : Int32) =>
be (x5_6 - x5_6 / 2 * 2) fun (x7_22 : Int32) =>
bd (tw_hasBy p1 p2 (1 - x6_21) x7_22 S) fun r_24 =>
bd (tw_hasBy p1 p2 x6_21 x7_22 S) fun r_26 =>
if r_26 < r_24 then (
be (x5_6 + 1) fun (x5_28 : Int32) =>
some (.inr (x5_28, x4_7)))
else (
bd (tw_hasBy p2 p1 (1 - x7_22) x6_21 S) fun r_30 =>
bd (tw_hasBy p2 p1 x7_22 x6_21 S) fun r_32 =>
if r_30 ≤ r_32 then (
if x4_7 = p3 then (
some (.inl (.inr ((10 * x6_21) + x7_22))))
else (
be (x4_7 + 1) fun (x4_35 : Int32) =>
be (x5_6 + 1) fun (x5_36 : Int32) =>
some (.inr (x5_36, x4_35))))
else (
be (x5_6 + 1) fun (x5_39 : Int32) =>
some (.inr (x5_39, x4_7)))))
def tw_restAt (N : Nat) (p1 : Int32) (p2 : Int32) (p3 : Int32) (S : TS) : Option (Int32) :=
bx2 (lp N (fun s_19 : Int32 × Int32 => tw_restAt_b1 N p1 p2 p3 S s_19.1 s_19.2) (0, 0)) (fun (x5_9 : Int32) (x4_10 : Int32) =>
be (if 0 ≤ p3 then (
(-2))
else (
x4_10) : Int32) fun (y_18 : Int32) =>
some y_18) (fun (w_40 : Int32) => some w_40)
def rm_tw_restAt : Room := { frames := 2, cells := 0, slots := 0, locals := 44 }
theorem ok_tw_restAt {E : En} (hE : EOk E) {o : Nat} {M0 : Mem} (hM : TwS o M0) {N : Nat} {p1 : Int32} {p2 : Int32} {p3 : Int32} {S : TS} {r : Int32} (h : tw_restAt N p1 p2 p3 S = some r) : CM E yX7_restAt cX7_restAt 8 (some .int) rm_tw_restAt [rf E o, .int p1, .int p2, .int p3] (tw o S M0) (some (.int r)) (tw o S M0) := by
  unfold tw_restAt at h
  refine CM_intro (own := RX7) rfl (by decide) (Nat.le_of_ble_eq_true rfl) rfl (fun G hG => ?_)
  obtain ⟨Q, eQ⟩ : ∃ Q, Q = QM E G (some (.int r)) (tw o S M0) 0 0 := ⟨_, rfl⟩
  show V E G (tw o S M0) 0 0 8 0 [(0, rf E o), (1, .int p1), (2, .int p2), (3, .int p3)] [] (QM E G (some (.int r)) (tw o S M0) 0 0)
  rw [← eQ]
  refine V_iconst hG 0 rfl dX7_restAt_0 ?_
  refine V_istore hG [(4, .int 0), (0, rf E o), (1, .int p1), (2, .int p2), (3, .int p3)] dX7_restAt_1 (Nat.le_of_ble_eq_true rfl) rfl ?_
  refine V_iconst hG 0 rfl dX7_restAt_3 ?_
  refine V_istore hG [(5, .int 0), (4, .int 0), (0, rf E o), (1, .int p1), (2, .int p2), (3, .int p3)] dX7_restAt_4 (Nat.le_of_ble_eq_true rfl) rfl ?_
  obtain ⟨rr_12, hL_11, hl_13, hr_8⟩ := bx2_of h
  have J_5 : ∀ q_14 : Int32 × Int32, Sum.inl q_14 = rr_12 → V E G (tw o S M0) 0 0 8 101 [(5, .int q_14.1), (4, .int q_14.2), (0, rf E o), (1, .int p1), (2, .int p2), (3, .int p3)] [] Q := by
    intro q_14 e9
    obtain ⟨x5_9, x4_10⟩ := q_14
    have h := hl_13 x5_9 x4_10 e9.symm
    show V E G (tw o S M0) 0 0 8 101 [(5, .int x5_9), (4, .int x4_10), (0, rf E o), (1, .int p1), (2, .int p2), (3, .int p3)] [] Q
    refine V_iload_n hG 5 rfl dX7_restAt_101 ?_
    obtain ⟨t_15, et_15, h⟩ := be_of h
    have J_16 : ∀ y_18 : Int32, y_18 = t_15 → V E G (tw o S M0) 0 0 8 112 [(5, .int x5_9), (4, .int x4_10), (0, rf E o), (1, .int p1), (2, .int p2), (3, .int p3)] [.int y_18] Q := by
      intro y_18 ey
      subst ey
      cases h
      subst eQ
      exact V_iret hG dX7_restAt_112
    refine V_if_ge hG 110 dX7_restAt_102 (by decide) (fun c_17 => ?_) (fun c_17 => ?_)
    · refine V_bipush hG (-2) (by decide) dX7_restAt_110 ?_
      exact J_16 _ (by rw [et_15, if_pos c_17])
    · refine V_iload hG 1 rfl dX7_restAt_105 ?_
      refine V_goto hG 112 dX7_restAt_107 (by decide) ?_
      exact J_16 _ (by rw [et_15, if_neg c_17])
  refine lp_walk (W := fun s_19 : Int32 × Int32 => V E G (tw o S M0) 0 0 8 6 [(5, .int s_19.1), (4, .int s_19.2), (0, rf E o), (1, .int p1), (2, .int p2), (3, .int p3)] [] Q) ?_ N (0, 0) hL_11
  intro s_19 b_1 hb_2 hk_3 hx_4
  obtain ⟨x5_6, x4_7⟩ := s_19
  have hb_2 : tw_restAt_b1 N p1 p2 p3 S x5_6 x4_7 = some b_1 := hb_2
  unfold tw_restAt_b1 at hb_2
  show V E G (tw o S M0) 0 0 8 6 [(5, .int x5_6), (4, .int x4_7), (0, rf E o), (1, .int p1), (2, .int p2), (3, .int p3)] [] Q
  refine V_iload hG 0 rfl dX7_restAt_6 ?_
  refine V_iconst hG 4 rfl dX7_restAt_8 ?_
  refine V_icmp_ge hG 101 dX7_restAt_9 (by decide) (fun c_20 => ?_) (fun c_20 => ?_)
  · have hb_2 := if_t c_20 hb_2
    cases hb_2
    exact J_5 _ (hx_4 _ rfl)
  · have hb_2 := if_f c_20 hb_2
    refine V_iload hG 0 rfl dX7_restAt_12 ?_
    refine V_iconst hG 2 rfl dX7_restAt_14 ?_
    refine V_idiv hG (by decide) dX7_restAt_15 ?_
    obtain ⟨x6_21, ex6_21, hb_2⟩ := be_of hb_2
    refine V_topi ex6_21 ?_
    refine V_istore hG [(6, .int x6_21), (5, .int x5_6), (4, .int x4_7), (0, rf E o), (1, .int p1), (2, .int p2), (3, .int p3)] dX7_restAt_16 (Nat.le_of_ble_eq_true rfl) rfl ?_
    refine V_iload hG 1 rfl dX7_restAt_18 ?_
    refine V_iconst hG 2 rfl dX7_restAt_20 ?_
    refine V_irem hG (by decide) dX7_restAt_21 ?_
    obtain ⟨x7_22, ex7_22, hb_2⟩ := be_of hb_2
    refine V_topi ex7_22 ?_
    refine V_istore hG [(7, .int x7_22), (6, .int x6_21), (5, .int x5_6), (4, .int x4_7), (0, rf E o), (1, .int p1), (2, .int p2), (3, .int p3)] dX7_restAt_22 (Nat.le_of_ble_eq_true rfl) rfl ?_
    refine V_aload_n hG 4 rfl dX7_restAt_24 ?_
    refine V_iload_n hG 5 rfl dX7_restAt_25 ?_
    refine V_iload_n hG 6 rfl dX7_restAt_26 ?_
    refine V_iconst hG 1 rfl dX7_restAt_27 ?_
    refine V_iload hG 1 rfl dX7_restAt_28 ?_
    refine V_isub hG dX7_restAt_30 ?_
    refine V_iload hG 0 rfl dX7_restAt_31 ?_
    obtain ⟨r_24, hc_23, hb_2⟩ := bd_of hb_2
    refine V_callV0 hE hG (As := [.int p1, .int p2, .int (1 - x6_21), .int x7_22]) (rest := []) (ok_tw_hasBy hE hM hc_23) hM.1 (by decide) rfl hw7_498 hd_tw_hasBy ⟨Nat.le_of_ble_eq_true rfl, Nat.le_of_ble_eq_true rfl⟩ rfl rfl (Nat.le_of_ble_eq_true rfl) rfl rfl dX7_restAt_33 ?_
    refine V_aload_n hG 4 rfl dX7_restAt_36 ?_
    refine V_iload_n hG 5 rfl dX7_restAt_37 ?_
    refine V_iload_n hG 6 rfl dX7_restAt_38 ?_
    refine V_iload hG 1 rfl dX7_restAt_39 ?_
    refine V_iload hG 0 rfl dX7_restAt_41 ?_
    obtain ⟨r_26, hc_25, hb_2⟩ := bd_of hb_2
    refine V_callV0 hE hG (As := [.int p1, .int p2, .int x6_21, .int x7_22]) (rest := [.int r_24]) (ok_tw_hasBy hE hM hc_25) hM.1 (by decide) rfl hw7_498 hd_tw_hasBy ⟨Nat.le_of_ble_eq_true rfl, Nat.le_of_ble_eq_true rfl⟩ rfl rfl (Nat.le_of_ble_eq_true rfl) rfl rfl dX7_restAt_43 ?_
    refine V_icmp_gt hG 95 dX7_restAt_46 (by decide) (fun c_27 => ?_) (fun c_27 => ?_)
    · have hb_2 := if_t c_27 hb_2
      obtain ⟨x5_28, ex5_28, hb_2⟩ := be_of hb_2
      refine V_iinc hG 2 x5_28 rfl (by rw [ex5_28]; rfl) [(5, .int x5_28), (7, .int x7_22), (6, .int x6_21), (4, .int x4_7), (0, rf E o), (1, .int p1), (2, .int p2), (3, .int p3)] dX7_restAt_95 (Nat.le_of_ble_eq_true rfl) rfl ?_
      refine V_goto hG 6 dX7_restAt_98 (by decide) ?_
      cases hb_2
      exact V_lv [0, 3, 4, 5, 6, 7] rfl (hk_3 _ rfl)
    · have hb_2 := if_f c_27 hb_2
      refine V_aload_n hG 4 rfl dX7_restAt_49 ?_
      refine V_iload_n hG 6 rfl dX7_restAt_50 ?_
      refine V_iload_n hG 5 rfl dX7_restAt_51 ?_
      refine V_iconst hG 1 rfl dX7_restAt_52 ?_
      refine V_iload hG 0 rfl dX7_restAt_53 ?_
      refine V_isub hG dX7_restAt_55 ?_
      refine V_iload hG 1 rfl dX7_restAt_56 ?_
      obtain ⟨r_30, hc_29, hb_2⟩ := bd_of hb_2
      refine V_callV0 hE hG (As := [.int p2, .int p1, .int (1 - x7_22), .int x6_21]) (rest := []) (ok_tw_hasBy hE hM hc_29) hM.1 (by decide) rfl hw7_498 hd_tw_hasBy ⟨Nat.le_of_ble_eq_true rfl, Nat.le_of_ble_eq_true rfl⟩ rfl rfl (Nat.le_of_ble_eq_true rfl) rfl rfl dX7_restAt_58 ?_
      refine V_aload_n hG 4 rfl dX7_restAt_61 ?_
      refine V_iload_n hG 6 rfl dX7_restAt_62 ?_
      refine V_iload_n hG 5 rfl dX7_restAt_63 ?_
      refine V_iload hG 0 rfl dX7_restAt_64 ?_
      refine V_iload hG 1 rfl dX7_restAt_66 ?_
      obtain ⟨r_32, hc_31, hb_2⟩ := bd_of hb_2
      refine V_callV0 hE hG (As := [.int p2, .int p1, .int x7_22, .int x6_21]) (rest := [.int r_30]) (ok_tw_hasBy hE hM hc_31) hM.1 (by decide) rfl hw7_498 hd_tw_hasBy ⟨Nat.le_of_ble_eq_true rfl, Nat.le_of_ble_eq_true rfl⟩ rfl rfl (Nat.le_of_ble_eq_true rfl) rfl rfl dX7_restAt_68 ?_
      refine V_icmp_le hG 77 dX7_restAt_71 (by decide) (fun c_33 => ?_) (fun c_33 => ?_)
      · have hb_2 := if_t c_33 hb_2
        refine V_iload hG 3 rfl dX7_restAt_77 ?_
        refine V_iload_n hG 7 rfl dX7_restAt_79 ?_
        refine V_icmp_ne hG 92 dX7_restAt_80 (by decide) (fun c_34 => ?_) (fun c_34 => ?_)
        · have hb_2 := if_f c_34 hb_2
          obtain ⟨x4_35, ex4_35, hb_2⟩ := be_of hb_2
          refine V_iinc hG 3 x4_35 rfl (by rw [ex4_35]; rfl) [(4, .int x4_35), (7, .int x7_22), (6, .int x6_21), (5, .int x5_6), (0, rf E o), (1, .int p1), (2, .int p2), (3, .int p3)] dX7_restAt_92 (Nat.le_of_ble_eq_true rfl) rfl ?_
          obtain ⟨x5_36, ex5_36, hb_2⟩ := be_of hb_2
          refine V_iinc hG 3 x5_36 rfl (by rw [ex5_36]; rfl) [(5, .int x5_36), (4, .int x4_35), (7, .int x7_22), (6, .int x6_21), (0, rf E o), (1, .int p1), (2, .int p2), (3, .int p3)] dX7_restAt_95 (Nat.le_of_ble_eq_true rfl) rfl ?_
          refine V_goto hG 6 dX7_restAt_98 (by decide) ?_
          cases hb_2
          exact V_lv [0, 1, 4, 5, 6, 7] rfl (hk_3 _ rfl)
        · have hb_2 := if_t c_34 hb_2
          refine V_bipush hG 10 (by decide) dX7_restAt_83 ?_
          refine V_iload hG 1 rfl dX7_restAt_85 ?_
          refine V_imul hG dX7_restAt_87 ?_
          refine V_iload hG 0 rfl dX7_restAt_88 ?_
          refine V_iadd hG dX7_restAt_90 ?_
          cases hb_2
          have e_37 := hx_4 _ rfl
          have h_38 : some ((10 * x6_21) + x7_22) = some r := hr_8 _ e_37.symm
          cases h_38
          subst eQ
          exact V_iret hG dX7_restAt_91
      · have hb_2 := if_f c_33 hb_2
        refine V_goto hG 95 dX7_restAt_74 (by decide) ?_
        obtain ⟨x5_39, ex5_39, hb_2⟩ := be_of hb_2
        refine V_iinc hG 2 x5_39 rfl (by rw [ex5_39]; rfl) [(5, .int x5_39), (7, .int x7_22), (6, .int x6_21), (4, .int x4_7), (0, rf E o), (1, .int p1), (2, .int p2), (3, .int p3)] dX7_restAt_95 (Nat.le_of_ble_eq_true rfl) rfl ?_
        refine V_goto hG 6 dX7_restAt_98 (by decide) ?_
        cases hb_2
        exact V_lv [0, 3, 4, 5, 6, 7] rfl (hk_3 _ rfl)

def tw_rest (N : Nat) (p1 : Int32) (p2 : Int32) (p3 : Int32) (S : TS) : Option (Int32 × TS) :=
be (tsI S 0 2 0) fun S_1 =>
bd (tw_areTwo p1 p2 S_1) fun r_3 =>
bd (if r_3 = 0 then (
some (-1))
else (
if p3 < 0 then (
some (-1))
else (
bd (tw_restAt N p1 p2 p3 S_1) fun r_10 =>
some r_10)) : Option (Int32)) fun (t_4 : Int32) =>
some (t_4, S_1)
def rm_tw_rest : Room := { frames := 3, cells := 0, slots := 0, locals := 71 }
theorem ok_tw_rest {E : En} (hE : EOk E) {o : Nat} {M0 : Mem} (hM : TwS o M0) {N : Nat} {p1 : Int32} {p2 : Int32} {p3 : Int32} {S : TS} {r : Int32} {S' : TS} (h : tw_rest N p1 p2 p3 S = some (r, S')) : CM E yX7_rest cX7_rest 4 (some .int) rm_tw_rest [rf E o, .int p1, .int p2, .int p3] (tw o S M0) (some (.int r)) (tw o S' M0) := by
  unfold tw_rest at h
  refine CM_intro (own := RX7) rfl (by decide) (Nat.le_of_ble_eq_true rfl) rfl (fun G hG => ?_)
  obtain ⟨Q, eQ⟩ : ∃ Q, Q = QM E G (some (.int r)) (tw o S' M0) 0 0 := ⟨_, rfl⟩
  show V E G (tw o S M0) 0 0 4 0 [(0, rf E o), (1, .int p1), (2, .int p2), (3, .int p3)] [] (QM E G (some (.int r)) (tw o S' M0) 0 0)
  rw [← eQ]
  refine V_aload_n hG 0 rfl dX7_rest_0 ?_
  refine V_iconst hG 0 rfl dX7_rest_1 ?_
  obtain ⟨S_1, eS_1, h⟩ := be_of h
  refine p7_160 hM hG eS_1 dX7_rest_2 ?_
  refine V_aload_n hG 0 rfl dX7_rest_5 ?_
  refine V_iload_n hG 1 rfl dX7_rest_6 ?_
  refine V_iload_n hG 2 rfl dX7_rest_7 ?_
  obtain ⟨r_3, hc_2, h⟩ := bd_of h
  refine V_callV0 hE hG (As := [.int p1, .int p2]) (rest := []) (ok_tw_areTwo hE hM hc_2) hM.1 (by decide) rfl hw7_482 hd_tw_areTwo ⟨Nat.le_of_ble_eq_true rfl, Nat.le_of_ble_eq_true rfl⟩ rfl rfl (Nat.le_of_ble_eq_true rfl) rfl rfl dX7_rest_8 ?_
  obtain ⟨t_4, hj_6, h⟩ := bd_of h
  have J_5 : V E G (tw o S_1 M0) 0 0 4 29 [(0, rf E o), (1, .int p1), (2, .int p2), (3, .int p3)] [.int t_4] Q := by
    cases h
    subst eQ
    exact V_iret hG dX7_rest_29
  refine V_if_eq hG 28 dX7_rest_11 (by decide) (fun c_7 => ?_) (fun c_7 => ?_)
  · have hj_6 := if_t c_7 hj_6
    refine V_iconst hG (-1) rfl dX7_rest_28 ?_
    cases hj_6
    exact J_5
  · have hj_6 := if_f c_7 hj_6
    refine V_iload_n hG 3 rfl dX7_rest_14 ?_
    refine V_if_lt hG 28 dX7_rest_15 (by decide) (fun c_8 => ?_) (fun c_8 => ?_)
    · have hj_6 := if_t c_8 hj_6
      refine V_iconst hG (-1) rfl dX7_rest_28 ?_
      cases hj_6
      exact J_5
    · have hj_6 := if_f c_8 hj_6
      refine V_aload_n hG 0 rfl dX7_rest_18 ?_
      refine V_iload_n hG 1 rfl dX7_rest_19 ?_
      refine V_iload_n hG 2 rfl dX7_rest_20 ?_
      refine V_iload_n hG 3 rfl dX7_rest_21 ?_
      obtain ⟨r_10, hc_9, hj_6⟩ := bd_of hj_6
      refine V_callV0 hE hG (As := [.int p1, .int p2, .int p3]) (rest := []) (ok_tw_restAt hE hM hc_9) hM.1 (by decide) rfl hw7_501 hd_tw_restAt ⟨Nat.le_of_ble_eq_true rfl, Nat.le_of_ble_eq_true rfl⟩ rfl rfl (Nat.le_of_ble_eq_true rfl) rfl rfl dX7_rest_22 ?_
      refine V_goto hG 29 dX7_rest_25 (by decide) ?_
      cases hj_6
      exact J_5

def tw_rests (N : Nat) (p1 : Int32) (p2 : Int32) (S : TS) : Option (Int32 × TS) :=
be (tsI S 0 2 0) fun S_1 =>
bd (tw_areTwo p1 p2 S_1) fun r_3 =>
bd (if r_3 = 0 then (
some (-1))
else (
bd (tw_restAt N p1 p2 (-1) S_1) fun r_9 =>
some r_9) : Option (Int32)) fun (t_4 : Int32) =>
some (t_4, S_1)
def rm_tw_rests : Room := { frames := 3, cells := 0, slots := 0, locals := 71 }
theorem ok_tw_rests {E : En} (hE : EOk E) {o : Nat} {M0 : Mem} (hM : TwS o M0) {N : Nat} {p1 : Int32} {p2 : Int32} {S : TS} {r : Int32} {S' : TS} (h : tw_rests N p1 p2 S = some (r, S')) : CM E yX7_rests cX7_rests 3 (some .int) rm_tw_rests [rf E o, .int p1, .int p2] (tw o S M0) (some (.int r)) (tw o S' M0) := by
  unfold tw_rests at h
  refine CM_intro (own := RX7) rfl (by decide) (Nat.le_of_ble_eq_true rfl) rfl (fun G hG => ?_)
  obtain ⟨Q, eQ⟩ : ∃ Q, Q = QM E G (some (.int r)) (tw o S' M0) 0 0 := ⟨_, rfl⟩
  show V E G (tw o S M0) 0 0 3 0 [(0, rf E o), (1, .int p1), (2, .int p2)] [] (QM E G (some (.int r)) (tw o S' M0) 0 0)
  rw [← eQ]
  refine V_aload_n hG 0 rfl dX7_rests_0 ?_
  refine V_iconst hG 0 rfl dX7_rests_1 ?_
  obtain ⟨S_1, eS_1, h⟩ := be_of h
  refine p7_160 hM hG eS_1 dX7_rests_2 ?_
  refine V_aload_n hG 0 rfl dX7_rests_5 ?_
  refine V_iload_n hG 1 rfl dX7_rests_6 ?_
  refine V_iload_n hG 2 rfl dX7_rests_7 ?_
  obtain ⟨r_3, hc_2, h⟩ := bd_of h
  refine V_callV0 hE hG (As := [.int p1, .int p2]) (rest := []) (ok_tw_areTwo hE hM hc_2) hM.1 (by decide) rfl hw7_482 hd_tw_areTwo ⟨Nat.le_of_ble_eq_true rfl, Nat.le_of_ble_eq_true rfl⟩ rfl rfl (Nat.le_of_ble_eq_true rfl) rfl rfl dX7_rests_8 ?_
  obtain ⟨t_4, hj_6, h⟩ := bd_of h
  have J_5 : V E G (tw o S_1 M0) 0 0 3 25 [(0, rf E o), (1, .int p1), (2, .int p2)] [.int t_4] Q := by
    cases h
    subst eQ
    exact V_iret hG dX7_rests_25
  refine V_if_eq hG 24 dX7_rests_11 (by decide) (fun c_7 => ?_) (fun c_7 => ?_)
  · have hj_6 := if_t c_7 hj_6
    refine V_iconst hG (-1) rfl dX7_rests_24 ?_
    cases hj_6
    exact J_5
  · have hj_6 := if_f c_7 hj_6
    refine V_aload_n hG 0 rfl dX7_rests_14 ?_
    refine V_iload_n hG 1 rfl dX7_rests_15 ?_
    refine V_iload_n hG 2 rfl dX7_rests_16 ?_
    refine V_iconst hG (-1) rfl dX7_rests_17 ?_
    obtain ⟨r_9, hc_8, hj_6⟩ := bd_of hj_6
    refine V_callV0 hE hG (As := [.int p1, .int p2, .int (-1)]) (rest := []) (ok_tw_restAt hE hM hc_8) hM.1 (by decide) rfl hw7_501 hd_tw_restAt ⟨Nat.le_of_ble_eq_true rfl, Nat.le_of_ble_eq_true rfl⟩ rfl rfl (Nat.le_of_ble_eq_true rfl) rfl rfl dX7_rests_18 ?_
    refine V_goto hG 25 dX7_rests_21 (by decide) ?_
    cases hj_6
    exact J_5

def tw_round_b1 (N : Nat) (p1 : Int32) (S_1 : TS) (x4_13 : Int32) (x3_14 : Int32) (x2_15 : Int32) : Option ((Int32 × Int32 × Int32) ⊕ (Int32 × Int32 × Int32)) :=
if tI S_1 0 12 ≤ x4_13 then (
some (.inl (x4_13, x3_14, x2_15)))
else (
gd (inb x4_13 (lenA 6)) (
bd (if x2_15 ≤ tI S_1 6 (Int32.toNatClampNeg x4_13) then (
some x2_15)
else (
gd (inb x4_13 (lenA 6)) (
some (tI S_1 6 (Int32.toNatClampNeg x4_13)))) : Option (Int32)) fun (t_34 : Int32) =>
gd (inb x4_13 (lenA 6)) (
bd (if tI S_1 6 (Int32.toNatClampNeg x4_13) ≤ x3_14 then (
some x3_14)
else (
gd (inb x4_13 (lenA 6)) (
some (tI S_1 6 (Int32.toNatClampNeg x4_13)))) : Option (Int32)) fun (t_38 : Int32) =>
be (x4_13 + 1) fun (x4_41 : Int32) =>
some (.inr (x4_41, t_38, t_34)))))
def tw_round (N : Nat) (p1 : Int32) (S : TS) : Option (Int32 × TS) :=
be (tsI S 0 2 0) fun S_1 =>
bd (tw_isHorse p1 S_1) fun r_3 =>
if r_3 = 0 then (
some ((-1), S_1))
else (
if tI S_1 0 12 = 0 then (
some (0, S_1))
else (
be (tI S_1 6 (Int32.toNatClampNeg 0)) fun (x2_6 : Int32) =>
be (tI S_1 6 (Int32.toNatClampNeg 0)) fun (x3_7 : Int32) =>
bd3 (lp N (fun s_31 : Int32 × Int32 × Int32 => tw_round_b1 N p1 S_1 s_31.1 s_31.2.1 s_31.2.2) (1, x3_7, x2_6)) fun (x4_16 : Int32) (x3_17 : Int32) (x2_18 : Int32) =>
gd (inb p1 (lenA 27)) (
bd (tw_sizeOf ((tI S_1 27 (Int32.toNatClampNeg p1)) - x2_18) S_1) fun r_23 =>
gd (inb p1 (lenA 27)) (
bd (tw_sizeOf ((tI S_1 27 (Int32.toNatClampNeg p1)) - x3_17) S_1) fun r_26 =>
be (if r_26 ≤ r_23 then (
r_26)
else (
r_23) : Int32) fun (y_30 : Int32) =>
some ((x3_17 - x2_18) + y_30, S_1)))))
def rm_tw_round : Room := { frames := 1, cells := 0, slots := 0, locals := 21 }
theorem ok_tw_round {E : En} (hE : EOk E) {o : Nat} {M0 : Mem} (hM : TwS o M0) {N : Nat} {p1 : Int32} {S : TS} {r : Int32} {S' : TS} (h : tw_round N p1 S = some (r, S')) : CM E yX7_round cX7_round 6 (some .int) rm_tw_round [rf E o, .int p1] (tw o S M0) (some (.int r)) (tw o S' M0) := by
  unfold tw_round at h
  refine CM_intro (own := RX7) rfl (by decide) (Nat.le_of_ble_eq_true rfl) rfl (fun G hG => ?_)
  obtain ⟨Q, eQ⟩ : ∃ Q, Q = QM E G (some (.int r)) (tw o S' M0) 0 0 := ⟨_, rfl⟩
  show V E G (tw o S M0) 0 0 6 0 [(0, rf E o), (1, .int p1)] [] (QM E G (some (.int r)) (tw o S' M0) 0 0)
  rw [← eQ]
  refine V_aload_n hG 0 rfl dX7_round_0 ?_
  refine V_iconst hG 0 rfl dX7_round_1 ?_
  obtain ⟨S_1, eS_1, h⟩ := be_of h
  refine p7_160 hM hG eS_1 dX7_round_2 ?_
  refine V_aload_n hG 0 rfl dX7_round_5 ?_
  refine V_iload_n hG 1 rfl dX7_round_6 ?_
  obtain ⟨r_3, hc_2, h⟩ := bd_of h
  refine V_callV0 hE hG (As := [.int p1]) (rest := []) (ok_tw_isHorse hE hM hc_2) hM.1 (by decide) rfl hw7_459 hd_tw_isHorse ⟨Nat.le_of_ble_eq_true rfl, Nat.le_of_ble_eq_true rfl⟩ rfl rfl (Nat.le_of_ble_eq_true rfl) rfl rfl dX7_round_7 ?_
  refine V_if_ne hG 15 dX7_round_10 (by decide) (fun c_4 => ?_) (fun c_4 => ?_)
  · have h := if_f c_4 h
    refine V_aload_n hG 0 rfl dX7_round_15 ?_
    refine g7_243 hM hG dX7_round_16 ?_
    refine V_if_ne hG 24 dX7_round_19 (by decide) (fun c_5 => ?_) (fun c_5 => ?_)
    · have h := if_f c_5 h
      refine V_aload_n hG 0 rfl dX7_round_24 ?_
      refine g7_30 hM hG dX7_round_25 ?_
      refine V_iconst hG 0 rfl dX7_round_28 ?_
      refine T_iaload hM hG (by decide) (by decide) dX7_round_29 ?_
      obtain ⟨x2_6, ex2_6, h⟩ := be_of h
      refine V_topi ex2_6 ?_
      refine V_istore_n hG rfl [(2, .int x2_6), (0, rf E o), (1, .int p1)] dX7_round_30 (Nat.le_of_ble_eq_true rfl) rfl ?_
      refine V_aload_n hG 1 rfl dX7_round_31 ?_
      refine g7_30 hM hG dX7_round_32 ?_
      refine V_iconst hG 0 rfl dX7_round_35 ?_
      refine T_iaload hM hG (by decide) (by decide) dX7_round_36 ?_
      obtain ⟨x3_7, ex3_7, h⟩ := be_of h
      refine V_topi ex3_7 ?_
      refine V_istore_n hG rfl [(3, .int x3_7), (2, .int x2_6), (0, rf E o), (1, .int p1)] dX7_round_37 (Nat.le_of_ble_eq_true rfl) rfl ?_
      refine V_iconst hG 1 rfl dX7_round_38 ?_
      refine V_istore hG [(4, .int 1), (3, .int x3_7), (2, .int x2_6), (0, rf E o), (1, .int p1)] dX7_round_39 (Nat.le_of_ble_eq_true rfl) rfl ?_
      obtain ⟨x4_16, x3_17, x2_18, hL_19, h⟩ := bd3_of h
      have J_12 : ∀ q_20 : Int32 × Int32 × Int32, q_20 = (x4_16, x3_17, x2_18) → V E G (tw o S_1 M0) 0 0 6 102 [(4, .int q_20.1), (3, .int q_20.2.1), (2, .int q_20.2.2), (0, rf E o), (1, .int p1)] [] Q := by
        intro q_20 e9
        subst q_20
        show V E G (tw o S_1 M0) 0 0 6 102 [(4, .int x4_16), (3, .int x3_17), (2, .int x2_18), (0, rf E o), (1, .int p1)] [] Q
        refine V_aload_n hG 3 rfl dX7_round_102 ?_
        refine g7_94 hM hG dX7_round_103 ?_
        refine V_iload_n hG 4 rfl dX7_round_106 ?_
        obtain ⟨g_21, h⟩ := gd_of h
        refine T_iaload hM hG (by decide) g_21 dX7_round_107 ?_
        refine V_iload_n hG 2 rfl dX7_round_108 ?_
        refine V_isub hG dX7_round_109 ?_
        obtain ⟨r_23, hc_22, h⟩ := bd_of h
        refine V_callS0 hE hG (As := [.int ((tI S_1 27 (Int32.toNatClampNeg p1)) - x2_18)]) (rest := []) (ok_tw_sizeOf hE hM hc_22) hw7_398 hd_tw_sizeOf ⟨Nat.le_of_ble_eq_true rfl, Nat.le_of_ble_eq_true rfl⟩ rfl rfl (Nat.le_of_ble_eq_true rfl) rfl rfl dX7_round_110 ?_
        refine V_istore hG [(4, .int r_23), (3, .int x3_17), (2, .int x2_18), (0, rf E o), (1, .int p1)] dX7_round_113 (Nat.le_of_ble_eq_true rfl) rfl ?_
        refine V_aload_n hG 3 rfl dX7_round_115 ?_
        refine g7_94 hM hG dX7_round_116 ?_
        refine V_iload_n hG 4 rfl dX7_round_119 ?_
        obtain ⟨g_24, h⟩ := gd_of h
        refine T_iaload hM hG (by decide) g_24 dX7_round_120 ?_
        refine V_iload_n hG 1 rfl dX7_round_121 ?_
        refine V_isub hG dX7_round_122 ?_
        obtain ⟨r_26, hc_25, h⟩ := bd_of h
        refine V_callS0 hE hG (As := [.int ((tI S_1 27 (Int32.toNatClampNeg p1)) - x3_17)]) (rest := []) (ok_tw_sizeOf hE hM hc_25) hw7_398 hd_tw_sizeOf ⟨Nat.le_of_ble_eq_true rfl, Nat.le_of_ble_eq_true rfl⟩ rfl rfl (Nat.le_of_ble_eq_true rfl) rfl rfl dX7_round_123 ?_
        refine V_istore hG [(5, .int r_26), (4, .int r_23), (3, .int x3_17), (2, .int x2_18), (0, rf E o), (1, .int p1)] dX7_round_126 (Nat.le_of_ble_eq_true rfl) rfl ?_
        refine V_iload_n hG 2 rfl dX7_round_128 ?_
        refine V_iload_n hG 3 rfl dX7_round_129 ?_
        refine V_isub hG dX7_round_130 ?_
        refine V_iload hG 1 rfl dX7_round_131 ?_
        refine V_iload hG 0 rfl dX7_round_133 ?_
        obtain ⟨t_27, et_27, h⟩ := be_of h
        have J_28 : ∀ y_30 : Int32, y_30 = t_27 → V E G (tw o S_1 M0) 0 0 6 145 [(5, .int r_26), (4, .int r_23), (3, .int x3_17), (2, .int x2_18), (0, rf E o), (1, .int p1)] [.int y_30, .int (x3_17 - x2_18)] Q := by
          intro y_30 ey
          subst ey
          refine V_iadd hG dX7_round_145 ?_
          cases h
          subst eQ
          exact V_iret hG dX7_round_146
        refine V_icmp_ge hG 143 dX7_round_135 (by decide) (fun c_29 => ?_) (fun c_29 => ?_)
        · refine V_iload hG 0 rfl dX7_round_143 ?_
          exact J_28 _ (by rw [et_27, if_pos c_29])
        · refine V_iload hG 1 rfl dX7_round_138 ?_
          refine V_goto hG 145 dX7_round_140 (by decide) ?_
          exact J_28 _ (by rw [et_27, if_neg c_29])
      refine lp_walk (W := fun s_31 : Int32 × Int32 × Int32 => V E G (tw o S_1 M0) 0 0 6 41 [(4, .int s_31.1), (3, .int s_31.2.1), (2, .int s_31.2.2), (0, rf E o), (1, .int p1)] [] Q) ?_ N (1, x3_7, x2_6) hL_19
      intro s_31 b_8 hb_9 hk_10 hx_11
      obtain ⟨x4_13, x3_14, x2_15⟩ := s_31
      have hb_9 : tw_round_b1 N p1 S_1 x4_13 x3_14 x2_15 = some b_8 := hb_9
      unfold tw_round_b1 at hb_9
      show V E G (tw o S_1 M0) 0 0 6 41 [(4, .int x4_13), (3, .int x3_14), (2, .int x2_15), (0, rf E o), (1, .int p1)] [] Q
      refine V_iload hG 0 rfl dX7_round_41 ?_
      refine V_aload_n hG 3 rfl dX7_round_43 ?_
      refine g7_243 hM hG dX7_round_44 ?_
      refine V_icmp_ge hG 102 dX7_round_47 (by decide) (fun c_32 => ?_) (fun c_32 => ?_)
      · have hb_9 := if_t c_32 hb_9
        cases hb_9
        exact J_12 _ (hx_11 _ rfl)
      · have hb_9 := if_f c_32 hb_9
        refine V_aload_n hG 3 rfl dX7_round_50 ?_
        refine g7_30 hM hG dX7_round_51 ?_
        refine V_iload hG 0 rfl dX7_round_54 ?_
        obtain ⟨g_33, hb_9⟩ := gd_of hb_9
        refine T_iaload hM hG (by decide) g_33 dX7_round_56 ?_
        refine V_iload_n hG 2 rfl dX7_round_57 ?_
        obtain ⟨t_34, hj_36, hb_9⟩ := bd_of hb_9
        have J_35 : V E G (tw o S_1 M0) 0 0 6 72 [(4, .int x4_13), (3, .int x3_14), (2, .int x2_15), (0, rf E o), (1, .int p1)] [.int t_34] Q := by
          refine V_istore_n hG rfl [(2, .int t_34), (4, .int x4_13), (3, .int x3_14), (0, rf E o), (1, .int p1)] dX7_round_72 (Nat.le_of_ble_eq_true rfl) rfl ?_
          refine V_aload_n hG 3 rfl dX7_round_73 ?_
          refine g7_30 hM hG dX7_round_74 ?_
          refine V_iload hG 1 rfl dX7_round_77 ?_
          obtain ⟨g_37, hb_9⟩ := gd_of hb_9
          refine T_iaload hM hG (by decide) g_37 dX7_round_79 ?_
          refine V_iload_n hG 2 rfl dX7_round_80 ?_
          obtain ⟨t_38, hj_40, hb_9⟩ := bd_of hb_9
          have J_39 : V E G (tw o S_1 M0) 0 0 6 95 [(2, .int t_34), (4, .int x4_13), (3, .int x3_14), (0, rf E o), (1, .int p1)] [.int t_38] Q := by
            refine V_istore_n hG rfl [(3, .int t_38), (2, .int t_34), (4, .int x4_13), (0, rf E o), (1, .int p1)] dX7_round_95 (Nat.le_of_ble_eq_true rfl) rfl ?_
            obtain ⟨x4_41, ex4_41, hb_9⟩ := be_of hb_9
            refine V_iinc hG 2 x4_41 rfl (by rw [ex4_41]; rfl) [(4, .int x4_41), (3, .int t_38), (2, .int t_34), (0, rf E o), (1, .int p1)] dX7_round_96 (Nat.le_of_ble_eq_true rfl) rfl ?_
            refine V_goto hG 41 dX7_round_99 (by decide) ?_
            cases hb_9
            exact hk_10 _ rfl
          refine V_icmp_le hG 94 dX7_round_81 (by decide) (fun c_42 => ?_) (fun c_42 => ?_)
          · have hj_40 := if_t c_42 hj_40
            refine V_iload_n hG 2 rfl dX7_round_94 ?_
            cases hj_40
            exact J_39
          · have hj_40 := if_f c_42 hj_40
            refine V_aload_n hG 3 rfl dX7_round_84 ?_
            refine g7_30 hM hG dX7_round_85 ?_
            refine V_iload hG 1 rfl dX7_round_88 ?_
            obtain ⟨g_43, hj_40⟩ := gd_of hj_40
            refine T_iaload hM hG (by decide) g_43 dX7_round_90 ?_
            refine V_goto hG 95 dX7_round_91 (by decide) ?_
            cases hj_40
            exact J_39
        refine V_icmp_ge hG 71 dX7_round_58 (by decide) (fun c_44 => ?_) (fun c_44 => ?_)
        · have hj_36 := if_t c_44 hj_36
          refine V_iload_n hG 2 rfl dX7_round_71 ?_
          cases hj_36
          exact J_35
        · have hj_36 := if_f c_44 hj_36
          refine V_aload_n hG 3 rfl dX7_round_61 ?_
          refine g7_30 hM hG dX7_round_62 ?_
          refine V_iload hG 0 rfl dX7_round_65 ?_
          obtain ⟨g_45, hj_36⟩ := gd_of hj_36
          refine T_iaload hM hG (by decide) g_45 dX7_round_67 ?_
          refine V_goto hG 72 dX7_round_68 (by decide) ?_
          cases hj_36
          exact J_35
    · have h := if_t c_5 h
      refine V_iconst hG 0 rfl dX7_round_22 ?_
      cases h
      subst eQ
      exact V_iret hG dX7_round_23
  · have h := if_t c_4 h
    refine V_iconst hG (-1) rfl dX7_round_13 ?_
    cases h
    subst eQ
    exact V_iret hG dX7_round_14

def tw_runsDry_b1 (N : Nat) (p1 : Int32) (x2_12 : Int32) (S_13 : TS) : Option (((Int32 × TS) ⊕ (Int32 × TS)) ⊕ (Int32 × TS)) :=
if 200 ≤ x2_12 then (
some (.inl (.inl (x2_12, S_13))))
else (
gd (inb (6 + p1) (lenA 33)) (
if tI S_13 33 (Int32.toNatClampNeg (6 + p1)) = 0 then (
some (.inl (.inr (x2_12, S_13))))
else (
bd (tw_hourGoes N 1 S_13) fun S_26 =>
be (x2_12 + 1) fun (x2_27 : Int32) =>
some (.inr (x2_27, S_26)))))
def tw_runsDry (N : Nat) (p1 : Int32) (S : TS) : Option (Int32 × TS) :=
be (tsI S 0 2 0) fun S_1 =>
bd (tw_isTrough p1 S_1) fun r_3 =>
if r_3 = 0 then (
some ((-1), S_1))
else (
bd (tw_layTried N S_1) fun S_6 =>
bx2 (lp N (fun s_21 : Int32 × TS => tw_runsDry_b1 N p1 s_21.1 s_21.2) (0, S_6)) (fun (x2_15 : Int32) (S_16 : TS) =>
some ((-2), S_16)) (fun (w_30 : Int32 × TS) => some w_30))
def rm_tw_runsDry : Room := { frames := 6, cells := 0, slots := 0, locals := 147 }
theorem ok_tw_runsDry {E : En} (hE : EOk E) {o : Nat} {M0 : Mem} (hM : TwS o M0) {N : Nat} {p1 : Int32} {S : TS} {r : Int32} {S' : TS} (h : tw_runsDry N p1 S = some (r, S')) : CM E yX7_runsDry cX7_runsDry 3 (some .int) rm_tw_runsDry [rf E o, .int p1] (tw o S M0) (some (.int r)) (tw o S' M0) := by
  unfold tw_runsDry at h
  refine CM_intro (own := RX7) rfl (by decide) (Nat.le_of_ble_eq_true rfl) rfl (fun G hG => ?_)
  obtain ⟨Q, eQ⟩ : ∃ Q, Q = QM E G (some (.int r)) (tw o S' M0) 0 0 := ⟨_, rfl⟩
  show V E G (tw o S M0) 0 0 3 0 [(0, rf E o), (1, .int p1)] [] (QM E G (some (.int r)) (tw o S' M0) 0 0)
  rw [← eQ]
  refine V_aload_n hG 0 rfl dX7_runsDry_0 ?_
  refine V_iconst hG 0 rfl dX7_runsDry_1 ?_
  obtain ⟨S_1, eS_1, h⟩ := be_of h
  refine p7_160 hM hG eS_1 dX7_runsDry_2 ?_
  refine V_aload_n hG 0 rfl dX7_runsDry_5 ?_
  refine V_iload_n hG 1 rfl dX7_runsDry_6 ?_
  obtain ⟨r_3, hc_2, h⟩ := bd_of h
  refine V_callV0 hE hG (As := [.int p1]) (rest := []) (ok_tw_isTrough hE hM hc_2) hM.1 (by decide) rfl hw7_465 hd_tw_isTrough ⟨Nat.le_of_ble_eq_true rfl, Nat.le_of_ble_eq_true rfl⟩ rfl rfl (Nat.le_of_ble_eq_true rfl) rfl rfl dX7_runsDry_7 ?_
  refine V_if_ne hG 15 dX7_runsDry_10 (by decide) (fun c_4 => ?_) (fun c_4 => ?_)
  · have h := if_f c_4 h
    refine V_aload_n hG 0 rfl dX7_runsDry_15 ?_
    obtain ⟨S_6, hc_5, h⟩ := bd_of h
    refine V_callV0 hE hG (As := []) (rest := []) (ok_tw_layTried hE hM hc_5) hM.1 (by decide) rfl hw7_473 hd_tw_layTried ⟨Nat.le_of_ble_eq_true rfl, Nat.le_of_ble_eq_true rfl⟩ rfl rfl (Nat.le_of_ble_eq_true rfl) rfl rfl dX7_runsDry_16 ?_
    refine V_iconst hG 0 rfl dX7_runsDry_19 ?_
    refine V_istore_n hG rfl [(2, .int 0), (0, rf E o), (1, .int p1)] dX7_runsDry_20 (Nat.le_of_ble_eq_true rfl) rfl ?_
    obtain ⟨rr_18, hL_17, hl_19, hr_14⟩ := bx2_of h
    have J_11 : ∀ q_20 : Int32 × TS, Sum.inl q_20 = rr_18 → V E G (tw o q_20.2 M0) 0 0 3 53 [(2, .int q_20.1), (0, rf E o), (1, .int p1)] [] Q := by
      intro q_20 e9
      obtain ⟨x2_15, S_16⟩ := q_20
      have h := hl_19 x2_15 S_16 e9.symm
      show V E G (tw o S_16 M0) 0 0 3 53 [(2, .int x2_15), (0, rf E o), (1, .int p1)] [] Q
      refine V_bipush hG (-2) (by decide) dX7_runsDry_53 ?_
      cases h
      subst eQ
      exact V_iret hG dX7_runsDry_55
    refine lp_walk (W := fun s_21 : Int32 × TS => V E G (tw o s_21.2 M0) 0 0 3 21 [(2, .int s_21.1), (0, rf E o), (1, .int p1)] [] Q) ?_ N (0, S_6) hL_17
    intro s_21 b_7 hb_8 hk_9 hx_10
    obtain ⟨x2_12, S_13⟩ := s_21
    have hb_8 : tw_runsDry_b1 N p1 x2_12 S_13 = some b_7 := hb_8
    unfold tw_runsDry_b1 at hb_8
    show V E G (tw o S_13 M0) 0 0 3 21 [(2, .int x2_12), (0, rf E o), (1, .int p1)] [] Q
    refine V_iload_n hG 0 rfl dX7_runsDry_21 ?_
    refine V_sipush hG 200 (by decide) dX7_runsDry_22 ?_
    refine V_icmp_ge hG 53 dX7_runsDry_25 (by decide) (fun c_22 => ?_) (fun c_22 => ?_)
    · have hb_8 := if_t c_22 hb_8
      cases hb_8
      exact J_11 _ (hx_10 _ rfl)
    · have hb_8 := if_f c_22 hb_8
      refine V_aload_n hG 1 rfl dX7_runsDry_28 ?_
      refine g7_112 hM hG dX7_runsDry_29 ?_
      refine V_bipush hG 6 (by decide) dX7_runsDry_32 ?_
      refine V_iload_n hG 2 rfl dX7_runsDry_34 ?_
      refine V_iadd hG dX7_runsDry_35 ?_
      obtain ⟨g_23, hb_8⟩ := gd_of hb_8
      refine T_iaload hM hG (by decide) g_23 dX7_runsDry_36 ?_
      refine V_if_ne hG 42 dX7_runsDry_37 (by decide) (fun c_24 => ?_) (fun c_24 => ?_)
      · have hb_8 := if_f c_24 hb_8
        refine V_aload_n hG 1 rfl dX7_runsDry_42 ?_
        refine V_iconst hG 1 rfl dX7_runsDry_43 ?_
        obtain ⟨S_26, hc_25, hb_8⟩ := bd_of hb_8
        refine V_callV0 hE hG (As := [.int 1]) (rest := []) (ok_tw_hourGoes hE hM hc_25) hM.1 (by decide) rfl hw7_456 hd_tw_hourGoes ⟨Nat.le_of_ble_eq_true rfl, Nat.le_of_ble_eq_true rfl⟩ rfl rfl (Nat.le_of_ble_eq_true rfl) rfl rfl dX7_runsDry_44 ?_
        obtain ⟨x2_27, ex2_27, hb_8⟩ := be_of hb_8
        refine V_iinc hG 0 x2_27 rfl (by rw [ex2_27]; rfl) [(2, .int x2_27), (0, rf E o), (1, .int p1)] dX7_runsDry_47 (Nat.le_of_ble_eq_true rfl) rfl ?_
        refine V_goto hG 21 dX7_runsDry_50 (by decide) ?_
        cases hb_8
        exact hk_9 _ rfl
      · have hb_8 := if_t c_24 hb_8
        refine V_iload_n hG 0 rfl dX7_runsDry_40 ?_
        cases hb_8
        have e_28 := hx_10 _ rfl
        have h_29 : some (x2_12, S_13) = some (r, S') := hr_14 _ e_28.symm
        cases h_29
        subst eQ
        exact V_iret hG dX7_runsDry_41
  · have h := if_t c_4 h
    refine V_iconst hG (-1) rfl dX7_runsDry_13 ?_
    cases h
    subst eQ
    exact V_iret hG dX7_runsDry_14

def tw_see (p1 : Int32) (p2 : Int32) (p3 : Int32) (p4 : Int32) (S : TS) : Option (Int32 × TS) :=
be (tsI S 0 2 0) fun S_1 =>
bd2 (if tI S_1 0 74 = 24 then (
some ((-1), S_1))
else (
bd (tw_isIn p1 1 60 S_1) fun r_8 =>
if r_8 = 0 then (
some ((-1), S_1))
else (
bd (tw_isTrough p2 S_1) fun r_11 =>
if r_11 = 0 then (
some ((-1), S_1))
else (
bd (tw_isIn p3 0 99 S_1) fun r_14 =>
if r_14 = 0 then (
some ((-1), S_1))
else (
be (if p4 = 0 then (
0)
else (
1) : Int32) fun (y_19 : Int32) =>
bd2 (tw_noted p1 p2 p3 y_19 S_1) fun r_22 S_21 =>
some (r_22, S_21))))) : Option (Int32 × TS)) fun (t_2 : Int32) (S_3 : TS) =>
some (t_2, S_3)
def rm_tw_see : Room := { frames := 1, cells := 0, slots := 0, locals := 24 }
theorem ok_tw_see {E : En} (hE : EOk E) {o : Nat} {M0 : Mem} (hM : TwS o M0) {p1 : Int32} {p2 : Int32} {p3 : Int32} {p4 : Int32} {S : TS} {r : Int32} {S' : TS} (h : tw_see p1 p2 p3 p4 S = some (r, S')) : CM E yX7_see cX7_see 5 (some .int) rm_tw_see [rf E o, .int p1, .int p2, .int p3, .int p4] (tw o S M0) (some (.int r)) (tw o S' M0) := by
  unfold tw_see at h
  refine CM_intro (own := RX7) rfl (by decide) (Nat.le_of_ble_eq_true rfl) rfl (fun G hG => ?_)
  obtain ⟨Q, eQ⟩ : ∃ Q, Q = QM E G (some (.int r)) (tw o S' M0) 0 0 := ⟨_, rfl⟩
  show V E G (tw o S M0) 0 0 5 0 [(0, rf E o), (1, .int p1), (2, .int p2), (3, .int p3), (4, .int p4)] [] (QM E G (some (.int r)) (tw o S' M0) 0 0)
  rw [← eQ]
  refine V_aload_n hG 0 rfl dX7_see_0 ?_
  refine V_iconst hG 0 rfl dX7_see_1 ?_
  obtain ⟨S_1, eS_1, h⟩ := be_of h
  refine p7_160 hM hG eS_1 dX7_see_2 ?_
  refine V_aload_n hG 0 rfl dX7_see_5 ?_
  refine g7_377 hM hG dX7_see_6 ?_
  refine V_bipush hG 24 (by decide) dX7_see_9 ?_
  obtain ⟨t_2, S_3, hj_5, h⟩ := bd2_of h
  have J_4 : V E G (tw o S_3 M0) 0 0 5 63 [(0, rf E o), (1, .int p1), (2, .int p2), (3, .int p3), (4, .int p4)] [.int t_2] Q := by
    cases h
    subst eQ
    exact V_iret hG dX7_see_63
  refine V_icmp_eq hG 42 dX7_see_11 (by decide) (fun c_6 => ?_) (fun c_6 => ?_)
  · have hj_5 := if_t c_6 hj_5
    refine V_iconst hG (-1) rfl dX7_see_42 ?_
    refine V_goto hG 63 dX7_see_43 (by decide) ?_
    cases hj_5
    exact J_4
  · have hj_5 := if_f c_6 hj_5
    refine V_iload_n hG 1 rfl dX7_see_14 ?_
    refine V_iconst hG 1 rfl dX7_see_15 ?_
    refine V_bipush hG 60 (by decide) dX7_see_16 ?_
    obtain ⟨r_8, hc_7, hj_5⟩ := bd_of hj_5
    refine V_callS0 hE hG (As := [.int p1, .int 1, .int 60]) (rest := []) (ok_tw_isIn hE hM hc_7) hw7_205 hd_tw_isIn ⟨Nat.le_of_ble_eq_true rfl, Nat.le_of_ble_eq_true rfl⟩ rfl rfl (Nat.le_of_ble_eq_true rfl) rfl rfl dX7_see_18 ?_
    refine V_if_eq hG 42 dX7_see_21 (by decide) (fun c_9 => ?_) (fun c_9 => ?_)
    · have hj_5 := if_t c_9 hj_5
      refine V_iconst hG (-1) rfl dX7_see_42 ?_
      refine V_goto hG 63 dX7_see_43 (by decide) ?_
      cases hj_5
      exact J_4
    · have hj_5 := if_f c_9 hj_5
      refine V_aload_n hG 0 rfl dX7_see_24 ?_
      refine V_iload_n hG 2 rfl dX7_see_25 ?_
      obtain ⟨r_11, hc_10, hj_5⟩ := bd_of hj_5
      refine V_callV0 hE hG (As := [.int p2]) (rest := []) (ok_tw_isTrough hE hM hc_10) hM.1 (by decide) rfl hw7_465 hd_tw_isTrough ⟨Nat.le_of_ble_eq_true rfl, Nat.le_of_ble_eq_true rfl⟩ rfl rfl (Nat.le_of_ble_eq_true rfl) rfl rfl dX7_see_26 ?_
      refine V_if_eq hG 42 dX7_see_29 (by decide) (fun c_12 => ?_) (fun c_12 => ?_)
      · have hj_5 := if_t c_12 hj_5
        refine V_iconst hG (-1) rfl dX7_see_42 ?_
        refine V_goto hG 63 dX7_see_43 (by decide) ?_
        cases hj_5
        exact J_4
      · have hj_5 := if_f c_12 hj_5
        refine V_iload_n hG 3 rfl dX7_see_32 ?_
        refine V_iconst hG 0 rfl dX7_see_33 ?_
        refine V_bipush hG 99 (by decide) dX7_see_34 ?_
        obtain ⟨r_14, hc_13, hj_5⟩ := bd_of hj_5
        refine V_callS0 hE hG (As := [.int p3, .int 0, .int 99]) (rest := []) (ok_tw_isIn hE hM hc_13) hw7_205 hd_tw_isIn ⟨Nat.le_of_ble_eq_true rfl, Nat.le_of_ble_eq_true rfl⟩ rfl rfl (Nat.le_of_ble_eq_true rfl) rfl rfl dX7_see_36 ?_
        refine V_if_ne hG 46 dX7_see_39 (by decide) (fun c_15 => ?_) (fun c_15 => ?_)
        · have hj_5 := if_f c_15 hj_5
          refine V_aload_n hG 0 rfl dX7_see_46 ?_
          refine V_iload_n hG 1 rfl dX7_see_47 ?_
          refine V_iload_n hG 2 rfl dX7_see_48 ?_
          refine V_iload_n hG 3 rfl dX7_see_49 ?_
          refine V_iload hG 4 rfl dX7_see_50 ?_
          obtain ⟨t_16, et_16, hj_5⟩ := be_of hj_5
          have J_17 : ∀ y_19 : Int32, y_19 = t_16 → V E G (tw o S_1 M0) 0 0 5 60 [(0, rf E o), (1, .int p1), (2, .int p2), (3, .int p3), (4, .int p4)] [.int y_19, .int p3, .int p2, .int p1, rf E o] Q := by
            intro y_19 ey
            subst ey
            obtain ⟨r_22, S_21, hc_20, hj_5⟩ := bd2_of hj_5
            refine V_callV0 hE hG (As := [.int p1, .int p2, .int p3, .int y_19]) (rest := []) (ok_tw_noted hE hM hc_20) hM.1 (by decide) rfl hw7_508 hd_tw_noted ⟨Nat.le_of_ble_eq_true rfl, Nat.le_of_ble_eq_true rfl⟩ rfl rfl (Nat.le_of_ble_eq_true rfl) rfl rfl dX7_see_60 ?_
            cases hj_5
            exact J_4
          refine V_if_eq hG 59 dX7_see_52 (by decide) (fun c_18 => ?_) (fun c_18 => ?_)
          · refine V_iconst hG 0 rfl dX7_see_59 ?_
            exact J_17 _ (by rw [et_16, if_pos c_18])
          · refine V_iconst hG 1 rfl dX7_see_55 ?_
            refine V_goto hG 60 dX7_see_56 (by decide) ?_
            exact J_17 _ (by rw [et_16, if_neg c_18])
        · have hj_5 := if_t c_15 hj_5
          refine V_iconst hG (-1) rfl dX7_see_42 ?_
          refine V_goto hG 63 dX7_see_43 (by decide) ?_
          cases hj_5
          exact J_4

def tw_send (N : Nat) (p1 : Int32) (p2 : Int32) (S : TS) : Option (Int32 × TS) :=
be (tsI S 0 2 0) fun S_1 =>
bd (tw_isHorse p1 S_1) fun r_3 =>
if r_3 = 0 then (
some ((-1), S_1))
else (
bd (tw_isTrough p2 S_1) fun r_6 =>
if r_6 = 0 then (
some ((-1), S_1))
else (
gd (inb p1 (lenA 31)) (
if tI S_1 31 (Int32.toNatClampNeg p1) = 0 then (
some ((-1), S_1))
else (
gd (inb p1 (lenA 29)) (
if tI S_1 29 (Int32.toNatClampNeg p1) = p2 then (
some ((-2), S_1))
else (
bd (tw_remember N S_1) fun S_13 =>
gd (inb p1 (lenA 29)) (
be (tsI S_13 29 (Int32.toNatClampNeg p1) p2) fun S_15 =>
bd (tw_farOf 0 p1 S_15) fun r_17 =>
some (r_17, S_15))))))))
def rm_tw_send : Room := { frames := 2, cells := 0, slots := 0, locals := 44 }
theorem ok_tw_send {E : En} (hE : EOk E) {o : Nat} {M0 : Mem} (hM : TwS o M0) {N : Nat} {p1 : Int32} {p2 : Int32} {S : TS} {r : Int32} {S' : TS} (h : tw_send N p1 p2 S = some (r, S')) : CM E yX7_send cX7_send 3 (some .int) rm_tw_send [rf E o, .int p1, .int p2] (tw o S M0) (some (.int r)) (tw o S' M0) := by
  unfold tw_send at h
  refine CM_intro (own := RX7) rfl (by decide) (Nat.le_of_ble_eq_true rfl) rfl (fun G hG => ?_)
  obtain ⟨Q, eQ⟩ : ∃ Q, Q = QM E G (some (.int r)) (tw o S' M0) 0 0 := ⟨_, rfl⟩
  show V E G (tw o S M0) 0 0 3 0 [(0, rf E o), (1, .int p1), (2, .int p2)] [] (QM E G (some (.int r)) (tw o S' M0) 0 0)
  rw [← eQ]
  refine V_aload_n hG 0 rfl dX7_send_0 ?_
  refine V_iconst hG 0 rfl dX7_send_1 ?_
  obtain ⟨S_1, eS_1, h⟩ := be_of h
  refine p7_160 hM hG eS_1 dX7_send_2 ?_
  refine V_aload_n hG 0 rfl dX7_send_5 ?_
  refine V_iload_n hG 1 rfl dX7_send_6 ?_
  obtain ⟨r_3, hc_2, h⟩ := bd_of h
  refine V_callV0 hE hG (As := [.int p1]) (rest := []) (ok_tw_isHorse hE hM hc_2) hM.1 (by decide) rfl hw7_459 hd_tw_isHorse ⟨Nat.le_of_ble_eq_true rfl, Nat.le_of_ble_eq_true rfl⟩ rfl rfl (Nat.le_of_ble_eq_true rfl) rfl rfl dX7_send_7 ?_
  refine V_if_eq hG 30 dX7_send_10 (by decide) (fun c_4 => ?_) (fun c_4 => ?_)
  · have h := if_t c_4 h
    refine V_iconst hG (-1) rfl dX7_send_30 ?_
    cases h
    subst eQ
    exact V_iret hG dX7_send_31
  · have h := if_f c_4 h
    refine V_aload_n hG 0 rfl dX7_send_13 ?_
    refine V_iload_n hG 2 rfl dX7_send_14 ?_
    obtain ⟨r_6, hc_5, h⟩ := bd_of h
    refine V_callV0 hE hG (As := [.int p2]) (rest := []) (ok_tw_isTrough hE hM hc_5) hM.1 (by decide) rfl hw7_465 hd_tw_isTrough ⟨Nat.le_of_ble_eq_true rfl, Nat.le_of_ble_eq_true rfl⟩ rfl rfl (Nat.le_of_ble_eq_true rfl) rfl rfl dX7_send_15 ?_
    refine V_if_eq hG 30 dX7_send_18 (by decide) (fun c_7 => ?_) (fun c_7 => ?_)
    · have h := if_t c_7 h
      refine V_iconst hG (-1) rfl dX7_send_30 ?_
      cases h
      subst eQ
      exact V_iret hG dX7_send_31
    · have h := if_f c_7 h
      refine V_aload_n hG 0 rfl dX7_send_21 ?_
      refine g7_106 hM hG dX7_send_22 ?_
      refine V_iload_n hG 1 rfl dX7_send_25 ?_
      obtain ⟨g_8, h⟩ := gd_of h
      refine T_zaload hM hG (by decide) g_8 dX7_send_26 ?_
      refine V_if_ne hG 32 dX7_send_27 (by decide) (fun c_9 => ?_) (fun c_9 => ?_)
      · have h := if_f c_9 h
        refine V_aload_n hG 0 rfl dX7_send_32 ?_
        refine g7_100 hM hG dX7_send_33 ?_
        refine V_iload_n hG 1 rfl dX7_send_36 ?_
        obtain ⟨g_10, h⟩ := gd_of h
        refine T_iaload hM hG (by decide) g_10 dX7_send_37 ?_
        refine V_iload_n hG 2 rfl dX7_send_38 ?_
        refine V_icmp_ne hG 45 dX7_send_39 (by decide) (fun c_11 => ?_) (fun c_11 => ?_)
        · have h := if_f c_11 h
          refine V_aload_n hG 0 rfl dX7_send_45 ?_
          obtain ⟨S_13, hc_12, h⟩ := bd_of h
          refine V_callV0 hE hG (As := []) (rest := []) (ok_tw_remember hE hM hc_12) hM.1 (by decide) rfl hw7_470 hd_tw_remember ⟨Nat.le_of_ble_eq_true rfl, Nat.le_of_ble_eq_true rfl⟩ rfl rfl (Nat.le_of_ble_eq_true rfl) rfl rfl dX7_send_46 ?_
          refine V_aload_n hG 0 rfl dX7_send_49 ?_
          refine g7_100 hM hG dX7_send_50 ?_
          refine V_iload_n hG 1 rfl dX7_send_53 ?_
          refine V_iload_n hG 2 rfl dX7_send_54 ?_
          obtain ⟨g_14, h⟩ := gd_of h
          obtain ⟨S_15, eS_15, h⟩ := be_of h
          refine T_iastore hM hG eS_15 (by decide) g_14 dX7_send_55 ?_
          refine V_aload_n hG 0 rfl dX7_send_56 ?_
          refine V_iconst hG 0 rfl dX7_send_57 ?_
          refine V_iload_n hG 1 rfl dX7_send_58 ?_
          obtain ⟨r_17, hc_16, h⟩ := bd_of h
          refine V_callV0 hE hG (As := [.int 0, .int p1]) (rest := []) (ok_tw_farOf hE hM hc_16) hM.1 (by decide) rfl hw7_407 hd_tw_farOf ⟨Nat.le_of_ble_eq_true rfl, Nat.le_of_ble_eq_true rfl⟩ rfl rfl (Nat.le_of_ble_eq_true rfl) rfl rfl dX7_send_59 ?_
          cases h
          subst eQ
          exact V_iret hG dX7_send_62
        · have h := if_t c_11 h
          refine V_bipush hG (-2) (by decide) dX7_send_42 ?_
          cases h
          subst eQ
          exact V_iret hG dX7_send_44
      · have h := if_t c_9 h
        refine V_iconst hG (-1) rfl dX7_send_30 ?_
        cases h
        subst eQ
        exact V_iret hG dX7_send_31

def tw_sendIn_b1 (N : Nat) (p1 : Int32) (p2 : Int32) (p3 : Int32) (x6_18 : Int32) (x5_19 : Int32) (x4_20 : Int32) (S_21 : TS) : Option ((Int32 × Int32 × Int32 × TS) ⊕ (Int32 × Int32 × Int32 × TS)) :=
if 20 < x6_18 then (
some (.inl (x6_18, x5_19, x4_20, S_21)))
else (
bd (tw_layTried N S_21) fun S_35 =>
bd (tw_goMany N x6_18 S_35) fun S_37 =>
gd (inb (6 + p1) (lenA 31)) (
bd (if tI S_37 31 (Int32.toNatClampNeg (6 + p1)) = 0 then (
gd (inb (6 + p1) (lenA 29)) (
some (tI S_37 29 (Int32.toNatClampNeg (6 + p1)))))
else (
some p2) : Option (Int32)) fun (t_39 : Int32) =>
gd (inb (6 + p1) (lenA 29)) (
be (tsI S_37 29 (Int32.toNatClampNeg (6 + p1)) t_39) fun S_43 =>
bd (tw_goMany N (40 - x6_18) S_43) fun S_45 =>
be ((tI S_45 34 (Int32.toNatClampNeg 1)) - (tI S_45 34 (Int32.toNatClampNeg 0))) fun (x7_46 : Int32) =>
bd2 (if x4_20 < 0 then (
some (x7_46, x6_18))
else (
if x7_46 < x5_19 then (
some (x7_46, x6_18))
else (
some (x5_19, x4_20))) : Option (Int32 × Int32)) fun (x5_47 : Int32) (x4_48 : Int32) =>
be (x6_18 + 1) fun (x6_51 : Int32) =>
some (.inr (x6_51, x5_47, x4_48, S_45)))))
def tw_sendIn (N : Nat) (p1 : Int32) (p2 : Int32) (p3 : Int32) (S : TS) : Option (Int32 × TS) :=
be (tsI S 0 2 0) fun S_1 =>
bd (tw_isHorse p1 S_1) fun r_3 =>
if r_3 = 0 then (
some ((-1), S_1))
else (
bd (tw_isTrough p2 S_1) fun r_6 =>
if r_6 = 0 then (
some ((-1), S_1))
else (
bd (tw_isIn p3 0 1 S_1) fun r_9 =>
if r_9 = 0 then (
some ((-1), S_1))
else (
gd (inb p1 (lenA 31)) (
if tI S_1 31 (Int32.toNatClampNeg p1) = 0 then (
some ((-2), S_1))
else (
bd4 (lp N (fun s_32 : Int32 × Int32 × Int32 × TS => tw_sendIn_b1 N p1 p2 p3 s_32.1 s_32.2.1 s_32.2.2.1 s_32.2.2.2) (0, 0, (-1), S_1)) fun (x6_22 : Int32) (x5_23 : Int32) (x4_24 : Int32) (S_25 : TS) =>
be (if p3 = 0 then (
x4_24)
else (
x5_23) : Int32) fun (y_31 : Int32) =>
some (y_31, S_25))))))
def rm_tw_sendIn : Room := { frames := 7, cells := 0, slots := 0, locals := 169 }
theorem ok_tw_sendIn {E : En} (hE : EOk E) {o : Nat} {M0 : Mem} (hM : TwS o M0) {N : Nat} {p1 : Int32} {p2 : Int32} {p3 : Int32} {S : TS} {r : Int32} {S' : TS} (h : tw_sendIn N p1 p2 p3 S = some (r, S')) : CM E yX7_sendIn cX7_sendIn 8 (some .int) rm_tw_sendIn [rf E o, .int p1, .int p2, .int p3] (tw o S M0) (some (.int r)) (tw o S' M0) := by
  unfold tw_sendIn at h
  refine CM_intro (own := RX7) rfl (by decide) (Nat.le_of_ble_eq_true rfl) rfl (fun G hG => ?_)
  obtain ⟨Q, eQ⟩ : ∃ Q, Q = QM E G (some (.int r)) (tw o S' M0) 0 0 := ⟨_, rfl⟩
  show V E G (tw o S M0) 0 0 8 0 [(0, rf E o), (1, .int p1), (2, .int p2), (3, .int p3)] [] (QM E G (some (.int r)) (tw o S' M0) 0 0)
  rw [← eQ]
  refine V_aload_n hG 0 rfl dX7_sendIn_0 ?_
  refine V_iconst hG 0 rfl dX7_sendIn_1 ?_
  obtain ⟨S_1, eS_1, h⟩ := be_of h
  refine p7_160 hM hG eS_1 dX7_sendIn_2 ?_
  refine V_aload_n hG 0 rfl dX7_sendIn_5 ?_
  refine V_iload_n hG 1 rfl dX7_sendIn_6 ?_
  obtain ⟨r_3, hc_2, h⟩ := bd_of h
  refine V_callV0 hE hG (As := [.int p1]) (rest := []) (ok_tw_isHorse hE hM hc_2) hM.1 (by decide) rfl hw7_459 hd_tw_isHorse ⟨Nat.le_of_ble_eq_true rfl, Nat.le_of_ble_eq_true rfl⟩ rfl rfl (Nat.le_of_ble_eq_true rfl) rfl rfl dX7_sendIn_7 ?_
  refine V_if_eq hG 30 dX7_sendIn_10 (by decide) (fun c_4 => ?_) (fun c_4 => ?_)
  · have h := if_t c_4 h
    refine V_iconst hG (-1) rfl dX7_sendIn_30 ?_
    cases h
    subst eQ
    exact V_iret hG dX7_sendIn_31
  · have h := if_f c_4 h
    refine V_aload_n hG 0 rfl dX7_sendIn_13 ?_
    refine V_iload_n hG 2 rfl dX7_sendIn_14 ?_
    obtain ⟨r_6, hc_5, h⟩ := bd_of h
    refine V_callV0 hE hG (As := [.int p2]) (rest := []) (ok_tw_isTrough hE hM hc_5) hM.1 (by decide) rfl hw7_465 hd_tw_isTrough ⟨Nat.le_of_ble_eq_true rfl, Nat.le_of_ble_eq_true rfl⟩ rfl rfl (Nat.le_of_ble_eq_true rfl) rfl rfl dX7_sendIn_15 ?_
    refine V_if_eq hG 30 dX7_sendIn_18 (by decide) (fun c_7 => ?_) (fun c_7 => ?_)
    · have h := if_t c_7 h
      refine V_iconst hG (-1) rfl dX7_sendIn_30 ?_
      cases h
      subst eQ
      exact V_iret hG dX7_sendIn_31
    · have h := if_f c_7 h
      refine V_iload_n hG 3 rfl dX7_sendIn_21 ?_
      refine V_iconst hG 0 rfl dX7_sendIn_22 ?_
      refine V_iconst hG 1 rfl dX7_sendIn_23 ?_
      obtain ⟨r_9, hc_8, h⟩ := bd_of h
      refine V_callS0 hE hG (As := [.int p3, .int 0, .int 1]) (rest := []) (ok_tw_isIn hE hM hc_8) hw7_205 hd_tw_isIn ⟨Nat.le_of_ble_eq_true rfl, Nat.le_of_ble_eq_true rfl⟩ rfl rfl (Nat.le_of_ble_eq_true rfl) rfl rfl dX7_sendIn_24 ?_
      refine V_if_ne hG 32 dX7_sendIn_27 (by decide) (fun c_10 => ?_) (fun c_10 => ?_)
      · have h := if_f c_10 h
        refine V_aload_n hG 0 rfl dX7_sendIn_32 ?_
        refine g7_106 hM hG dX7_sendIn_33 ?_
        refine V_iload_n hG 1 rfl dX7_sendIn_36 ?_
        obtain ⟨g_11, h⟩ := gd_of h
        refine T_zaload hM hG (by decide) g_11 dX7_sendIn_37 ?_
        refine V_if_ne hG 44 dX7_sendIn_38 (by decide) (fun c_12 => ?_) (fun c_12 => ?_)
        · have h := if_f c_12 h
          refine V_iconst hG (-1) rfl dX7_sendIn_44 ?_
          refine V_istore hG [(4, .int (-1)), (0, rf E o), (1, .int p1), (2, .int p2), (3, .int p3)] dX7_sendIn_45 (Nat.le_of_ble_eq_true rfl) rfl ?_
          refine V_iconst hG 0 rfl dX7_sendIn_47 ?_
          refine V_istore hG [(5, .int 0), (4, .int (-1)), (0, rf E o), (1, .int p1), (2, .int p2), (3, .int p3)] dX7_sendIn_48 (Nat.le_of_ble_eq_true rfl) rfl ?_
          refine V_iconst hG 0 rfl dX7_sendIn_50 ?_
          refine V_istore hG [(6, .int 0), (5, .int 0), (4, .int (-1)), (0, rf E o), (1, .int p1), (2, .int p2), (3, .int p3)] dX7_sendIn_51 (Nat.le_of_ble_eq_true rfl) rfl ?_
          obtain ⟨x6_22, x5_23, x4_24, S_25, hL_26, h⟩ := bd4_of h
          have J_17 : ∀ q_27 : Int32 × Int32 × Int32 × TS, q_27 = (x6_22, x5_23, x4_24, S_25) → V E G (tw o q_27.2.2.2 M0) 0 0 8 157 [(6, .int q_27.1), (5, .int q_27.2.1), (4, .int q_27.2.2.1), (0, rf E o), (1, .int p1), (2, .int p2), (3, .int p3)] [] Q := by
            intro q_27 e9
            subst q_27
            show V E G (tw o S_25 M0) 0 0 8 157 [(6, .int x6_22), (5, .int x5_23), (4, .int x4_24), (0, rf E o), (1, .int p1), (2, .int p2), (3, .int p3)] [] Q
            refine V_iload_n hG 6 rfl dX7_sendIn_157 ?_
            obtain ⟨t_28, et_28, h⟩ := be_of h
            have J_29 : ∀ y_31 : Int32, y_31 = t_28 → V E G (tw o S_25 M0) 0 0 8 168 [(6, .int x6_22), (5, .int x5_23), (4, .int x4_24), (0, rf E o), (1, .int p1), (2, .int p2), (3, .int p3)] [.int y_31] Q := by
              intro y_31 ey
              subst ey
              cases h
              subst eQ
              exact V_iret hG dX7_sendIn_168
            refine V_if_ne hG 166 dX7_sendIn_158 (by decide) (fun c_30 => ?_) (fun c_30 => ?_)
            · refine V_iload hG 1 rfl dX7_sendIn_166 ?_
              exact J_29 _ (by rw [et_28, if_neg c_30])
            · refine V_iload hG 2 rfl dX7_sendIn_161 ?_
              refine V_goto hG 168 dX7_sendIn_163 (by decide) ?_
              exact J_29 _ (by rw [et_28, if_pos c_30])
          refine lp_walk (W := fun s_32 : Int32 × Int32 × Int32 × TS => V E G (tw o s_32.2.2.2 M0) 0 0 8 53 [(6, .int s_32.1), (5, .int s_32.2.1), (4, .int s_32.2.2.1), (0, rf E o), (1, .int p1), (2, .int p2), (3, .int p3)] [] Q) ?_ N (0, 0, (-1), S_1) hL_26
          intro s_32 b_13 hb_14 hk_15 hx_16
          obtain ⟨x6_18, x5_19, x4_20, S_21⟩ := s_32
          have hb_14 : tw_sendIn_b1 N p1 p2 p3 x6_18 x5_19 x4_20 S_21 = some b_13 := hb_14
          unfold tw_sendIn_b1 at hb_14
          show V E G (tw o S_21 M0) 0 0 8 53 [(6, .int x6_18), (5, .int x5_19), (4, .int x4_20), (0, rf E o), (1, .int p1), (2, .int p2), (3, .int p3)] [] Q
          refine V_iload hG 0 rfl dX7_sendIn_53 ?_
          refine V_bipush hG 20 (by decide) dX7_sendIn_55 ?_
          refine V_icmp_gt hG 157 dX7_sendIn_57 (by decide) (fun c_33 => ?_) (fun c_33 => ?_)
          · have hb_14 := if_t c_33 hb_14
            cases hb_14
            exact J_17 _ (hx_16 _ rfl)
          · have hb_14 := if_f c_33 hb_14
            refine V_aload_n hG 3 rfl dX7_sendIn_60 ?_
            obtain ⟨S_35, hc_34, hb_14⟩ := bd_of hb_14
            refine V_callV0 hE hG (As := []) (rest := []) (ok_tw_layTried hE hM hc_34) hM.1 (by decide) rfl hw7_473 hd_tw_layTried ⟨Nat.le_of_ble_eq_true rfl, Nat.le_of_ble_eq_true rfl⟩ rfl rfl (Nat.le_of_ble_eq_true rfl) rfl rfl dX7_sendIn_61 ?_
            refine V_aload_n hG 3 rfl dX7_sendIn_64 ?_
            refine V_iload hG 0 rfl dX7_sendIn_65 ?_
            obtain ⟨S_37, hc_36, hb_14⟩ := bd_of hb_14
            refine V_callV0 hE hG (As := [.int x6_18]) (rest := []) (ok_tw_goMany hE hM hc_36) hM.1 (by decide) rfl hw7_476 hd_tw_goMany ⟨Nat.le_of_ble_eq_true rfl, Nat.le_of_ble_eq_true rfl⟩ rfl rfl (Nat.le_of_ble_eq_true rfl) rfl rfl dX7_sendIn_67 ?_
            refine V_aload_n hG 3 rfl dX7_sendIn_70 ?_
            refine g7_100 hM hG dX7_sendIn_71 ?_
            refine V_bipush hG 6 (by decide) dX7_sendIn_74 ?_
            refine V_iload_n hG 4 rfl dX7_sendIn_76 ?_
            refine V_iadd hG dX7_sendIn_77 ?_
            refine V_aload_n hG 3 rfl dX7_sendIn_78 ?_
            refine g7_106 hM hG dX7_sendIn_79 ?_
            refine V_bipush hG 6 (by decide) dX7_sendIn_82 ?_
            refine V_iload_n hG 4 rfl dX7_sendIn_84 ?_
            refine V_iadd hG dX7_sendIn_85 ?_
            obtain ⟨g_38, hb_14⟩ := gd_of hb_14
            refine T_zaload hM hG (by decide) g_38 dX7_sendIn_86 ?_
            obtain ⟨t_39, hj_41, hb_14⟩ := bd_of hb_14
            have J_40 : V E G (tw o S_37 M0) 0 0 8 103 [(6, .int x6_18), (5, .int x5_19), (4, .int x4_20), (0, rf E o), (1, .int p1), (2, .int p2), (3, .int p3)] [.int t_39, .int (6 + p1), rf E ((o + 29))] Q := by
              obtain ⟨g_42, hb_14⟩ := gd_of hb_14
              obtain ⟨S_43, eS_43, hb_14⟩ := be_of hb_14
              refine T_iastore hM hG eS_43 (by decide) g_42 dX7_sendIn_103 ?_
              refine V_aload_n hG 3 rfl dX7_sendIn_104 ?_
              refine V_bipush hG 40 (by decide) dX7_sendIn_105 ?_
              refine V_iload hG 0 rfl dX7_sendIn_107 ?_
              refine V_isub hG dX7_sendIn_109 ?_
              obtain ⟨S_45, hc_44, hb_14⟩ := bd_of hb_14
              refine V_callV0 hE hG (As := [.int (40 - x6_18)]) (rest := []) (ok_tw_goMany hE hM hc_44) hM.1 (by decide) rfl hw7_476 hd_tw_goMany ⟨Nat.le_of_ble_eq_true rfl, Nat.le_of_ble_eq_true rfl⟩ rfl rfl (Nat.le_of_ble_eq_true rfl) rfl rfl dX7_sendIn_110 ?_
              refine V_aload_n hG 3 rfl dX7_sendIn_113 ?_
              refine g7_115 hM hG dX7_sendIn_114 ?_
              refine V_iconst hG 1 rfl dX7_sendIn_117 ?_
              refine T_iaload hM hG (by decide) (by decide) dX7_sendIn_118 ?_
              refine V_aload_n hG 3 rfl dX7_sendIn_119 ?_
              refine g7_115 hM hG dX7_sendIn_120 ?_
              refine V_iconst hG 0 rfl dX7_sendIn_123 ?_
              refine T_iaload hM hG (by decide) (by decide) dX7_sendIn_124 ?_
              refine V_isub hG dX7_sendIn_125 ?_
              obtain ⟨x7_46, ex7_46, hb_14⟩ := be_of hb_14
              refine V_topi ex7_46 ?_
              refine V_istore hG [(7, .int x7_46), (6, .int x6_18), (5, .int x5_19), (4, .int x4_20), (0, rf E o), (1, .int p1), (2, .int p2), (3, .int p3)] dX7_sendIn_126 (Nat.le_of_ble_eq_true rfl) rfl ?_
              refine V_iload hG 3 rfl dX7_sendIn_128 ?_
              obtain ⟨x5_47, x4_48, hj_50, hb_14⟩ := bd2_of hb_14
              have J_49 : V E G (tw o S_45 M0) 0 0 8 151 [(5, .int x5_47), (4, .int x4_48), (7, .int x7_46), (6, .int x6_18), (0, rf E o), (1, .int p1), (2, .int p2), (3, .int p3)] [] Q := by
                obtain ⟨x6_51, ex6_51, hb_14⟩ := be_of hb_14
                refine V_iinc hG 3 x6_51 rfl (by rw [ex6_51]; rfl) [(6, .int x6_51), (5, .int x5_47), (4, .int x4_48), (7, .int x7_46), (0, rf E o), (1, .int p1), (2, .int p2), (3, .int p3)] dX7_sendIn_151 (Nat.le_of_ble_eq_true rfl) rfl ?_
                refine V_goto hG 53 dX7_sendIn_154 (by decide) ?_
                cases hb_14
                exact V_lv [0, 1, 2, 4, 5, 6, 7] rfl (hk_15 _ rfl)
              refine V_if_lt hG 143 dX7_sendIn_130 (by decide) (fun c_52 => ?_) (fun c_52 => ?_)
              · have hj_50 := if_t c_52 hj_50
                refine V_iload hG 1 rfl dX7_sendIn_143 ?_
                refine V_istore hG [(4, .int x6_18), (7, .int x7_46), (6, .int x6_18), (5, .int x5_19), (0, rf E o), (1, .int p1), (2, .int p2), (3, .int p3)] dX7_sendIn_145 (Nat.le_of_ble_eq_true rfl) rfl ?_
                refine V_iload hG 1 rfl dX7_sendIn_147 ?_
                refine V_istore hG [(5, .int x7_46), (4, .int x6_18), (7, .int x7_46), (6, .int x6_18), (0, rf E o), (1, .int p1), (2, .int p2), (3, .int p3)] dX7_sendIn_149 (Nat.le_of_ble_eq_true rfl) rfl ?_
                cases hj_50
                exact J_49
              · have hj_50 := if_f c_52 hj_50
                refine V_iload hG 0 rfl dX7_sendIn_133 ?_
                refine V_iload hG 2 rfl dX7_sendIn_135 ?_
                refine V_icmp_lt hG 143 dX7_sendIn_137 (by decide) (fun c_53 => ?_) (fun c_53 => ?_)
                · have hj_50 := if_t c_53 hj_50
                  refine V_iload hG 1 rfl dX7_sendIn_143 ?_
                  refine V_istore hG [(4, .int x6_18), (7, .int x7_46), (6, .int x6_18), (5, .int x5_19), (0, rf E o), (1, .int p1), (2, .int p2), (3, .int p3)] dX7_sendIn_145 (Nat.le_of_ble_eq_true rfl) rfl ?_
                  refine V_iload hG 1 rfl dX7_sendIn_147 ?_
                  refine V_istore hG [(5, .int x7_46), (4, .int x6_18), (7, .int x7_46), (6, .int x6_18), (0, rf E o), (1, .int p1), (2, .int p2), (3, .int p3)] dX7_sendIn_149 (Nat.le_of_ble_eq_true rfl) rfl ?_
                  cases hj_50
                  exact J_49
                · have hj_50 := if_f c_53 hj_50
                  refine V_goto hG 151 dX7_sendIn_140 (by decide) ?_
                  cases hj_50
                  exact V_lv [2, 3, 0, 1, 4, 5, 6, 7] rfl (J_49)
            refine V_if_eq hG 94 dX7_sendIn_87 (by decide) (fun c_54 => ?_) (fun c_54 => ?_)
            · have hj_41 := if_t c_54 hj_41
              refine V_aload_n hG 3 rfl dX7_sendIn_94 ?_
              refine g7_100 hM hG dX7_sendIn_95 ?_
              refine V_bipush hG 6 (by decide) dX7_sendIn_98 ?_
              refine V_iload_n hG 4 rfl dX7_sendIn_100 ?_
              refine V_iadd hG dX7_sendIn_101 ?_
              obtain ⟨g_55, hj_41⟩ := gd_of hj_41
              refine T_iaload hM hG (by decide) g_55 dX7_sendIn_102 ?_
              cases hj_41
              exact J_40
            · have hj_41 := if_f c_54 hj_41
              refine V_iload_n hG 5 rfl dX7_sendIn_90 ?_
              refine V_goto hG 103 dX7_sendIn_91 (by decide) ?_
              cases hj_41
              exact J_40
        · have h := if_t c_12 h
          refine V_bipush hG (-2) (by decide) dX7_sendIn_41 ?_
          cases h
          subst eQ
          exact V_iret hG dX7_sendIn_43
      · have h := if_t c_10 h
        refine V_iconst hG (-1) rfl dX7_sendIn_30 ?_
        cases h
        subst eQ
        exact V_iret hG dX7_sendIn_31

def tw_sides_b1 (N : Nat) (S_1 : TS) (x2_7 : Int32) (x1_8 : Int32) : Option ((Int32 × Int32) ⊕ (Int32 × Int32)) :=
if tI S_1 0 13 ≤ x2_7 then (
some (.inl (x2_7, x1_8)))
else (
gd (inb x2_7 (lenA 31)) (
bd (if tI S_1 31 (Int32.toNatClampNeg x2_7) = 0 then (
some 0)
else (
gd (inb x2_7 (lenA 10)) (
some (1 <<< ((tI S_1 10 (Int32.toNatClampNeg x2_7)) &&& 31)))) : Option (Int32)) fun (t_16 : Int32) =>
be (x1_8 ||| t_16) fun (x1_19 : Int32) =>
be (x2_7 + 1) fun (x2_20 : Int32) =>
some (.inr (x2_20, x1_19))))
def tw_sides (N : Nat)  (S : TS) : Option (Int32 × TS) :=
be (tsI S 0 2 0) fun S_1 =>
bd2 (lp N (fun s_13 : Int32 × Int32 => tw_sides_b1 N S_1 s_13.1 s_13.2) (0, 0)) fun (x2_9 : Int32) (x1_10 : Int32) =>
some (x1_10, S_1)
def rm_tw_sides : Room := { frames := 0, cells := 0, slots := 0, locals := 0 }
theorem ok_tw_sides {E : En} (hE : EOk E) {o : Nat} {M0 : Mem} (hM : TwS o M0) {N : Nat}  {S : TS} {r : Int32} {S' : TS} (h : tw_sides N  S = some (r, S')) : CM E yX7_sides cX7_sides 3 (some .int) rm_tw_sides [rf E o] (tw o S M0) (some (.int r)) (tw o S' M0) := by
  unfold tw_sides at h
  refine CM_intro (own := RX7) rfl (by decide) (Nat.le_of_ble_eq_true rfl) rfl (fun G hG => ?_)
  obtain ⟨Q, eQ⟩ : ∃ Q, Q = QM E G (some (.int r)) (tw o S' M0) 0 0 := ⟨_, rfl⟩
  show V E G (tw o S M0) 0 0 3 0 [(0, rf E o)] [] (QM E G (some (.int r)) (tw o S' M0) 0 0)
  rw [← eQ]
  refine V_aload_n hG 0 rfl dX7_sides_0 ?_
  refine V_iconst hG 0 rfl dX7_sides_1 ?_
  obtain ⟨S_1, eS_1, h⟩ := be_of h
  refine p7_160 hM hG eS_1 dX7_sides_2 ?_
  refine V_iconst hG 0 rfl dX7_sides_5 ?_
  refine V_istore_n hG rfl [(1, .int 0), (0, rf E o)] dX7_sides_6 (Nat.le_of_ble_eq_true rfl) rfl ?_
  refine V_iconst hG 0 rfl dX7_sides_7 ?_
  refine V_istore_n hG rfl [(2, .int 0), (1, .int 0), (0, rf E o)] dX7_sides_8 (Nat.le_of_ble_eq_true rfl) rfl ?_
  obtain ⟨x2_9, x1_10, hL_11, h⟩ := bd2_of h
  have J_6 : ∀ q_12 : Int32 × Int32, q_12 = (x2_9, x1_10) → V E G (tw o S_1 M0) 0 0 3 47 [(2, .int q_12.1), (1, .int q_12.2), (0, rf E o)] [] Q := by
    intro q_12 e9
    subst q_12
    show V E G (tw o S_1 M0) 0 0 3 47 [(2, .int x2_9), (1, .int x1_10), (0, rf E o)] [] Q
    refine V_iload_n hG 1 rfl dX7_sides_47 ?_
    cases h
    subst eQ
    exact V_iret hG dX7_sides_48
  refine lp_walk (W := fun s_13 : Int32 × Int32 => V E G (tw o S_1 M0) 0 0 3 9 [(2, .int s_13.1), (1, .int s_13.2), (0, rf E o)] [] Q) ?_ N (0, 0) hL_11
  intro s_13 b_2 hb_3 hk_4 hx_5
  obtain ⟨x2_7, x1_8⟩ := s_13
  have hb_3 : tw_sides_b1 N S_1 x2_7 x1_8 = some b_2 := hb_3
  unfold tw_sides_b1 at hb_3
  show V E G (tw o S_1 M0) 0 0 3 9 [(2, .int x2_7), (1, .int x1_8), (0, rf E o)] [] Q
  refine V_iload_n hG 0 rfl dX7_sides_9 ?_
  refine V_aload_n hG 2 rfl dX7_sides_10 ?_
  refine g7_246 hM hG dX7_sides_11 ?_
  refine V_icmp_ge hG 47 dX7_sides_14 (by decide) (fun c_14 => ?_) (fun c_14 => ?_)
  · have hb_3 := if_t c_14 hb_3
    cases hb_3
    exact J_6 _ (hx_5 _ rfl)
  · have hb_3 := if_f c_14 hb_3
    refine V_iload_n hG 1 rfl dX7_sides_17 ?_
    refine V_aload_n hG 2 rfl dX7_sides_18 ?_
    refine g7_106 hM hG dX7_sides_19 ?_
    refine V_iload_n hG 0 rfl dX7_sides_22 ?_
    obtain ⟨g_15, hb_3⟩ := gd_of hb_3
    refine T_zaload hM hG (by decide) g_15 dX7_sides_23 ?_
    obtain ⟨t_16, hj_18, hb_3⟩ := bd_of hb_3
    have J_17 : V E G (tw o S_1 M0) 0 0 3 39 [(2, .int x2_7), (1, .int x1_8), (0, rf E o)] [.int t_16, .int x1_8] Q := by
      refine V_ior hG dX7_sides_39 ?_
      obtain ⟨x1_19, ex1_19, hb_3⟩ := be_of hb_3
      refine V_topi ex1_19 ?_
      refine V_istore_n hG rfl [(1, .int x1_19), (2, .int x2_7), (0, rf E o)] dX7_sides_40 (Nat.le_of_ble_eq_true rfl) rfl ?_
      obtain ⟨x2_20, ex2_20, hb_3⟩ := be_of hb_3
      refine V_iinc hG 1 x2_20 rfl (by rw [ex2_20]; rfl) [(2, .int x2_20), (1, .int x1_19), (0, rf E o)] dX7_sides_41 (Nat.le_of_ble_eq_true rfl) rfl ?_
      refine V_goto hG 9 dX7_sides_44 (by decide) ?_
      cases hb_3
      exact hk_4 _ rfl
    refine V_if_eq hG 38 dX7_sides_24 (by decide) (fun c_21 => ?_) (fun c_21 => ?_)
    · have hj_18 := if_t c_21 hj_18
      refine V_iconst hG 0 rfl dX7_sides_38 ?_
      cases hj_18
      exact J_17
    · have hj_18 := if_f c_21 hj_18
      refine V_iconst hG 1 rfl dX7_sides_27 ?_
      refine V_aload_n hG 2 rfl dX7_sides_28 ?_
      refine g7_42 hM hG dX7_sides_29 ?_
      refine V_iload_n hG 0 rfl dX7_sides_32 ?_
      obtain ⟨g_22, hj_18⟩ := gd_of hj_18
      refine T_iaload hM hG (by decide) g_22 dX7_sides_33 ?_
      refine V_ishl hG dX7_sides_34 ?_
      refine V_goto hG 39 dX7_sides_35 (by decide) ?_
      cases hj_18
      exact J_17

def tw_staysDry_b2 (N : Nat) (x5_17 : Int64) (x3_18 : Int64) (p1 : Int32) (p2 : Int32) (S_1 : TS) (x9_26 : Int64) (x7_27 : Int64) : Option ((Int64 × Int64) ⊕ (Int64 × Int64)) :=
if lg_cmp x9_26 0 = 0 then (
some (.inl (x9_26, x7_27)))
else (
gd (¬ x9_26 = 0) (
be (x7_27 - x7_27 / x9_26 * x9_26) fun (x11_41 : Int64) =>
some (.inr (x11_41, x9_26))))
def tw_staysDry_b1 (N : Nat) (p1 : Int32) (p2 : Int32) (S_1 : TS) (x7_13 : Int32) (x5_14 : Int64) (x3_15 : Int64) : Option ((Int32 × Int64 × Int64) ⊕ (Int32 × Int64 × Int64)) :=
if p1 ≤ x7_13 then (
some (.inl (x7_13, x5_14, x3_15)))
else (
be (x3_15 * (Int32.toInt64 (100 - (tI S_1 4 (Int32.toNatClampNeg 0))))) fun (x3_44 : Int64) =>
be (x5_14 * 100) fun (x5_45 : Int64) =>
be (x7_13 + 1) fun (x7_46 : Int32) =>
some (.inr (x7_46, x5_45, x3_44)))
def tw_staysDry (N : Nat) (p1 : Int32) (p2 : Int32) (S : TS) : Option (Int64 × TS) :=
be (tsI S 0 2 0) fun S_1 =>
bd (tw_isIn p1 0 6 S_1) fun r_3 =>
if r_3 = 0 then (
some ((-1), S_1))
else (
bd (tw_isIn p2 0 1 S_1) fun r_6 =>
if r_6 = 0 then (
some ((-1), S_1))
else (
bd3 (lp N (fun s_42 : Int32 × Int64 × Int64 => tw_staysDry_b1 N p1 p2 S_1 s_42.1 s_42.2.1 s_42.2.2) (0, 1, 1)) fun (x7_16 : Int32) (x5_17 : Int64) (x3_18 : Int64) =>
bd2 (lp N (fun s_38 : Int64 × Int64 => tw_staysDry_b2 N x5_17 x3_18 p1 p2 S_1 s_38.1 s_38.2) (x3_18, x5_17)) fun (x9_28 : Int64) (x7_29 : Int64) =>
bd (if p2 = 0 then (
gd (¬ x7_29 = 0) (
some (x3_18 / x7_29)))
else (
gd (¬ x7_29 = 0) (
some (x5_17 / x7_29))) : Option (Int64)) fun (t_32 : Int64) =>
some (t_32, S_1)))
def rm_tw_staysDry : Room := { frames := 1, cells := 0, slots := 0, locals := 22 }
theorem ok_tw_staysDry {E : En} (hE : EOk E) {o : Nat} {M0 : Mem} (hM : TwS o M0) {N : Nat} {p1 : Int32} {p2 : Int32} {S : TS} {r : Int64} {S' : TS} (h : tw_staysDry N p1 p2 S = some (r, S')) : CM E yX7_staysDry cX7_staysDry 13 (some .long) rm_tw_staysDry [rf E o, .int p1, .int p2] (tw o S M0) (some (.long r)) (tw o S' M0) := by
  unfold tw_staysDry at h
  refine CM_intro (own := RX7) rfl (by decide) (Nat.le_of_ble_eq_true rfl) rfl (fun G hG => ?_)
  obtain ⟨Q, eQ⟩ : ∃ Q, Q = QM E G (some (.long r)) (tw o S' M0) 0 0 := ⟨_, rfl⟩
  show V E G (tw o S M0) 0 0 13 0 [(0, rf E o), (1, .int p1), (2, .int p2)] [] (QM E G (some (.long r)) (tw o S' M0) 0 0)
  rw [← eQ]
  refine V_aload_n hG 0 rfl dX7_staysDry_0 ?_
  refine V_iconst hG 0 rfl dX7_staysDry_1 ?_
  obtain ⟨S_1, eS_1, h⟩ := be_of h
  refine p7_160 hM hG eS_1 dX7_staysDry_2 ?_
  refine V_iload_n hG 1 rfl dX7_staysDry_5 ?_
  refine V_iconst hG 0 rfl dX7_staysDry_6 ?_
  refine V_bipush hG 6 (by decide) dX7_staysDry_7 ?_
  obtain ⟨r_3, hc_2, h⟩ := bd_of h
  refine V_callS0 hE hG (As := [.int p1, .int 0, .int 6]) (rest := []) (ok_tw_isIn hE hM hc_2) hw7_205 hd_tw_isIn ⟨Nat.le_of_ble_eq_true rfl, Nat.le_of_ble_eq_true rfl⟩ rfl rfl (Nat.le_of_ble_eq_true rfl) rfl rfl dX7_staysDry_9 ?_
  refine V_if_eq hG 24 dX7_staysDry_12 (by decide) (fun c_4 => ?_) (fun c_4 => ?_)
  · have h := if_t c_4 h
    refine V_ldc2 hG q2184 dX7_staysDry_24 ?_
    cases h
    subst eQ
    exact V_lret hG dX7_staysDry_27
  · have h := if_f c_4 h
    refine V_iload_n hG 2 rfl dX7_staysDry_15 ?_
    refine V_iconst hG 0 rfl dX7_staysDry_16 ?_
    refine V_iconst hG 1 rfl dX7_staysDry_17 ?_
    obtain ⟨r_6, hc_5, h⟩ := bd_of h
    refine V_callS0 hE hG (As := [.int p2, .int 0, .int 1]) (rest := []) (ok_tw_isIn hE hM hc_5) hw7_205 hd_tw_isIn ⟨Nat.le_of_ble_eq_true rfl, Nat.le_of_ble_eq_true rfl⟩ rfl rfl (Nat.le_of_ble_eq_true rfl) rfl rfl dX7_staysDry_18 ?_
    refine V_if_ne hG 28 dX7_staysDry_21 (by decide) (fun c_7 => ?_) (fun c_7 => ?_)
    · have h := if_f c_7 h
      refine V_lconst hG 1 rfl dX7_staysDry_28 ?_
      refine V_lstore_n hG rfl [(3, .long 1), (0, rf E o), (1, .int p1), (2, .int p2)] dX7_staysDry_29 (Nat.le_of_ble_eq_true rfl) rfl ?_
      refine V_lconst hG 1 rfl dX7_staysDry_30 ?_
      refine V_lstore hG [(5, .long 1), (3, .long 1), (0, rf E o), (1, .int p1), (2, .int p2)] dX7_staysDry_31 (Nat.le_of_ble_eq_true rfl) rfl ?_
      refine V_iconst hG 0 rfl dX7_staysDry_33 ?_
      refine V_istore hG [(7, .int 0), (5, .long 1), (3, .long 1), (0, rf E o), (1, .int p1), (2, .int p2)] dX7_staysDry_34 (Nat.le_of_ble_eq_true rfl) rfl ?_
      obtain ⟨x7_16, x5_17, x3_18, hL_19, h⟩ := bd3_of h
      have J_12 : ∀ q_20 : Int32 × Int64 × Int64, q_20 = (x7_16, x5_17, x3_18) → V E G (tw o S_1 M0) 0 0 13 69 [(7, .int q_20.1), (5, .long q_20.2.1), (3, .long q_20.2.2), (0, rf E o), (1, .int p1), (2, .int p2)] [] Q := by
        intro q_20 e9
        subst q_20
        show V E G (tw o S_1 M0) 0 0 13 69 [(7, .int x7_16), (5, .long x5_17), (3, .long x3_18), (0, rf E o), (1, .int p1), (2, .int p2)] [] Q
        refine V_lload hG 1 rfl dX7_staysDry_69 ?_
        refine V_lstore hG [(7, .long x5_17), (5, .long x5_17), (3, .long x3_18), (0, rf E o), (1, .int p1), (2, .int p2)] dX7_staysDry_71 (Nat.le_of_ble_eq_true rfl) rfl ?_
        refine V_lload_n hG 2 rfl dX7_staysDry_73 ?_
        refine V_lstore hG [(9, .long x3_18), (7, .long x5_17), (5, .long x5_17), (3, .long x3_18), (0, rf E o), (1, .int p1), (2, .int p2)] dX7_staysDry_74 (Nat.le_of_ble_eq_true rfl) rfl ?_
        obtain ⟨x9_28, x7_29, hL_30, h⟩ := bd2_of h
        have J_25 : ∀ q_31 : Int64 × Int64, q_31 = (x9_28, x7_29) → V E G (tw o S_1 M0) 0 0 13 101 [(9, .long q_31.1), (7, .long q_31.2), (5, .long x5_17), (3, .long x3_18), (0, rf E o), (1, .int p1), (2, .int p2)] [] Q := by
          intro q_31 e9
          subst q_31
          show V E G (tw o S_1 M0) 0 0 13 101 [(9, .long x9_28), (7, .long x7_29), (5, .long x5_17), (3, .long x3_18), (0, rf E o), (1, .int p1), (2, .int p2)] [] Q
          refine V_iload_n hG 6 rfl dX7_staysDry_101 ?_
          obtain ⟨t_32, hj_34, h⟩ := bd_of h
          have J_33 : V E G (tw o S_1 M0) 0 0 13 117 [(9, .long x9_28), (7, .long x7_29), (5, .long x5_17), (3, .long x3_18), (0, rf E o), (1, .int p1), (2, .int p2)] [.long t_32] Q := by
            cases h
            subst eQ
            exact V_lret hG dX7_staysDry_117
          refine V_if_ne hG 112 dX7_staysDry_102 (by decide) (fun c_35 => ?_) (fun c_35 => ?_)
          · have hj_34 := if_f c_35 hj_34
            refine V_lload hG 2 rfl dX7_staysDry_112 ?_
            refine V_lload hG 1 rfl dX7_staysDry_114 ?_
            obtain ⟨g_36, hj_34⟩ := gd_of hj_34
            refine V_ldiv hG g_36 dX7_staysDry_116 ?_
            cases hj_34
            exact J_33
          · have hj_34 := if_t c_35 hj_34
            refine V_lload_n hG 3 rfl dX7_staysDry_105 ?_
            refine V_lload hG 1 rfl dX7_staysDry_106 ?_
            obtain ⟨g_37, hj_34⟩ := gd_of hj_34
            refine V_ldiv hG g_37 dX7_staysDry_108 ?_
            refine V_goto hG 117 dX7_staysDry_109 (by decide) ?_
            cases hj_34
            exact J_33
        refine lp_walk (W := fun s_38 : Int64 × Int64 => V E G (tw o S_1 M0) 0 0 13 76 [(9, .long s_38.1), (7, .long s_38.2), (5, .long x5_17), (3, .long x3_18), (0, rf E o), (1, .int p1), (2, .int p2)] [] Q) ?_ N (x3_18, x5_17) hL_30
        intro s_38 b_21 hb_22 hk_23 hx_24
        obtain ⟨x9_26, x7_27⟩ := s_38
        have hb_22 : tw_staysDry_b2 N x5_17 x3_18 p1 p2 S_1 x9_26 x7_27 = some b_21 := hb_22
        unfold tw_staysDry_b2 at hb_22
        show V E G (tw o S_1 M0) 0 0 13 76 [(9, .long x9_26), (7, .long x7_27), (5, .long x5_17), (3, .long x3_18), (0, rf E o), (1, .int p1), (2, .int p2)] [] Q
        refine V_lload hG 0 rfl dX7_staysDry_76 ?_
        refine V_lconst hG 0 rfl dX7_staysDry_78 ?_
        refine V_lcmp hG dX7_staysDry_79 ?_
        refine V_if_eq hG 101 dX7_staysDry_80 (by decide) (fun c_39 => ?_) (fun c_39 => ?_)
        · have hb_22 := if_t c_39 hb_22
          cases hb_22
          exact J_25 _ (hx_24 _ rfl)
        · have hb_22 := if_f c_39 hb_22
          refine V_lload hG 1 rfl dX7_staysDry_83 ?_
          refine V_lload hG 0 rfl dX7_staysDry_85 ?_
          obtain ⟨g_40, hb_22⟩ := gd_of hb_22
          refine V_lrem hG g_40 dX7_staysDry_87 ?_
          obtain ⟨x11_41, ex11_41, hb_22⟩ := be_of hb_22
          refine V_topl ex11_41 ?_
          refine V_lstore hG [(11, .long x11_41), (9, .long x9_26), (7, .long x7_27), (5, .long x5_17), (3, .long x3_18), (0, rf E o), (1, .int p1), (2, .int p2)] dX7_staysDry_88 (Nat.le_of_ble_eq_true rfl) rfl ?_
          refine V_lload hG 1 rfl dX7_staysDry_90 ?_
          refine V_lstore hG [(7, .long x9_26), (11, .long x11_41), (9, .long x9_26), (5, .long x5_17), (3, .long x3_18), (0, rf E o), (1, .int p1), (2, .int p2)] dX7_staysDry_92 (Nat.le_of_ble_eq_true rfl) rfl ?_
          refine V_lload hG 1 rfl dX7_staysDry_94 ?_
          refine V_lstore hG [(9, .long x11_41), (7, .long x9_26), (11, .long x11_41), (5, .long x5_17), (3, .long x3_18), (0, rf E o), (1, .int p1), (2, .int p2)] dX7_staysDry_96 (Nat.le_of_ble_eq_true rfl) rfl ?_
          refine V_goto hG 76 dX7_staysDry_98 (by decide) ?_
          cases hb_22
          exact V_lv [0, 1, 3, 4, 5, 6, 7] rfl (hk_23 _ rfl)
      refine lp_walk (W := fun s_42 : Int32 × Int64 × Int64 => V E G (tw o S_1 M0) 0 0 13 36 [(7, .int s_42.1), (5, .long s_42.2.1), (3, .long s_42.2.2), (0, rf E o), (1, .int p1), (2, .int p2)] [] Q) ?_ N (0, 1, 1) hL_19
      intro s_42 b_8 hb_9 hk_10 hx_11
      obtain ⟨x7_13, x5_14, x3_15⟩ := s_42
      have hb_9 : tw_staysDry_b1 N p1 p2 S_1 x7_13 x5_14 x3_15 = some b_8 := hb_9
      unfold tw_staysDry_b1 at hb_9
      show V E G (tw o S_1 M0) 0 0 13 36 [(7, .int x7_13), (5, .long x5_14), (3, .long x3_15), (0, rf E o), (1, .int p1), (2, .int p2)] [] Q
      refine V_iload hG 0 rfl dX7_staysDry_36 ?_
      refine V_iload_n hG 4 rfl dX7_staysDry_38 ?_
      refine V_icmp_ge hG 69 dX7_staysDry_39 (by decide) (fun c_43 => ?_) (fun c_43 => ?_)
      · have hb_9 := if_t c_43 hb_9
        cases hb_9
        exact J_12 _ (hx_11 _ rfl)
      · have hb_9 := if_f c_43 hb_9
        refine V_lload_n hG 2 rfl dX7_staysDry_42 ?_
        refine V_bipush hG 100 (by decide) dX7_staysDry_43 ?_
        refine V_aload_n hG 3 rfl dX7_staysDry_45 ?_
        refine g7_24 hM hG dX7_staysDry_46 ?_
        refine V_iconst hG 0 rfl dX7_staysDry_49 ?_
        refine T_iaload hM hG (by decide) (by decide) dX7_staysDry_50 ?_
        refine V_isub hG dX7_staysDry_51 ?_
        refine V_i2l hG dX7_staysDry_52 ?_
        refine V_lmul hG dX7_staysDry_53 ?_
        obtain ⟨x3_44, ex3_44, hb_9⟩ := be_of hb_9
        refine V_topl ex3_44 ?_
        refine V_lstore_n hG rfl [(3, .long x3_44), (7, .int x7_13), (5, .long x5_14), (0, rf E o), (1, .int p1), (2, .int p2)] dX7_staysDry_54 (Nat.le_of_ble_eq_true rfl) rfl ?_
        refine V_lload hG 2 rfl dX7_staysDry_55 ?_
        refine V_ldc2 hG q2185 dX7_staysDry_57 ?_
        refine V_lmul hG dX7_staysDry_60 ?_
        obtain ⟨x5_45, ex5_45, hb_9⟩ := be_of hb_9
        refine V_topl ex5_45 ?_
        refine V_lstore hG [(5, .long x5_45), (3, .long x3_44), (7, .int x7_13), (0, rf E o), (1, .int p1), (2, .int p2)] dX7_staysDry_61 (Nat.le_of_ble_eq_true rfl) rfl ?_
        obtain ⟨x7_46, ex7_46, hb_9⟩ := be_of hb_9
        refine V_iinc hG 2 x7_46 rfl (by rw [ex7_46]; rfl) [(7, .int x7_46), (5, .long x5_45), (3, .long x3_44), (0, rf E o), (1, .int p1), (2, .int p2)] dX7_staysDry_63 (Nat.le_of_ble_eq_true rfl) rfl ?_
        refine V_goto hG 36 dX7_staysDry_66 (by decide) ?_
        cases hb_9
        exact hk_10 _ rfl
    · have h := if_t c_7 h
      refine V_ldc2 hG q2184 dX7_staysDry_24 ?_
      cases h
      subst eQ
      exact V_lret hG dX7_staysDry_27
