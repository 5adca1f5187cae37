set_option maxRecDepth 100000
set_option maxHeartbeats 4000000
def tw_wordAt_b3 (N : Nat) (x5_23 : Int32) (x4_6 : Int32) (x3_7 : Int32) (p1 : Int32) (p2 : Int32) (S : TS) (x7_35 : Int32) (x6_36 : Int32) : Option ((Int32 × Int32) ⊕ (Int32 × Int32)) :=
if x5_23 ≤ x7_35 then (
some (.inl (x7_35, x6_36)))
else (
if x6_36 = 0 then (
some (.inl (x7_35, x6_36)))
else (
gd (inb (x4_6 + x7_35) (lenA 2)) (
gd (inb (p1 + x7_35) (lenA 1)) (
be (if tI S 2 (Int32.toNatClampNeg (x4_6 + x7_35)) = tI S 1 (Int32.toNatClampNeg (p1 + x7_35)) then (
1)
else (
0) : Int32) fun (y_54 : Int32) =>
be (x7_35 + 1) fun (x7_55 : Int32) =>
some (.inr (x7_55, y_54))))))
def tw_wordAt_b2 (N : Nat) (x4_6 : Int32) (x3_7 : Int32) (p1 : Int32) (p2 : Int32) (S : TS) (x5_22 : Int32) : Option ((Int32) ⊕ (Int32)) :=
gd (inb (x4_6 + x5_22) (lenA 2)) (
if tI S 2 (Int32.toNatClampNeg (x4_6 + x5_22)) = 32 then (
some (.inl x5_22))
else (
be (x5_22 + 1) fun (x5_59 : Int32) =>
some (.inr x5_59)))
def tw_wordAt_b1 (N : Nat) (p1 : Int32) (p2 : Int32) (S : TS) (x4_6 : Int32) (x3_7 : Int32) : Option (((Int32 × Int32) ⊕ (Int32)) ⊕ (Int32 × Int32)) :=
if Int32.ofNat (lenA 2) ≤ x4_6 then (
some (.inl (.inl (x4_6, x3_7))))
else (
bd (lp N (fun s_56 : Int32 => tw_wordAt_b2 N x4_6 x3_7 p1 p2 S s_56) 0) fun (x5_23 : Int32) =>
be (if x5_23 = p2 - p1 then (
1)
else (
0) : Int32) fun (y_29 : Int32) =>
bd2 (lp N (fun s_46 : Int32 × Int32 => tw_wordAt_b3 N x5_23 x4_6 x3_7 p1 p2 S s_46.1 s_46.2) (0, y_29)) fun (x7_37 : Int32) (x6_38 : Int32) =>
if x6_38 = 0 then (
be (x4_6 + (x5_23 + 1)) fun (x4_42 : Int32) =>
be (x3_7 + 1) fun (x3_43 : Int32) =>
some (.inr (x4_42, x3_43)))
else (
some (.inl (.inr x3_7))))
def tw_wordAt (N : Nat) (p1 : Int32) (p2 : Int32) (S : TS) : Option (Int32) :=
bx2 (lp N (fun s_15 : Int32 × Int32 => tw_wordAt_b1 N p1 p2 S s_15.1 s_15.2) (0, 0)) (fun (x4_9 : Int32) (x3_10 : Int32) =>
some (-1)) (fun (w_60 : Int32) => some w_60)
def rm_tw_wordAt : Room := { frames := 0, cells := 0, slots := 0, locals := 0 }
theorem ok_tw_wordAt {E : En} (hE : EOk E) {o : Nat} {M0 : Mem} (hM : TwS o M0) {N : Nat} {p1 : Int32} {p2 : Int32} {S : TS} {r : Int32} (h : tw_wordAt N p1 p2 S = some r) : CM E yX7_wordAt cX7_wordAt 8 (some .int) rm_tw_wordAt [rf E o, .int p1, .int p2] (tw o S M0) (some (.int r)) (tw o S M0) := by
  unfold tw_wordAt at h
  refine CM_intro (own := RX7) rfl (by decide) (Nat.le_of_ble_eq_true rfl) rfl (fun G hG => ?_)
  obtain ⟨Q, eQ⟩ : ∃ Q, Q = QM E G (some (.int r)) (tw o S M0) 0 0 := ⟨_, rfl⟩
  show V E G (tw o S M0) 0 0 8 0 [(0, rf E o), (1, .int p1), (2, .int p2)] [] (QM E G (some (.int r)) (tw o S M0) 0 0)
  rw [← eQ]
  refine V_iconst hG 0 rfl dX7_wordAt_0 ?_
  refine V_istore_n hG rfl [(3, .int 0), (0, rf E o), (1, .int p1), (2, .int p2)] dX7_wordAt_1 (Nat.le_of_ble_eq_true rfl) rfl ?_
  refine V_iconst hG 0 rfl dX7_wordAt_2 ?_
  refine V_istore hG [(4, .int 0), (3, .int 0), (0, rf E o), (1, .int p1), (2, .int p2)] dX7_wordAt_3 (Nat.le_of_ble_eq_true rfl) rfl ?_
  obtain ⟨rr_12, hL_11, hl_13, hr_8⟩ := bx2_of h
  have J_5 : ∀ q_14 : Int32 × Int32, Sum.inl q_14 = rr_12 → V E G (tw o S M0) 0 0 8 126 [(4, .int q_14.1), (3, .int q_14.2), (0, rf E o), (1, .int p1), (2, .int p2)] [] Q := by
    intro q_14 e9
    obtain ⟨x4_9, x3_10⟩ := q_14
    have h := hl_13 x4_9 x3_10 e9.symm
    show V E G (tw o S M0) 0 0 8 126 [(4, .int x4_9), (3, .int x3_10), (0, rf E o), (1, .int p1), (2, .int p2)] [] Q
    refine V_iconst hG (-1) rfl dX7_wordAt_126 ?_
    cases h
    subst eQ
    exact V_iret hG dX7_wordAt_127
  refine lp_walk (W := fun s_15 : Int32 × Int32 => V E G (tw o S M0) 0 0 8 5 [(4, .int s_15.1), (3, .int s_15.2), (0, rf E o), (1, .int p1), (2, .int p2)] [] Q) ?_ N (0, 0) hL_11
  intro s_15 b_1 hb_2 hk_3 hx_4
  obtain ⟨x4_6, x3_7⟩ := s_15
  have hb_2 : tw_wordAt_b1 N p1 p2 S x4_6 x3_7 = some b_1 := hb_2
  unfold tw_wordAt_b1 at hb_2
  show V E G (tw o S M0) 0 0 8 5 [(4, .int x4_6), (3, .int x3_7), (0, rf E o), (1, .int p1), (2, .int p2)] [] Q
  refine V_iload hG 0 rfl dX7_wordAt_5 ?_
  refine V_aload_n hG 2 rfl dX7_wordAt_7 ?_
  refine g7_13 hM hG dX7_wordAt_8 ?_
  refine T_alen hM hG (j := 2) (by decide) dX7_wordAt_11 ?_
  refine V_icmp_ge hG 126 dX7_wordAt_12 (by decide) (fun c_16 => ?_) (fun c_16 => ?_)
  · have hb_2 := if_t c_16 hb_2
    cases hb_2
    exact J_5 _ (hx_4 _ rfl)
  · have hb_2 := if_f c_16 hb_2
    refine V_iconst hG 0 rfl dX7_wordAt_15 ?_
    refine V_istore hG [(5, .int 0), (4, .int x4_6), (3, .int x3_7), (0, rf E o), (1, .int p1), (2, .int p2)] dX7_wordAt_16 (Nat.le_of_ble_eq_true rfl) rfl ?_
    obtain ⟨x5_23, hL_24, hb_2⟩ := bd_of hb_2
    have J_21 : ∀ q_25 : Int32, q_25 = x5_23 → V E G (tw o S M0) 0 0 8 39 [(5, .int q_25), (4, .int x4_6), (3, .int x3_7), (0, rf E o), (1, .int p1), (2, .int p2)] [] Q := by
      intro q_25 e9
      subst q_25
      show V E G (tw o S M0) 0 0 8 39 [(5, .int x5_23), (4, .int x4_6), (3, .int x3_7), (0, rf E o), (1, .int p1), (2, .int p2)] [] Q
      refine V_iload hG 0 rfl dX7_wordAt_39 ?_
      refine V_iload_n hG 5 rfl dX7_wordAt_41 ?_
      refine V_iload_n hG 4 rfl dX7_wordAt_42 ?_
      refine V_isub hG dX7_wordAt_43 ?_
      obtain ⟨t_26, et_26, hb_2⟩ := be_of hb_2
      have J_27 : ∀ y_29 : Int32, y_29 = t_26 → V E G (tw o S M0) 0 0 8 52 [(5, .int x5_23), (4, .int x4_6), (3, .int x3_7), (0, rf E o), (1, .int p1), (2, .int p2)] [.int y_29] Q := by
        intro y_29 ey
        subst ey
        refine V_istore hG [(6, .int y_29), (5, .int x5_23), (4, .int x4_6), (3, .int x3_7), (0, rf E o), (1, .int p1), (2, .int p2)] dX7_wordAt_52 (Nat.le_of_ble_eq_true rfl) rfl ?_
        refine V_iconst hG 0 rfl dX7_wordAt_54 ?_
        refine V_istore hG [(7, .int 0), (6, .int y_29), (5, .int x5_23), (4, .int x4_6), (3, .int x3_7), (0, rf E o), (1, .int p1), (2, .int p2)] dX7_wordAt_55 (Nat.le_of_ble_eq_true rfl) rfl ?_
        obtain ⟨x7_37, x6_38, hL_39, hb_2⟩ := bd2_of hb_2
        have J_34 : ∀ q_40 : Int32 × Int32, q_40 = (x7_37, x6_38) → V E G (tw o S M0) 0 0 8 104 [(7, .int q_40.1), (6, .int q_40.2), (5, .int x5_23), (4, .int x4_6), (3, .int x3_7), (0, rf E o), (1, .int p1), (2, .int p2)] [] Q := by
          intro q_40 e9
          subst q_40
          show V E G (tw o S M0) 0 0 8 104 [(7, .int x7_37), (6, .int x6_38), (5, .int x5_23), (4, .int x4_6), (3, .int x3_7), (0, rf E o), (1, .int p1), (2, .int p2)] [] Q
          refine V_iload hG 1 rfl dX7_wordAt_104 ?_
          refine V_if_eq hG 111 dX7_wordAt_106 (by decide) (fun c_41 => ?_) (fun c_41 => ?_)
          · have hb_2 := if_t c_41 hb_2
            refine V_iload hG 3 rfl dX7_wordAt_111 ?_
            refine V_iload hG 2 rfl dX7_wordAt_113 ?_
            refine V_iconst hG 1 rfl dX7_wordAt_115 ?_
            refine V_iadd hG dX7_wordAt_116 ?_
            refine V_iadd hG dX7_wordAt_117 ?_
            obtain ⟨x4_42, ex4_42, hb_2⟩ := be_of hb_2
            refine V_topi ex4_42 ?_
            refine V_istore hG [(4, .int x4_42), (7, .int x7_37), (6, .int x6_38), (5, .int x5_23), (3, .int x3_7), (0, rf E o), (1, .int p1), (2, .int p2)] dX7_wordAt_118 (Nat.le_of_ble_eq_true rfl) rfl ?_
            obtain ⟨x3_43, ex3_43, hb_2⟩ := be_of hb_2
            refine V_iinc hG 4 x3_43 rfl (by rw [ex3_43]; rfl) [(3, .int x3_43), (4, .int x4_42), (7, .int x7_37), (6, .int x6_38), (5, .int x5_23), (0, rf E o), (1, .int p1), (2, .int p2)] dX7_wordAt_120 (Nat.le_of_ble_eq_true rfl) rfl ?_
            refine V_goto hG 5 dX7_wordAt_123 (by decide) ?_
            cases hb_2
            exact V_lv [1, 0, 5, 6, 7] rfl (hk_3 _ rfl)
          · have hb_2 := if_f c_41 hb_2
            refine V_iload_n hG 4 rfl dX7_wordAt_109 ?_
            cases hb_2
            have e_44 := hx_4 _ rfl
            have h_45 : some x3_7 = some r := hr_8 _ e_44.symm
            cases h_45
            subst eQ
            exact V_iret hG dX7_wordAt_110
        refine lp_walk (W := fun s_46 : Int32 × Int32 => V E G (tw o S M0) 0 0 8 57 [(7, .int s_46.1), (6, .int s_46.2), (5, .int x5_23), (4, .int x4_6), (3, .int x3_7), (0, rf E o), (1, .int p1), (2, .int p2)] [] Q) ?_ N (0, y_29) hL_39
        intro s_46 b_30 hb_31 hk_32 hx_33
        obtain ⟨x7_35, x6_36⟩ := s_46
        have hb_31 : tw_wordAt_b3 N x5_23 x4_6 x3_7 p1 p2 S x7_35 x6_36 = some b_30 := hb_31
        unfold tw_wordAt_b3 at hb_31
        show V E G (tw o S M0) 0 0 8 57 [(7, .int x7_35), (6, .int x6_36), (5, .int x5_23), (4, .int x4_6), (3, .int x3_7), (0, rf E o), (1, .int p1), (2, .int p2)] [] Q
        refine V_iload hG 0 rfl dX7_wordAt_57 ?_
        refine V_iload hG 2 rfl dX7_wordAt_59 ?_
        refine V_icmp_ge hG 104 dX7_wordAt_61 (by decide) (fun c_47 => ?_) (fun c_47 => ?_)
        · have hb_31 := if_t c_47 hb_31
          cases hb_31
          exact J_34 _ (hx_33 _ rfl)
        · have hb_31 := if_f c_47 hb_31
          refine V_iload hG 1 rfl dX7_wordAt_64 ?_
          refine V_if_eq hG 104 dX7_wordAt_66 (by decide) (fun c_48 => ?_) (fun c_48 => ?_)
          · have hb_31 := if_t c_48 hb_31
            cases hb_31
            exact J_34 _ (hx_33 _ rfl)
          · have hb_31 := if_f c_48 hb_31
            refine V_aload_n hG 5 rfl dX7_wordAt_69 ?_
            refine g7_13 hM hG dX7_wordAt_70 ?_
            refine V_iload hG 3 rfl dX7_wordAt_73 ?_
            refine V_iload hG 0 rfl dX7_wordAt_75 ?_
            refine V_iadd hG dX7_wordAt_77 ?_
            obtain ⟨g_49, hb_31⟩ := gd_of hb_31
            refine T_iaload hM hG (by decide) g_49 dX7_wordAt_78 ?_
            refine V_aload_n hG 5 rfl dX7_wordAt_79 ?_
            refine g7_7 hM hG dX7_wordAt_80 ?_
            refine V_iload_n hG 6 rfl dX7_wordAt_83 ?_
            refine V_iload hG 0 rfl dX7_wordAt_84 ?_
            refine V_iadd hG dX7_wordAt_86 ?_
            obtain ⟨g_50, hb_31⟩ := gd_of hb_31
            refine T_iaload hM hG (by decide) g_50 dX7_wordAt_87 ?_
            obtain ⟨t_51, et_51, hb_31⟩ := be_of hb_31
            have J_52 : ∀ y_54 : Int32, y_54 = t_51 → V E G (tw o S M0) 0 0 8 96 [(7, .int x7_35), (6, .int x6_36), (5, .int x5_23), (4, .int x4_6), (3, .int x3_7), (0, rf E o), (1, .int p1), (2, .int p2)] [.int y_54] Q := by
              intro y_54 ey
              subst ey
              refine V_istore hG [(6, .int y_54), (7, .int x7_35), (5, .int x5_23), (4, .int x4_6), (3, .int x3_7), (0, rf E o), (1, .int p1), (2, .int p2)] dX7_wordAt_96 (Nat.le_of_ble_eq_true rfl) rfl ?_
              obtain ⟨x7_55, ex7_55, hb_31⟩ := be_of hb_31
              refine V_iinc hG 1 x7_55 rfl (by rw [ex7_55]; rfl) [(7, .int x7_55), (6, .int y_54), (5, .int x5_23), (4, .int x4_6), (3, .int x3_7), (0, rf E o), (1, .int p1), (2, .int p2)] dX7_wordAt_98 (Nat.le_of_ble_eq_true rfl) rfl ?_
              refine V_goto hG 57 dX7_wordAt_101 (by decide) ?_
              cases hb_31
              exact hk_32 _ rfl
            refine V_icmp_ne hG 95 dX7_wordAt_88 (by decide) (fun c_53 => ?_) (fun c_53 => ?_)
            · refine V_iconst hG 0 rfl dX7_wordAt_95 ?_
              exact J_52 _ (by rw [et_51, if_neg c_53])
            · refine V_iconst hG 1 rfl dX7_wordAt_91 ?_
              refine V_goto hG 96 dX7_wordAt_92 (by decide) ?_
              exact J_52 _ (by rw [et_51, if_pos c_53])
      refine V_icmp_ne hG 51 dX7_wordAt_44 (by decide) (fun c_28 => ?_) (fun c_28 => ?_)
      · refine V_iconst hG 0 rfl dX7_wordAt_51 ?_
        exact J_27 _ (by rw [et_26, if_neg c_28])
      · refine V_iconst hG 1 rfl dX7_wordAt_47 ?_
        refine V_goto hG 52 dX7_wordAt_48 (by decide) ?_
        exact J_27 _ (by rw [et_26, if_pos c_28])
    refine lp_walk (W := fun s_56 : Int32 => V E G (tw o S M0) 0 0 8 18 [(5, .int s_56), (4, .int x4_6), (3, .int x3_7), (0, rf E o), (1, .int p1), (2, .int p2)] [] Q) ?_ N 0 hL_24
    intro s_56 b_17 hb_18 hk_19 hx_20
    obtain ⟨x5_22, rfl⟩ : ∃ z, z = s_56 := ⟨_, rfl⟩
    have hb_18 : tw_wordAt_b2 N x4_6 x3_7 p1 p2 S x5_22 = some b_17 := hb_18
    unfold tw_wordAt_b2 at hb_18
    show V E G (tw o S M0) 0 0 8 18 [(5, .int x5_22), (4, .int x4_6), (3, .int x3_7), (0, rf E o), (1, .int p1), (2, .int p2)] [] Q
    refine V_aload_n hG 3 rfl dX7_wordAt_18 ?_
    refine g7_13 hM hG dX7_wordAt_19 ?_
    refine V_iload hG 1 rfl dX7_wordAt_22 ?_
    refine V_iload hG 0 rfl dX7_wordAt_24 ?_
    refine V_iadd hG dX7_wordAt_26 ?_
    obtain ⟨g_57, hb_18⟩ := gd_of hb_18
    refine T_iaload hM hG (by decide) g_57 dX7_wordAt_27 ?_
    refine V_bipush hG 32 (by decide) dX7_wordAt_28 ?_
    refine V_icmp_eq hG 39 dX7_wordAt_30 (by decide) (fun c_58 => ?_) (fun c_58 => ?_)
    · have hb_18 := if_t c_58 hb_18
      cases hb_18
      exact J_21 _ (hx_20 _ rfl)
    · have hb_18 := if_f c_58 hb_18
      obtain ⟨x5_59, ex5_59, hb_18⟩ := be_of hb_18
      refine V_iinc hG 0 x5_59 rfl (by rw [ex5_59]; rfl) [(5, .int x5_59), (4, .int x4_6), (3, .int x3_7), (0, rf E o), (1, .int p1), (2, .int p2)] dX7_wordAt_33 (Nat.le_of_ble_eq_true rfl) rfl ?_
      refine V_goto hG 18 dX7_wordAt_36 (by decide) ?_
      cases hb_18
      exact hk_19 _ rfl

def tw_token_b2 (N : Nat) (S_30 : TS) : Option ((TS) ⊕ (TS)) :=
bd (tw_isDigit (tI S_30 0 7) S_30) fun r_36 =>
if r_36 = 0 then (
some (.inl S_30))
else (
bd (if tI S_30 0 9 ≤ 99999 then (
gd (inb (tI S_30 0 7) (lenA 1)) (
some (((10 * (tI S_30 0 9)) + (tI S_30 1 (Int32.toNatClampNeg (tI S_30 0 7)))) - 48)))
else (
some (tI S_30 0 9)) : Option (Int32)) fun (t_38 : Int32) =>
be (tsI S_30 0 9 t_38) fun S_41 =>
be (tsI S_41 0 7 ((tI S_41 0 7) + 1)) fun S_42 =>
some (.inr S_42))
def tw_token_b3 (N : Nat) (S_50 : TS) : Option ((TS) ⊕ (TS)) :=
bd (tw_isSmall (tI S_50 0 7) S_50) fun r_69 =>
if r_69 = 0 then (
some (.inl S_50))
else (
be (tsI S_50 0 7 ((tI S_50 0 7) + 1)) fun S_71 =>
some (.inr S_71))
def tw_token_b1 (N : Nat) (S_6 : TS) : Option ((TS) ⊕ (TS)) :=
if tI S_6 0 6 ≤ tI S_6 0 7 then (
some (.inl S_6))
else (
gd (inb (tI S_6 0 7) (lenA 1)) (
if tI S_6 1 (Int32.toNatClampNeg (tI S_6 0 7)) = 10 then (
be (tsI S_6 0 7 ((tI S_6 0 7) + 1)) fun S_77 =>
some (.inr S_77))
else (
gd (inb (tI S_6 0 7) (lenA 1)) (
if tI S_6 1 (Int32.toNatClampNeg (tI S_6 0 7)) = 32 then (
be (tsI S_6 0 7 ((tI S_6 0 7) + 1)) fun S_80 =>
some (.inr S_80))
else (
some (.inl S_6))))))
def tw_token (N : Nat)  (S : TS) : Option (TS) :=
bd (lp N (fun s_73 : TS => tw_token_b1 N s_73) S) fun (S_7 : TS) =>
be (tsI S_7 0 10 (tI S_7 0 7)) fun S_10 =>
bd (if tI S_10 0 7 = tI S_10 0 6 then (
be (tsI S_10 0 8 0) fun S_72 =>
some S_72)
else (
bd (tw_isSmall (tI S_10 0 7) S_10) fun r_16 =>
if r_16 = 0 then (
bd (tw_isDigit (tI S_10 0 7) S_10) fun r_19 =>
if r_19 = 0 then (
bd (tw_signToken S_10) fun S_22 =>
some S_22)
else (
be (tsI S_10 0 8 3) fun S_23 =>
be (tsI S_23 0 9 0) fun S_24 =>
bd (lp N (fun s_34 : TS => tw_token_b2 N s_34) S_24) fun (S_31 : TS) =>
some S_31))
else (
bd (lp N (fun s_67 : TS => tw_token_b3 N s_67) S_10) fun (S_51 : TS) =>
bd (tw_wordAt N (tI S_51 0 10) (tI S_51 0 7) S_51) fun r_55 =>
be (tsI S_51 0 9 r_55) fun S_56 =>
be (if tI S_56 0 9 < 0 then (
if (tI S_56 0 7) - (tI S_56 0 10) ≤ 6 then (
2)
else (
6))
else (
1) : Int32) fun (y_61 : Int32) =>
be (tsI S_56 0 8 y_61) fun S_62 =>
if tI S_62 0 8 = 2 then (
bd (tw_packed N (tI S_62 0 10) (tI S_62 0 7) S_62) fun r_65 =>
be (tsI S_62 0 9 r_65) fun S_66 =>
some S_66)
else (
some S_62))) : Option (TS)) fun (S_11 : TS) =>
some S_11
def rm_tw_token : Room := { frames := 1, cells := 0, slots := 0, locals := 27 }
theorem ok_tw_token {E : En} (hE : EOk E) {o : Nat} {M0 : Mem} (hM : TwS o M0) {N : Nat}  {S : TS}  {S' : TS} (h : tw_token N  S = some S') : CM E yX7_token cX7_token 1 none rm_tw_token [rf E o] (tw o S M0) none (tw o S' M0) := by
  unfold tw_token at h
  refine CM_intro (own := RX7) rfl (by decide) (Nat.le_of_ble_eq_true rfl) rfl (fun G hG => ?_)
  obtain ⟨Q, eQ⟩ : ∃ Q, Q = QM E G none (tw o S' M0) 0 0 := ⟨_, rfl⟩
  show V E G (tw o S M0) 0 0 1 0 [(0, rf E o)] [] (QM E G none (tw o S' M0) 0 0)
  rw [← eQ]
  obtain ⟨S_7, hL_8, h⟩ := bd_of h
  have J_5 : ∀ q_9 : TS, q_9 = S_7 → V E G (tw o q_9 M0) 0 0 1 52 [(0, rf E o)] [] Q := by
    intro q_9 e9
    subst q_9
    show V E G (tw o S_7 M0) 0 0 1 52 [(0, rf E o)] [] Q
    refine V_aload_n hG 0 rfl dX7_token_52 ?_
    refine V_aload_n hG 0 rfl dX7_token_53 ?_
    refine g7_175 hM hG dX7_token_54 ?_
    obtain ⟨S_10, eS_10, h⟩ := be_of h
    refine p7_169 hM hG eS_10 dX7_token_57 ?_
    refine V_aload_n hG 0 rfl dX7_token_60 ?_
    refine g7_175 hM hG dX7_token_61 ?_
    refine V_aload_n hG 0 rfl dX7_token_64 ?_
    refine g7_172 hM hG dX7_token_65 ?_
    obtain ⟨S_11, hj_13, h⟩ := bd_of h
    have J_12 : V E G (tw o S_11 M0) 0 0 1 281 [(0, rf E o)] [] Q := by
      cases h
      subst eQ
      exact V_vret hG dX7_token_281
    refine V_icmp_ne hG 79 dX7_token_68 (by decide) (fun c_14 => ?_) (fun c_14 => ?_)
    · have hj_13 := if_f c_14 hj_13
      refine V_aload_n hG 0 rfl dX7_token_79 ?_
      refine V_aload_n hG 0 rfl dX7_token_80 ?_
      refine g7_175 hM hG dX7_token_81 ?_
      obtain ⟨r_16, hc_15, hj_13⟩ := bd_of hj_13
      refine V_callV0 hE hG (As := [.int (tI S_10 0 7)]) (rest := []) (ok_tw_isSmall hE hM hc_15) hM.1 (by decide) rfl hw7_181 hd_tw_isSmall ⟨Nat.le_of_ble_eq_true rfl, Nat.le_of_ble_eq_true rfl⟩ rfl rfl (Nat.le_of_ble_eq_true rfl) rfl rfl dX7_token_84 ?_
      refine V_if_eq hG 192 dX7_token_87 (by decide) (fun c_17 => ?_) (fun c_17 => ?_)
      · have hj_13 := if_t c_17 hj_13
        refine V_aload_n hG 0 rfl dX7_token_192 ?_
        refine V_aload_n hG 0 rfl dX7_token_193 ?_
        refine g7_175 hM hG dX7_token_194 ?_
        obtain ⟨r_19, hc_18, hj_13⟩ := bd_of hj_13
        refine V_callV0 hE hG (As := [.int (tI S_10 0 7)]) (rest := []) (ok_tw_isDigit hE hM hc_18) hM.1 (by decide) rfl hw7_195 hd_tw_isDigit ⟨Nat.le_of_ble_eq_true rfl, Nat.le_of_ble_eq_true rfl⟩ rfl rfl (Nat.le_of_ble_eq_true rfl) rfl rfl dX7_token_197 ?_
        refine V_if_eq hG 277 dX7_token_200 (by decide) (fun c_20 => ?_) (fun c_20 => ?_)
        · have hj_13 := if_t c_20 hj_13
          refine V_aload_n hG 0 rfl dX7_token_277 ?_
          obtain ⟨S_22, hc_21, hj_13⟩ := bd_of hj_13
          refine V_callV0 hE hG (As := []) (rest := []) (ok_tw_signToken hE hM hc_21) hM.1 (by decide) rfl hw7_199 hd_tw_signToken ⟨Nat.le_of_ble_eq_true rfl, Nat.le_of_ble_eq_true rfl⟩ rfl rfl (Nat.le_of_ble_eq_true rfl) rfl rfl dX7_token_278 ?_
          cases hj_13
          exact J_12
        · have hj_13 := if_f c_20 hj_13
          refine V_aload_n hG 0 rfl dX7_token_203 ?_
          refine V_iconst hG 3 rfl dX7_token_204 ?_
          obtain ⟨S_23, eS_23, hj_13⟩ := be_of hj_13
          refine p7_178 hM hG eS_23 dX7_token_205 ?_
          refine V_aload_n hG 0 rfl dX7_token_208 ?_
          refine V_iconst hG 0 rfl dX7_token_209 ?_
          obtain ⟨S_24, eS_24, hj_13⟩ := be_of hj_13
          refine p7_189 hM hG eS_24 dX7_token_210 ?_
          obtain ⟨S_31, hL_32, hj_13⟩ := bd_of hj_13
          have J_29 : ∀ q_33 : TS, q_33 = S_31 → V E G (tw o q_33 M0) 0 0 1 281 [(0, rf E o)] [] Q := by
            intro q_33 e9
            subst q_33
            show V E G (tw o S_31 M0) 0 0 1 281 [(0, rf E o)] [] Q
            cases hj_13
            exact J_12
          refine lp_walk (W := fun s_34 : TS => V E G (tw o s_34 M0) 0 0 1 213 [(0, rf E o)] [] Q) ?_ N S_24 hL_32
          intro s_34 b_25 hb_26 hk_27 hx_28
          obtain ⟨S_30, rfl⟩ : ∃ z, z = s_34 := ⟨_, rfl⟩
          have hb_26 : tw_token_b2 N S_30 = some b_25 := hb_26
          unfold tw_token_b2 at hb_26
          show V E G (tw o S_30 M0) 0 0 1 213 [(0, rf E o)] [] Q
          refine V_aload_n hG 0 rfl dX7_token_213 ?_
          refine V_aload_n hG 0 rfl dX7_token_214 ?_
          refine g7_175 hM hG dX7_token_215 ?_
          obtain ⟨r_36, hc_35, hb_26⟩ := bd_of hb_26
          refine V_callV0 hE hG (As := [.int (tI S_30 0 7)]) (rest := []) (ok_tw_isDigit hE hM hc_35) hM.1 (by decide) rfl hw7_195 hd_tw_isDigit ⟨Nat.le_of_ble_eq_true rfl, Nat.le_of_ble_eq_true rfl⟩ rfl rfl (Nat.le_of_ble_eq_true rfl) rfl rfl dX7_token_218 ?_
          refine V_if_eq hG 281 dX7_token_221 (by decide) (fun c_37 => ?_) (fun c_37 => ?_)
          · have hb_26 := if_t c_37 hb_26
            cases hb_26
            exact J_29 _ (hx_28 _ rfl)
          · have hb_26 := if_f c_37 hb_26
            refine V_aload_n hG 0 rfl dX7_token_224 ?_
            refine V_aload_n hG 0 rfl dX7_token_225 ?_
            refine g7_189 hM hG dX7_token_226 ?_
            refine V_ldc hG q1846 dX7_token_229 ?_
            obtain ⟨t_38, hj_40, hb_26⟩ := bd_of hb_26
            have J_39 : V E G (tw o S_30 M0) 0 0 1 261 [(0, rf E o)] [.int t_38, rf E o] Q := by
              obtain ⟨S_41, eS_41, hb_26⟩ := be_of hb_26
              refine p7_189 hM hG eS_41 dX7_token_261 ?_
              refine V_aload_n hG 0 rfl dX7_token_264 ?_
              refine V_dup hG rfl dX7_token_265 ?_
              refine g7_175 hM hG dX7_token_266 ?_
              refine V_iconst hG 1 rfl dX7_token_269 ?_
              refine V_iadd hG dX7_token_270 ?_
              obtain ⟨S_42, eS_42, hb_26⟩ := be_of hb_26
              refine p7_175 hM hG eS_42 dX7_token_271 ?_
              refine V_goto hG 213 dX7_token_274 (by decide) ?_
              cases hb_26
              exact hk_27 _ rfl
            refine V_icmp_le hG 241 dX7_token_231 (by decide) (fun c_43 => ?_) (fun c_43 => ?_)
            · have hj_40 := if_t c_43 hj_40
              refine V_bipush hG 10 (by decide) dX7_token_241 ?_
              refine V_aload_n hG 0 rfl dX7_token_243 ?_
              refine g7_189 hM hG dX7_token_244 ?_
              refine V_imul hG dX7_token_247 ?_
              refine V_aload_n hG 0 rfl dX7_token_248 ?_
              refine g7_7 hM hG dX7_token_249 ?_
              refine V_aload_n hG 0 rfl dX7_token_252 ?_
              refine g7_175 hM hG dX7_token_253 ?_
              obtain ⟨g_44, hj_40⟩ := gd_of hj_40
              refine T_iaload hM hG (by decide) g_44 dX7_token_256 ?_
              refine V_iadd hG dX7_token_257 ?_
              refine V_bipush hG 48 (by decide) dX7_token_258 ?_
              refine V_isub hG dX7_token_260 ?_
              cases hj_40
              exact J_39
            · have hj_40 := if_f c_43 hj_40
              refine V_aload_n hG 0 rfl dX7_token_234 ?_
              refine g7_189 hM hG dX7_token_235 ?_
              refine V_goto hG 261 dX7_token_238 (by decide) ?_
              cases hj_40
              exact J_39
      · have hj_13 := if_f c_17 hj_13
        obtain ⟨S_51, hL_52, hj_13⟩ := bd_of hj_13
        have J_49 : ∀ q_53 : TS, q_53 = S_51 → V E G (tw o q_53 M0) 0 0 1 114 [(0, rf E o)] [] Q := by
          intro q_53 e9
          subst q_53
          show V E G (tw o S_51 M0) 0 0 1 114 [(0, rf E o)] [] Q
          refine V_aload_n hG 0 rfl dX7_token_114 ?_
          refine V_aload_n hG 0 rfl dX7_token_115 ?_
          refine V_aload_n hG 0 rfl dX7_token_116 ?_
          refine g7_169 hM hG dX7_token_117 ?_
          refine V_aload_n hG 0 rfl dX7_token_120 ?_
          refine g7_175 hM hG dX7_token_121 ?_
          obtain ⟨r_55, hc_54, hj_13⟩ := bd_of hj_13
          refine V_callV0 hE hG (As := [.int (tI S_51 0 10), .int (tI S_51 0 7)]) (rest := [rf E o]) (ok_tw_wordAt hE hM hc_54) hM.1 (by decide) rfl hw7_185 hd_tw_wordAt ⟨Nat.le_of_ble_eq_true rfl, Nat.le_of_ble_eq_true rfl⟩ rfl rfl (Nat.le_of_ble_eq_true rfl) rfl rfl dX7_token_124 ?_
          obtain ⟨S_56, eS_56, hj_13⟩ := be_of hj_13
          refine p7_189 hM hG eS_56 dX7_token_127 ?_
          refine V_aload_n hG 0 rfl dX7_token_130 ?_
          refine V_aload_n hG 0 rfl dX7_token_131 ?_
          refine g7_189 hM hG dX7_token_132 ?_
          obtain ⟨t_57, et_57, hj_13⟩ := be_of hj_13
          have J_58 : ∀ y_61 : Int32, y_61 = t_57 → V E G (tw o S_56 M0) 0 0 1 162 [(0, rf E o)] [.int y_61, rf E o] Q := by
            intro y_61 ey
            subst ey
            obtain ⟨S_62, eS_62, hj_13⟩ := be_of hj_13
            refine p7_178 hM hG eS_62 dX7_token_162 ?_
            refine V_aload_n hG 0 rfl dX7_token_165 ?_
            refine g7_178 hM hG dX7_token_166 ?_
            refine V_iconst hG 2 rfl dX7_token_169 ?_
            refine V_icmp_ne hG 281 dX7_token_170 (by decide) (fun c_63 => ?_) (fun c_63 => ?_)
            · have hj_13 := if_f c_63 hj_13
              cases hj_13
              exact J_12
            · have hj_13 := if_t c_63 hj_13
              refine V_aload_n hG 0 rfl dX7_token_173 ?_
              refine V_aload_n hG 0 rfl dX7_token_174 ?_
              refine V_aload_n hG 0 rfl dX7_token_175 ?_
              refine g7_169 hM hG dX7_token_176 ?_
              refine V_aload_n hG 0 rfl dX7_token_179 ?_
              refine g7_175 hM hG dX7_token_180 ?_
              obtain ⟨r_65, hc_64, hj_13⟩ := bd_of hj_13
              refine V_callV0 hE hG (As := [.int (tI S_62 0 10), .int (tI S_62 0 7)]) (rest := [rf E o]) (ok_tw_packed hE hM hc_64) hM.1 (by decide) rfl hw7_192 hd_tw_packed ⟨Nat.le_of_ble_eq_true rfl, Nat.le_of_ble_eq_true rfl⟩ rfl rfl (Nat.le_of_ble_eq_true rfl) rfl rfl dX7_token_183 ?_
              obtain ⟨S_66, eS_66, hj_13⟩ := be_of hj_13
              refine p7_189 hM hG eS_66 dX7_token_186 ?_
              refine V_goto hG 281 dX7_token_189 (by decide) ?_
              cases hj_13
              exact J_12
          refine V_if_lt hG 142 dX7_token_135 (by decide) (fun c_59 => ?_) (fun c_59 => ?_)
          · refine V_aload_n hG 0 rfl dX7_token_142 ?_
            refine g7_175 hM hG dX7_token_143 ?_
            refine V_aload_n hG 0 rfl dX7_token_146 ?_
            refine g7_169 hM hG dX7_token_147 ?_
            refine V_isub hG dX7_token_150 ?_
            refine V_bipush hG 6 (by decide) dX7_token_151 ?_
            refine V_icmp_le hG 161 dX7_token_153 (by decide) (fun c_60 => ?_) (fun c_60 => ?_)
            · refine V_iconst hG 2 rfl dX7_token_161 ?_
              exact J_58 _ (by rw [et_57, if_pos c_59, if_pos c_60])
            · refine V_bipush hG 6 (by decide) dX7_token_156 ?_
              refine V_goto hG 162 dX7_token_158 (by decide) ?_
              exact J_58 _ (by rw [et_57, if_pos c_59, if_neg c_60])
          · refine V_iconst hG 1 rfl dX7_token_138 ?_
            refine V_goto hG 162 dX7_token_139 (by decide) ?_
            exact J_58 _ (by rw [et_57, if_neg c_59])
        refine lp_walk (W := fun s_67 : TS => V E G (tw o s_67 M0) 0 0 1 90 [(0, rf E o)] [] Q) ?_ N S_10 hL_52
        intro s_67 b_45 hb_46 hk_47 hx_48
        obtain ⟨S_50, rfl⟩ : ∃ z, z = s_67 := ⟨_, rfl⟩
        have hb_46 : tw_token_b3 N S_50 = some b_45 := hb_46
        unfold tw_token_b3 at hb_46
        show V E G (tw o S_50 M0) 0 0 1 90 [(0, rf E o)] [] Q
        refine V_aload_n hG 0 rfl dX7_token_90 ?_
        refine V_aload_n hG 0 rfl dX7_token_91 ?_
        refine g7_175 hM hG dX7_token_92 ?_
        obtain ⟨r_69, hc_68, hb_46⟩ := bd_of hb_46
        refine V_callV0 hE hG (As := [.int (tI S_50 0 7)]) (rest := []) (ok_tw_isSmall hE hM hc_68) hM.1 (by decide) rfl hw7_181 hd_tw_isSmall ⟨Nat.le_of_ble_eq_true rfl, Nat.le_of_ble_eq_true rfl⟩ rfl rfl (Nat.le_of_ble_eq_true rfl) rfl rfl dX7_token_95 ?_
        refine V_if_eq hG 114 dX7_token_98 (by decide) (fun c_70 => ?_) (fun c_70 => ?_)
        · have hb_46 := if_t c_70 hb_46
          cases hb_46
          exact J_49 _ (hx_48 _ rfl)
        · have hb_46 := if_f c_70 hb_46
          refine V_aload_n hG 0 rfl dX7_token_101 ?_
          refine V_dup hG rfl dX7_token_102 ?_
          refine g7_175 hM hG dX7_token_103 ?_
          refine V_iconst hG 1 rfl dX7_token_106 ?_
          refine V_iadd hG dX7_token_107 ?_
          obtain ⟨S_71, eS_71, hb_46⟩ := be_of hb_46
          refine p7_175 hM hG eS_71 dX7_token_108 ?_
          refine V_goto hG 90 dX7_token_111 (by decide) ?_
          cases hb_46
          exact hk_47 _ rfl
    · have hj_13 := if_t c_14 hj_13
      refine V_aload_n hG 0 rfl dX7_token_71 ?_
      refine V_iconst hG 0 rfl dX7_token_72 ?_
      obtain ⟨S_72, eS_72, hj_13⟩ := be_of hj_13
      refine p7_178 hM hG eS_72 dX7_token_73 ?_
      refine V_goto hG 281 dX7_token_76 (by decide) ?_
      cases hj_13
      exact J_12
  refine lp_walk (W := fun s_73 : TS => V E G (tw o s_73 M0) 0 0 1 0 [(0, rf E o)] [] Q) ?_ N S hL_8
  intro s_73 b_1 hb_2 hk_3 hx_4
  obtain ⟨S_6, rfl⟩ : ∃ z, z = s_73 := ⟨_, rfl⟩
  have hb_2 : tw_token_b1 N S_6 = some b_1 := hb_2
  unfold tw_token_b1 at hb_2
  show V E G (tw o S_6 M0) 0 0 1 0 [(0, rf E o)] [] Q
  refine V_aload_n hG 0 rfl dX7_token_0 ?_
  refine g7_175 hM hG dX7_token_1 ?_
  refine V_aload_n hG 0 rfl dX7_token_4 ?_
  refine g7_172 hM hG dX7_token_5 ?_
  refine V_icmp_ge hG 52 dX7_token_8 (by decide) (fun c_74 => ?_) (fun c_74 => ?_)
  · have hb_2 := if_t c_74 hb_2
    cases hb_2
    exact J_5 _ (hx_4 _ rfl)
  · have hb_2 := if_f c_74 hb_2
    refine V_aload_n hG 0 rfl dX7_token_11 ?_
    refine g7_7 hM hG dX7_token_12 ?_
    refine V_aload_n hG 0 rfl dX7_token_15 ?_
    refine g7_175 hM hG dX7_token_16 ?_
    obtain ⟨g_75, hb_2⟩ := gd_of hb_2
    refine T_iaload hM hG (by decide) g_75 dX7_token_19 ?_
    refine V_bipush hG 10 (by decide) dX7_token_20 ?_
    refine V_icmp_eq hG 39 dX7_token_22 (by decide) (fun c_76 => ?_) (fun c_76 => ?_)
    · have hb_2 := if_t c_76 hb_2
      refine V_aload_n hG 0 rfl dX7_token_39 ?_
      refine V_dup hG rfl dX7_token_40 ?_
      refine g7_175 hM hG dX7_token_41 ?_
      refine V_iconst hG 1 rfl dX7_token_44 ?_
      refine V_iadd hG dX7_token_45 ?_
      obtain ⟨S_77, eS_77, hb_2⟩ := be_of hb_2
      refine p7_175 hM hG eS_77 dX7_token_46 ?_
      refine V_goto hG 0 dX7_token_49 (by decide) ?_
      cases hb_2
      exact hk_3 _ rfl
    · have hb_2 := if_f c_76 hb_2
      refine V_aload_n hG 0 rfl dX7_token_25 ?_
      refine g7_7 hM hG dX7_token_26 ?_
      refine V_aload_n hG 0 rfl dX7_token_29 ?_
      refine g7_175 hM hG dX7_token_30 ?_
      obtain ⟨g_78, hb_2⟩ := gd_of hb_2
      refine T_iaload hM hG (by decide) g_78 dX7_token_33 ?_
      refine V_bipush hG 32 (by decide) dX7_token_34 ?_
      refine V_icmp_ne hG 52 dX7_token_36 (by decide) (fun c_79 => ?_) (fun c_79 => ?_)
      · have hb_2 := if_f c_79 hb_2
        cases hb_2
        exact J_5 _ (hx_4 _ rfl)
      · have hb_2 := if_t c_79 hb_2
        refine V_aload_n hG 0 rfl dX7_token_39 ?_
        refine V_dup hG rfl dX7_token_40 ?_
        refine g7_175 hM hG dX7_token_41 ?_
        refine V_iconst hG 1 rfl dX7_token_44 ?_
        refine V_iadd hG dX7_token_45 ?_
        obtain ⟨S_80, eS_80, hb_2⟩ := be_of hb_2
        refine p7_175 hM hG eS_80 dX7_token_46 ?_
        refine V_goto hG 0 dX7_token_49 (by decide) ?_
        cases hb_2
        exact hk_3 _ rfl

def tw_wrong (p1 : Int32) (S : TS) : Option (Int32 × TS) :=
be (tsI S 0 4 p1) fun S_1 =>
be (tsI S_1 0 5 (tI S_1 0 10)) fun S_2 =>
some (0, S_2)
def rm_tw_wrong : Room := { frames := 0, cells := 0, slots := 0, locals := 0 }
theorem ok_tw_wrong {E : En} (hE : EOk E) {o : Nat} {M0 : Mem} (hM : TwS o M0) {p1 : Int32} {S : TS} {r : Int32} {S' : TS} (h : tw_wrong p1 S = some (r, S')) : CM E yX7_wrong cX7_wrong 2 (some .boolean) rm_tw_wrong [rf E o, .int p1] (tw o S M0) (some (.int r)) (tw o S' M0) := by
  unfold tw_wrong at h
  refine CM_intro (own := RX7) rfl (by decide) (Nat.le_of_ble_eq_true rfl) rfl (fun G hG => ?_)
  obtain ⟨Q, eQ⟩ : ∃ Q, Q = QM E G (some (.int r)) (tw o S' M0) 0 0 := ⟨_, rfl⟩
  show V E G (tw o S M0) 0 0 2 0 [(0, rf E o), (1, .int p1)] [] (QM E G (some (.int r)) (tw o S' M0) 0 0)
  rw [← eQ]
  refine V_aload_n hG 0 rfl dX7_wrong_0 ?_
  refine V_iload_n hG 1 rfl dX7_wrong_1 ?_
  obtain ⟨S_1, eS_1, h⟩ := be_of h
  refine p7_166 hM hG eS_1 dX7_wrong_2 ?_
  refine V_aload_n hG 0 rfl dX7_wrong_5 ?_
  refine V_aload_n hG 0 rfl dX7_wrong_6 ?_
  refine g7_169 hM hG dX7_wrong_7 ?_
  obtain ⟨S_2, eS_2, h⟩ := be_of h
  refine p7_16 hM hG eS_2 dX7_wrong_10 ?_
  refine V_iconst hG 0 rfl dX7_wrong_13 ?_
  cases h
  subst eQ
  exact V_zret hG (Or.inl rfl) dX7_wrong_14

def tw_newName (N : Nat) (p1 : Nat) (p2 : Int32) (p3 : Int32) (S : TS) : Option (Int32 × TS) :=
if tI S 0 8 = 2 then (
bd (tw_find N p1 p2 p3 (tI S 0 9) S) fun r_3 =>
if r_3 < 0 then (
gd (tyA p1 = 0) (
gd (inb (p2 + p3) (lenA p1)) (
be (tsI S p1 (Int32.toNatClampNeg (p2 + p3)) (tI S 0 9)) fun S_7 =>
bd (tw_token N S_7) fun S_9 =>
some (1, S_9))))
else (
bd2 (tw_wrong 3 S) fun r_12 S_11 =>
gd (r_12 = 0 ∨ r_12 = 1) (
some (r_12, S_11))))
else (
bd2 (tw_wrong 1 S) fun r_16 S_15 =>
gd (r_16 = 0 ∨ r_16 = 1) (
some (r_16, S_15)))
def rm_tw_newName : Room := { frames := 2, cells := 0, slots := 0, locals := 47 }
theorem ok_tw_newName {E : En} (hE : EOk E) {o : Nat} {M0 : Mem} (hM : TwS o M0) {N : Nat} {p1 : Nat} {p2 : Int32} {p3 : Int32} {S : TS} {r : Int32} {S' : TS} (h : tw_newName N p1 p2 p3 S = some (r, S')) : CM E yX7_newName cX7_newName 4 (some .boolean) rm_tw_newName [rf E o, rf E ((o + p1)), .int p2, .int p3] (tw o S M0) (some (.int r)) (tw o S' M0) := by
  unfold tw_newName at h
  refine CM_intro (own := RX7) rfl (by decide) (Nat.le_of_ble_eq_true rfl) rfl (fun G hG => ?_)
  obtain ⟨Q, eQ⟩ : ∃ Q, Q = QM E G (some (.int r)) (tw o S' M0) 0 0 := ⟨_, rfl⟩
  show V E G (tw o S M0) 0 0 4 0 [(0, rf E o), (1, rf E ((o + p1))), (2, .int p2), (3, .int p3)] [] (QM E G (some (.int r)) (tw o S' M0) 0 0)
  rw [← eQ]
  refine V_aload_n hG 0 rfl dX7_newName_0 ?_
  refine g7_178 hM hG dX7_newName_1 ?_
  refine V_iconst hG 2 rfl dX7_newName_4 ?_
  refine V_icmp_eq hG 14 dX7_newName_5 (by decide) (fun c_1 => ?_) (fun c_1 => ?_)
  · have h := if_t c_1 h
    refine V_aload_n hG 1 rfl dX7_newName_14 ?_
    refine V_iload_n hG 2 rfl dX7_newName_15 ?_
    refine V_iload_n hG 3 rfl dX7_newName_16 ?_
    refine V_aload_n hG 0 rfl dX7_newName_17 ?_
    refine g7_189 hM hG dX7_newName_18 ?_
    obtain ⟨r_3, hc_2, h⟩ := bd_of h
    refine V_callS0 hE hG (As := [rf E ((o + p1)), .int p2, .int p3, .int (tI S 0 9)]) (rest := []) (ok_tw_find hE hM hc_2) hw7_265 hd_tw_find ⟨Nat.le_of_ble_eq_true rfl, Nat.le_of_ble_eq_true rfl⟩ rfl rfl (Nat.le_of_ble_eq_true rfl) rfl rfl dX7_newName_21 ?_
    refine V_if_lt hG 33 dX7_newName_24 (by decide) (fun c_4 => ?_) (fun c_4 => ?_)
    · have h := if_t c_4 h
      refine V_aload_n hG 1 rfl dX7_newName_33 ?_
      refine V_iload_n hG 2 rfl dX7_newName_34 ?_
      refine V_iload_n hG 3 rfl dX7_newName_35 ?_
      refine V_iadd hG dX7_newName_36 ?_
      refine V_aload_n hG 0 rfl dX7_newName_37 ?_
      refine g7_189 hM hG dX7_newName_38 ?_
      obtain ⟨g_5, h⟩ := gd_of h
      obtain ⟨g_6, h⟩ := gd_of h
      obtain ⟨S_7, eS_7, h⟩ := be_of h
      refine T_iastore hM hG eS_7 g_5 g_6 dX7_newName_41 ?_
      refine V_aload_n hG 0 rfl dX7_newName_42 ?_
      obtain ⟨S_9, hc_8, h⟩ := bd_of h
      refine V_callV0 hE hG (As := []) (rest := []) (ok_tw_token hE hM hc_8) hM.1 (by decide) rfl hw7_212 hd_tw_token ⟨Nat.le_of_ble_eq_true rfl, Nat.le_of_ble_eq_true rfl⟩ rfl rfl (Nat.le_of_ble_eq_true rfl) rfl rfl dX7_newName_43 ?_
      refine V_iconst hG 1 rfl dX7_newName_46 ?_
      cases h
      subst eQ
      exact V_zret hG (Or.inr rfl) dX7_newName_47
    · have h := if_f c_4 h
      refine V_aload_n hG 0 rfl dX7_newName_27 ?_
      refine V_iconst hG 3 rfl dX7_newName_28 ?_
      obtain ⟨r_12, S_11, hc_10, h⟩ := bd2_of h
      refine V_callV0 hE hG (As := [.int 3]) (rest := []) (ok_tw_wrong hE hM hc_10) hM.1 (by decide) rfl hw7_202 hd_tw_wrong ⟨Nat.le_of_ble_eq_true rfl, Nat.le_of_ble_eq_true rfl⟩ rfl rfl (Nat.le_of_ble_eq_true rfl) rfl rfl dX7_newName_29 ?_
      obtain ⟨g_13, h⟩ := gd_of h
      cases h
      subst eQ
      exact V_zret hG g_13 dX7_newName_32
  · have h := if_f c_1 h
    refine V_aload_n hG 0 rfl dX7_newName_8 ?_
    refine V_iconst hG 1 rfl dX7_newName_9 ?_
    obtain ⟨r_16, S_15, hc_14, h⟩ := bd2_of h
    refine V_callV0 hE hG (As := [.int 1]) (rest := []) (ok_tw_wrong hE hM hc_14) hM.1 (by decide) rfl hw7_202 hd_tw_wrong ⟨Nat.le_of_ble_eq_true rfl, Nat.le_of_ble_eq_true rfl⟩ rfl rfl (Nat.le_of_ble_eq_true rfl) rfl rfl dX7_newName_10 ?_
    obtain ⟨g_17, h⟩ := gd_of h
    cases h
    subst eQ
    exact V_zret hG g_17 dX7_newName_13

def tw_number (N : Nat) (p1 : Int32) (p2 : Int32) (S : TS) : Option (Int32 × TS) :=
if tI S 0 8 = 3 then (
bd (tw_isIn (tI S 0 9) p1 p2 S) fun r_3 =>
if r_3 = 0 then (
bd2 (tw_wrong 2 S) fun r_10 S_9 =>
gd (r_10 = 0 ∨ r_10 = 1) (
some (r_10, S_9)))
else (
be (tsI S 0 11 (tI S 0 9)) fun S_5 =>
bd (tw_token N S_5) fun S_7 =>
some (1, S_7)))
else (
bd2 (tw_wrong 1 S) fun r_14 S_13 =>
gd (r_14 = 0 ∨ r_14 = 1) (
some (r_14, S_13)))
def rm_tw_number : Room := { frames := 2, cells := 0, slots := 0, locals := 47 }
theorem ok_tw_number {E : En} (hE : EOk E) {o : Nat} {M0 : Mem} (hM : TwS o M0) {N : Nat} {p1 : Int32} {p2 : Int32} {S : TS} {r : Int32} {S' : TS} (h : tw_number N p1 p2 S = some (r, S')) : CM E yX7_number cX7_number 3 (some .boolean) rm_tw_number [rf E o, .int p1, .int p2] (tw o S M0) (some (.int r)) (tw o S' M0) := by
  unfold tw_number at h
  refine CM_intro (own := RX7) rfl (by decide) (Nat.le_of_ble_eq_true rfl) rfl (fun G hG => ?_)
  obtain ⟨Q, eQ⟩ : ∃ Q, Q = QM E G (some (.int r)) (tw o S' M0) 0 0 := ⟨_, rfl⟩
  show V E G (tw o S M0) 0 0 3 0 [(0, rf E o), (1, .int p1), (2, .int p2)] [] (QM E G (some (.int r)) (tw o S' M0) 0 0)
  rw [← eQ]
  refine V_aload_n hG 0 rfl dX7_number_0 ?_
  refine g7_178 hM hG dX7_number_1 ?_
  refine V_iconst hG 3 rfl dX7_number_4 ?_
  refine V_icmp_eq hG 14 dX7_number_5 (by decide) (fun c_1 => ?_) (fun c_1 => ?_)
  · have h := if_t c_1 h
    refine V_aload_n hG 0 rfl dX7_number_14 ?_
    refine g7_189 hM hG dX7_number_15 ?_
    refine V_iload_n hG 1 rfl dX7_number_18 ?_
    refine V_iload_n hG 2 rfl dX7_number_19 ?_
    obtain ⟨r_3, hc_2, h⟩ := bd_of h
    refine V_callS0 hE hG (As := [.int (tI S 0 9), .int p1, .int p2]) (rest := []) (ok_tw_isIn hE hM hc_2) hw7_205 hd_tw_isIn ⟨Nat.le_of_ble_eq_true rfl, Nat.le_of_ble_eq_true rfl⟩ rfl rfl (Nat.le_of_ble_eq_true rfl) rfl rfl dX7_number_20 ?_
    refine V_if_ne hG 32 dX7_number_23 (by decide) (fun c_4 => ?_) (fun c_4 => ?_)
    · have h := if_f c_4 h
      refine V_aload_n hG 0 rfl dX7_number_32 ?_
      refine V_aload_n hG 0 rfl dX7_number_33 ?_
      refine g7_189 hM hG dX7_number_34 ?_
      obtain ⟨S_5, eS_5, h⟩ := be_of h
      refine p7_209 hM hG eS_5 dX7_number_37 ?_
      refine V_aload_n hG 0 rfl dX7_number_40 ?_
      obtain ⟨S_7, hc_6, h⟩ := bd_of h
      refine V_callV0 hE hG (As := []) (rest := []) (ok_tw_token hE hM hc_6) hM.1 (by decide) rfl hw7_212 hd_tw_token ⟨Nat.le_of_ble_eq_true rfl, Nat.le_of_ble_eq_true rfl⟩ rfl rfl (Nat.le_of_ble_eq_true rfl) rfl rfl dX7_number_41 ?_
      refine V_iconst hG 1 rfl dX7_number_44 ?_
      cases h
      subst eQ
      exact V_zret hG (Or.inr rfl) dX7_number_45
    · have h := if_t c_4 h
      refine V_aload_n hG 0 rfl dX7_number_26 ?_
      refine V_iconst hG 2 rfl dX7_number_27 ?_
      obtain ⟨r_10, S_9, hc_8, h⟩ := bd2_of h
      refine V_callV0 hE hG (As := [.int 2]) (rest := []) (ok_tw_wrong hE hM hc_8) hM.1 (by decide) rfl hw7_202 hd_tw_wrong ⟨Nat.le_of_ble_eq_true rfl, Nat.le_of_ble_eq_true rfl⟩ rfl rfl (Nat.le_of_ble_eq_true rfl) rfl rfl dX7_number_28 ?_
      obtain ⟨g_11, h⟩ := gd_of h
      cases h
      subst eQ
      exact V_zret hG g_11 dX7_number_31
  · have h := if_f c_1 h
    refine V_aload_n hG 0 rfl dX7_number_8 ?_
    refine V_iconst hG 1 rfl dX7_number_9 ?_
    obtain ⟨r_14, S_13, hc_12, h⟩ := bd2_of h
    refine V_callV0 hE hG (As := [.int 1]) (rest := []) (ok_tw_wrong hE hM hc_12) hM.1 (by decide) rfl hw7_202 hd_tw_wrong ⟨Nat.le_of_ble_eq_true rfl, Nat.le_of_ble_eq_true rfl⟩ rfl rfl (Nat.le_of_ble_eq_true rfl) rfl rfl dX7_number_10 ?_
    obtain ⟨g_15, h⟩ := gd_of h
    cases h
    subst eQ
    exact V_zret hG g_15 dX7_number_13

def tw_horseLine (N : Nat)  (S : TS) : Option (Int32 × TS) :=
if tI S 0 18 = 6 then (
bd2 (tw_wrong 2 S) fun r_36 S_35 =>
gd (r_36 = 0 ∨ r_36 = 1) (
some (r_36, S_35)))
else (
bd (tw_token N S) fun S_3 =>
bd2 (tw_newName N 9 6 (tI S_3 0 18) S_3) fun r_6 S_5 =>
if r_6 = 0 then (
some (0, S_5))
else (
be (6 + (tI S_5 0 18)) fun (x1_8 : Int32) =>
bd2 (tw_number N 0 3 S_5) fun r_11 S_10 =>
if r_11 = 0 then (
some (0, S_10))
else (
gd (inb x1_8 (lenA 10)) (
be (tsI S_10 10 (Int32.toNatClampNeg x1_8) (tI S_10 0 11)) fun S_14 =>
bd2 (tw_number N 0 (tI S_14 0 20) S_14) fun r_17 S_16 =>
if r_17 = 0 then (
some (0, S_16))
else (
gd (inb x1_8 (lenA 11)) (
be (tsI S_16 11 (Int32.toNatClampNeg x1_8) (tI S_16 0 11)) fun S_20 =>
bd2 (tw_number N 0 99 S_20) fun r_23 S_22 =>
if r_23 = 0 then (
some (0, S_22))
else (
gd (inb x1_8 (lenA 12)) (
be (tsI S_22 12 (Int32.toNatClampNeg x1_8) (tI S_22 0 11)) fun S_26 =>
bd2 (tw_number N 1 9 S_26) fun r_29 S_28 =>
if r_29 = 0 then (
some (0, S_28))
else (
gd (inb x1_8 (lenA 13)) (
be (tsI S_28 13 (Int32.toNatClampNeg x1_8) (tI S_28 0 11)) fun S_32 =>
be (tsI S_32 0 18 ((tI S_32 0 18) + 1)) fun S_33 =>
some (1, S_33)))))))))))
def rm_tw_horseLine : Room := { frames := 3, cells := 0, slots := 0, locals := 70 }
theorem ok_tw_horseLine {E : En} (hE : EOk E) {o : Nat} {M0 : Mem} (hM : TwS o M0) {N : Nat}  {S : TS} {r : Int32} {S' : TS} (h : tw_horseLine N  S = some (r, S')) : CM E yX7_horseLine cX7_horseLine 2 (some .boolean) rm_tw_horseLine [rf E o] (tw o S M0) (some (.int r)) (tw o S' M0) := by
  unfold tw_horseLine at h
  refine CM_intro (own := RX7) rfl (by decide) (Nat.le_of_ble_eq_true rfl) rfl (fun G hG => ?_)
  obtain ⟨Q, eQ⟩ : ∃ Q, Q = QM E G (some (.int r)) (tw o S' M0) 0 0 := ⟨_, rfl⟩
  show V E G (tw o S M0) 0 0 2 0 [(0, rf E o)] [] (QM E G (some (.int r)) (tw o S' M0) 0 0)
  rw [← eQ]
  refine V_aload_n hG 0 rfl dX7_horseLine_0 ?_
  refine g7_225 hM hG dX7_horseLine_1 ?_
  refine V_bipush hG 6 (by decide) dX7_horseLine_4 ?_
  refine V_icmp_ne hG 15 dX7_horseLine_6 (by decide) (fun c_1 => ?_) (fun c_1 => ?_)
  · have h := if_f c_1 h
    refine V_aload_n hG 0 rfl dX7_horseLine_15 ?_
    obtain ⟨S_3, hc_2, h⟩ := bd_of h
    refine V_callV0 hE hG (As := []) (rest := []) (ok_tw_token hE hM hc_2) hM.1 (by decide) rfl hw7_212 hd_tw_token ⟨Nat.le_of_ble_eq_true rfl, Nat.le_of_ble_eq_true rfl⟩ rfl rfl (Nat.le_of_ble_eq_true rfl) rfl rfl dX7_horseLine_16 ?_
    refine V_aload_n hG 0 rfl dX7_horseLine_19 ?_
    refine V_aload_n hG 0 rfl dX7_horseLine_20 ?_
    refine g7_39 hM hG dX7_horseLine_21 ?_
    refine V_bipush hG 6 (by decide) dX7_horseLine_24 ?_
    refine V_aload_n hG 0 rfl dX7_horseLine_26 ?_
    refine g7_225 hM hG dX7_horseLine_27 ?_
    obtain ⟨r_6, S_5, hc_4, h⟩ := bd2_of h
    refine V_callV0 hE hG (As := [rf E ((o + 9)), .int 6, .int (tI S_3 0 18)]) (rest := []) (ok_tw_newName hE hM hc_4) hM.1 (by decide) rfl hw7_269 hd_tw_newName ⟨Nat.le_of_ble_eq_true rfl, Nat.le_of_ble_eq_true rfl⟩ rfl rfl (Nat.le_of_ble_eq_true rfl) rfl rfl dX7_horseLine_30 ?_
    refine V_if_ne hG 38 dX7_horseLine_33 (by decide) (fun c_7 => ?_) (fun c_7 => ?_)
    · have h := if_f c_7 h
      refine V_bipush hG 6 (by decide) dX7_horseLine_38 ?_
      refine V_aload_n hG 0 rfl dX7_horseLine_40 ?_
      refine g7_225 hM hG dX7_horseLine_41 ?_
      refine V_iadd hG dX7_horseLine_44 ?_
      obtain ⟨x1_8, ex1_8, h⟩ := be_of h
      refine V_topi ex1_8 ?_
      refine V_istore_n hG rfl [(1, .int x1_8), (0, rf E o)] dX7_horseLine_45 (Nat.le_of_ble_eq_true rfl) rfl ?_
      refine V_aload_n hG 1 rfl dX7_horseLine_46 ?_
      refine V_iconst hG 0 rfl dX7_horseLine_47 ?_
      refine V_iconst hG 3 rfl dX7_horseLine_48 ?_
      obtain ⟨r_11, S_10, hc_9, h⟩ := bd2_of h
      refine V_callV0 hE hG (As := [.int 0, .int 3]) (rest := []) (ok_tw_number hE hM hc_9) hM.1 (by decide) rfl hw7_218 hd_tw_number ⟨Nat.le_of_ble_eq_true rfl, Nat.le_of_ble_eq_true rfl⟩ rfl rfl (Nat.le_of_ble_eq_true rfl) rfl rfl dX7_horseLine_49 ?_
      refine V_if_ne hG 57 dX7_horseLine_52 (by decide) (fun c_12 => ?_) (fun c_12 => ?_)
      · have h := if_f c_12 h
        refine V_aload_n hG 1 rfl dX7_horseLine_57 ?_
        refine g7_42 hM hG dX7_horseLine_58 ?_
        refine V_iload_n hG 0 rfl dX7_horseLine_61 ?_
        refine V_aload_n hG 1 rfl dX7_horseLine_62 ?_
        refine g7_209 hM hG dX7_horseLine_63 ?_
        obtain ⟨g_13, h⟩ := gd_of h
        obtain ⟨S_14, eS_14, h⟩ := be_of h
        refine T_iastore hM hG eS_14 (by decide) g_13 dX7_horseLine_66 ?_
        refine V_aload_n hG 1 rfl dX7_horseLine_67 ?_
        refine V_iconst hG 0 rfl dX7_horseLine_68 ?_
        refine V_aload_n hG 1 rfl dX7_horseLine_69 ?_
        refine g7_231 hM hG dX7_horseLine_70 ?_
        obtain ⟨r_17, S_16, hc_15, h⟩ := bd2_of h
        refine V_callV0 hE hG (As := [.int 0, .int (tI S_14 0 20)]) (rest := []) (ok_tw_number hE hM hc_15) hM.1 (by decide) rfl hw7_218 hd_tw_number ⟨Nat.le_of_ble_eq_true rfl, Nat.le_of_ble_eq_true rfl⟩ rfl rfl (Nat.le_of_ble_eq_true rfl) rfl rfl dX7_horseLine_73 ?_
        refine V_if_ne hG 81 dX7_horseLine_76 (by decide) (fun c_18 => ?_) (fun c_18 => ?_)
        · have h := if_f c_18 h
          refine V_aload_n hG 1 rfl dX7_horseLine_81 ?_
          refine g7_45 hM hG dX7_horseLine_82 ?_
          refine V_iload_n hG 0 rfl dX7_horseLine_85 ?_
          refine V_aload_n hG 1 rfl dX7_horseLine_86 ?_
          refine g7_209 hM hG dX7_horseLine_87 ?_
          obtain ⟨g_19, h⟩ := gd_of h
          obtain ⟨S_20, eS_20, h⟩ := be_of h
          refine T_iastore hM hG eS_20 (by decide) g_19 dX7_horseLine_90 ?_
          refine V_aload_n hG 1 rfl dX7_horseLine_91 ?_
          refine V_iconst hG 0 rfl dX7_horseLine_92 ?_
          refine V_bipush hG 99 (by decide) dX7_horseLine_93 ?_
          obtain ⟨r_23, S_22, hc_21, h⟩ := bd2_of h
          refine V_callV0 hE hG (As := [.int 0, .int 99]) (rest := []) (ok_tw_number hE hM hc_21) hM.1 (by decide) rfl hw7_218 hd_tw_number ⟨Nat.le_of_ble_eq_true rfl, Nat.le_of_ble_eq_true rfl⟩ rfl rfl (Nat.le_of_ble_eq_true rfl) rfl rfl dX7_horseLine_95 ?_
          refine V_if_ne hG 103 dX7_horseLine_98 (by decide) (fun c_24 => ?_) (fun c_24 => ?_)
          · have h := if_f c_24 h
            refine V_aload_n hG 1 rfl dX7_horseLine_103 ?_
            refine g7_48 hM hG dX7_horseLine_104 ?_
            refine V_iload_n hG 0 rfl dX7_horseLine_107 ?_
            refine V_aload_n hG 1 rfl dX7_horseLine_108 ?_
            refine g7_209 hM hG dX7_horseLine_109 ?_
            obtain ⟨g_25, h⟩ := gd_of h
            obtain ⟨S_26, eS_26, h⟩ := be_of h
            refine T_iastore hM hG eS_26 (by decide) g_25 dX7_horseLine_112 ?_
            refine V_aload_n hG 1 rfl dX7_horseLine_113 ?_
            refine V_iconst hG 1 rfl dX7_horseLine_114 ?_
            refine V_bipush hG 9 (by decide) dX7_horseLine_115 ?_
            obtain ⟨r_29, S_28, hc_27, h⟩ := bd2_of h
            refine V_callV0 hE hG (As := [.int 1, .int 9]) (rest := []) (ok_tw_number hE hM hc_27) hM.1 (by decide) rfl hw7_218 hd_tw_number ⟨Nat.le_of_ble_eq_true rfl, Nat.le_of_ble_eq_true rfl⟩ rfl rfl (Nat.le_of_ble_eq_true rfl) rfl rfl dX7_horseLine_117 ?_
            refine V_if_ne hG 125 dX7_horseLine_120 (by decide) (fun c_30 => ?_) (fun c_30 => ?_)
            · have h := if_f c_30 h
              refine V_aload_n hG 1 rfl dX7_horseLine_125 ?_
              refine g7_51 hM hG dX7_horseLine_126 ?_
              refine V_iload_n hG 0 rfl dX7_horseLine_129 ?_
              refine V_aload_n hG 1 rfl dX7_horseLine_130 ?_
              refine g7_209 hM hG dX7_horseLine_131 ?_
              obtain ⟨g_31, h⟩ := gd_of h
              obtain ⟨S_32, eS_32, h⟩ := be_of h
              refine T_iastore hM hG eS_32 (by decide) g_31 dX7_horseLine_134 ?_
              refine V_aload_n hG 1 rfl dX7_horseLine_135 ?_
              refine V_dup hG rfl dX7_horseLine_136 ?_
              refine g7_225 hM hG dX7_horseLine_137 ?_
              refine V_iconst hG 1 rfl dX7_horseLine_140 ?_
              refine V_iadd hG dX7_horseLine_141 ?_
              obtain ⟨S_33, eS_33, h⟩ := be_of h
              refine p7_225 hM hG eS_33 dX7_horseLine_142 ?_
              refine V_iconst hG 1 rfl dX7_horseLine_145 ?_
              cases h
              subst eQ
              exact V_zret hG (Or.inr rfl) dX7_horseLine_146
            · have h := if_t c_30 h
              refine V_iconst hG 0 rfl dX7_horseLine_123 ?_
              cases h
              subst eQ
              exact V_zret hG (Or.inl rfl) dX7_horseLine_124
          · have h := if_t c_24 h
            refine V_iconst hG 0 rfl dX7_horseLine_101 ?_
            cases h
            subst eQ
            exact V_zret hG (Or.inl rfl) dX7_horseLine_102
        · have h := if_t c_18 h
          refine V_iconst hG 0 rfl dX7_horseLine_79 ?_
          cases h
          subst eQ
          exact V_zret hG (Or.inl rfl) dX7_horseLine_80
      · have h := if_t c_12 h
        refine V_iconst hG 0 rfl dX7_horseLine_55 ?_
        cases h
        subst eQ
        exact V_zret hG (Or.inl rfl) dX7_horseLine_56
    · have h := if_t c_7 h
      refine V_iconst hG 0 rfl dX7_horseLine_36 ?_
      cases h
      subst eQ
      exact V_zret hG (Or.inl rfl) dX7_horseLine_37
  · have h := if_t c_1 h
    refine V_aload_n hG 0 rfl dX7_horseLine_9 ?_
    refine V_iconst hG 2 rfl dX7_horseLine_10 ?_
    obtain ⟨r_36, S_35, hc_34, h⟩ := bd2_of h
    refine V_callV0 hE hG (As := [.int 2]) (rest := []) (ok_tw_wrong hE hM hc_34) hM.1 (by decide) rfl hw7_202 hd_tw_wrong ⟨Nat.le_of_ble_eq_true rfl, Nat.le_of_ble_eq_true rfl⟩ rfl rfl (Nat.le_of_ble_eq_true rfl) rfl rfl dX7_horseLine_11 ?_
    obtain ⟨g_37, h⟩ := gd_of h
    cases h
    subst eQ
    exact V_zret hG g_37 dX7_horseLine_14

def tw_isCounted  (S : TS) : Option (Int32 × TS) :=
if tI S 0 48 = 64 then (
bd2 (tw_wrong 2 S) fun r_5 S_4 =>
gd (r_5 = 0 ∨ r_5 = 1) (
some (r_5, S_4)))
else (
be (tsI S 0 48 ((tI S 0 48) + 1)) fun S_2 =>
some (1, S_2))
def rm_tw_isCounted : Room := { frames := 1, cells := 0, slots := 0, locals := 21 }
theorem ok_tw_isCounted {E : En} (hE : EOk E) {o : Nat} {M0 : Mem} (hM : TwS o M0)  {S : TS} {r : Int32} {S' : TS} (h : tw_isCounted  S = some (r, S')) : CM E yX7_isCounted cX7_isCounted 1 (some .boolean) rm_tw_isCounted [rf E o] (tw o S M0) (some (.int r)) (tw o S' M0) := by
  unfold tw_isCounted at h
  refine CM_intro (own := RX7) rfl (by decide) (Nat.le_of_ble_eq_true rfl) rfl (fun G hG => ?_)
  obtain ⟨Q, eQ⟩ : ∃ Q, Q = QM E G (some (.int r)) (tw o S' M0) 0 0 := ⟨_, rfl⟩
  show V E G (tw o S M0) 0 0 1 0 [(0, rf E o)] [] (QM E G (some (.int r)) (tw o S' M0) 0 0)
  rw [← eQ]
  refine V_aload_n hG 0 rfl dX7_isCounted_0 ?_
  refine g7_240 hM hG dX7_isCounted_1 ?_
  refine V_bipush hG 64 (by decide) dX7_isCounted_4 ?_
  refine V_icmp_ne hG 15 dX7_isCounted_6 (by decide) (fun c_1 => ?_) (fun c_1 => ?_)
  · have h := if_f c_1 h
    refine V_aload_n hG 0 rfl dX7_isCounted_15 ?_
    refine V_dup hG rfl dX7_isCounted_16 ?_
    refine g7_240 hM hG dX7_isCounted_17 ?_
    refine V_iconst hG 1 rfl dX7_isCounted_20 ?_
    refine V_iadd hG dX7_isCounted_21 ?_
    obtain ⟨S_2, eS_2, h⟩ := be_of h
    refine p7_240 hM hG eS_2 dX7_isCounted_22 ?_
    refine V_iconst hG 1 rfl dX7_isCounted_25 ?_
    cases h
    subst eQ
    exact V_zret hG (Or.inr rfl) dX7_isCounted_26
  · have h := if_t c_1 h
    refine V_aload_n hG 0 rfl dX7_isCounted_9 ?_
    refine V_iconst hG 2 rfl dX7_isCounted_10 ?_
    obtain ⟨r_5, S_4, hc_3, h⟩ := bd2_of h
    refine V_callV0 hE hG (As := [.int 2]) (rest := []) (ok_tw_wrong hE hM hc_3) hM.1 (by decide) rfl hw7_202 hd_tw_wrong ⟨Nat.le_of_ble_eq_true rfl, Nat.le_of_ble_eq_true rfl⟩ rfl rfl (Nat.le_of_ble_eq_true rfl) rfl rfl dX7_isCounted_11 ?_
    obtain ⟨g_6, h⟩ := gd_of h
    cases h
    subst eQ
    exact V_zret hG g_6 dX7_isCounted_14

def tw_isKey (p1 : Int32) (S : TS) : Option (Int32) :=
be (if tI S 0 8 = 1 then (
if tI S 0 9 = p1 then (
1)
else (
0))
else (
0) : Int32) fun (y_5 : Int32) =>
gd (y_5 = 0 ∨ y_5 = 1) (
some y_5)
def rm_tw_isKey : Room := { frames := 0, cells := 0, slots := 0, locals := 0 }
theorem ok_tw_isKey {E : En} (hE : EOk E) {o : Nat} {M0 : Mem} (hM : TwS o M0) {p1 : Int32} {S : TS} {r : Int32} (h : tw_isKey p1 S = some r) : CM E yX7_isKey cX7_isKey 2 (some .boolean) rm_tw_isKey [rf E o, .int p1] (tw o S M0) (some (.int r)) (tw o S M0) := by
  unfold tw_isKey at h
  refine CM_intro (own := RX7) rfl (by decide) (Nat.le_of_ble_eq_true rfl) rfl (fun G hG => ?_)
  obtain ⟨Q, eQ⟩ : ∃ Q, Q = QM E G (some (.int r)) (tw o S M0) 0 0 := ⟨_, rfl⟩
  show V E G (tw o S M0) 0 0 2 0 [(0, rf E o), (1, .int p1)] [] (QM E G (some (.int r)) (tw o S M0) 0 0)
  rw [← eQ]
  refine V_aload_n hG 0 rfl dX7_isKey_0 ?_
  refine g7_178 hM hG dX7_isKey_1 ?_
  refine V_iconst hG 1 rfl dX7_isKey_4 ?_
  obtain ⟨t_1, et_1, h⟩ := be_of h
  have J_2 : ∀ y_5 : Int32, y_5 = t_1 → V E G (tw o S M0) 0 0 2 21 [(0, rf E o), (1, .int p1)] [.int y_5] Q := by
    intro y_5 ey
    subst ey
    obtain ⟨g_6, h⟩ := gd_of h
    cases h
    subst eQ
    exact V_zret hG g_6 dX7_isKey_21
  refine V_icmp_ne hG 20 dX7_isKey_5 (by decide) (fun c_3 => ?_) (fun c_3 => ?_)
  · refine V_iconst hG 0 rfl dX7_isKey_20 ?_
    exact J_2 _ (by rw [et_1, if_neg c_3])
  · refine V_aload_n hG 0 rfl dX7_isKey_8 ?_
    refine g7_189 hM hG dX7_isKey_9 ?_
    refine V_iload_n hG 1 rfl dX7_isKey_12 ?_
    refine V_icmp_ne hG 20 dX7_isKey_13 (by decide) (fun c_4 => ?_) (fun c_4 => ?_)
    · refine V_iconst hG 0 rfl dX7_isKey_20 ?_
      exact J_2 _ (by rw [et_1, if_pos c_3, if_neg c_4])
    · refine V_iconst hG 1 rfl dX7_isKey_16 ?_
      refine V_goto hG 21 dX7_isKey_17 (by decide) ?_
      exact J_2 _ (by rw [et_1, if_pos c_3, if_pos c_4])

def tw_isSign (p1 : Int32) (S : TS) : Option (Int32) :=
be (if tI S 0 8 = 4 then (
if tI S 0 9 = p1 then (
1)
else (
0))
else (
0) : Int32) fun (y_5 : Int32) =>
gd (y_5 = 0 ∨ y_5 = 1) (
some y_5)
def rm_tw_isSign : Room := { frames := 0, cells := 0, slots := 0, locals := 0 }
theorem ok_tw_isSign {E : En} (hE : EOk E) {o : Nat} {M0 : Mem} (hM : TwS o M0) {p1 : Int32} {S : TS} {r : Int32} (h : tw_isSign p1 S = some r) : CM E yX7_isSign cX7_isSign 2 (some .boolean) rm_tw_isSign [rf E o, .int p1] (tw o S M0) (some (.int r)) (tw o S M0) := by
  unfold tw_isSign at h
  refine CM_intro (own := RX7) rfl (by decide) (Nat.le_of_ble_eq_true rfl) rfl (fun G hG => ?_)
  obtain ⟨Q, eQ⟩ : ∃ Q, Q = QM E G (some (.int r)) (tw o S M0) 0 0 := ⟨_, rfl⟩
  show V E G (tw o S M0) 0 0 2 0 [(0, rf E o), (1, .int p1)] [] (QM E G (some (.int r)) (tw o S M0) 0 0)
  rw [← eQ]
  refine V_aload_n hG 0 rfl dX7_isSign_0 ?_
  refine g7_178 hM hG dX7_isSign_1 ?_
  refine V_iconst hG 4 rfl dX7_isSign_4 ?_
  obtain ⟨t_1, et_1, h⟩ := be_of h
  have J_2 : ∀ y_5 : Int32, y_5 = t_1 → V E G (tw o S M0) 0 0 2 21 [(0, rf E o), (1, .int p1)] [.int y_5] Q := by
    intro y_5 ey
    subst ey
    obtain ⟨g_6, h⟩ := gd_of h
    cases h
    subst eQ
    exact V_zret hG g_6 dX7_isSign_21
  refine V_icmp_ne hG 20 dX7_isSign_5 (by decide) (fun c_3 => ?_) (fun c_3 => ?_)
  · refine V_iconst hG 0 rfl dX7_isSign_20 ?_
    exact J_2 _ (by rw [et_1, if_neg c_3])
  · refine V_aload_n hG 0 rfl dX7_isSign_8 ?_
    refine g7_189 hM hG dX7_isSign_9 ?_
    refine V_iload_n hG 1 rfl dX7_isSign_12 ?_
    refine V_icmp_ne hG 20 dX7_isSign_13 (by decide) (fun c_4 => ?_) (fun c_4 => ?_)
    · refine V_iconst hG 0 rfl dX7_isSign_20 ?_
      exact J_2 _ (by rw [et_1, if_pos c_3, if_neg c_4])
    · refine V_iconst hG 1 rfl dX7_isSign_16 ?_
      refine V_goto hG 21 dX7_isSign_17 (by decide) ?_
      exact J_2 _ (by rw [et_1, if_pos c_3, if_pos c_4])

def tw_keep_b1 (N : Nat) (x1_10 : Int32) (S_11 : TS) : Option ((Int32 × TS) ⊕ (Int32 × TS)) :=
if 6 ≤ x1_10 then (
some (.inl (x1_10, S_11)))
else (
gd (inb x1_10 (lenA 28)) (
gd (inb x1_10 (lenA 45)) (
be (tsI S_11 45 (Int32.toNatClampNeg x1_10) (tI S_11 28 (Int32.toNatClampNeg x1_10))) fun S_27 =>
gd (inb x1_10 (lenA 30)) (
gd (inb (6 + x1_10) (lenA 45)) (
be (tsI S_27 45 (Int32.toNatClampNeg (6 + x1_10)) (tI S_27 30 (Int32.toNatClampNeg x1_10))) fun S_30 =>
gd (inb x1_10 (lenA 31)) (
be (if tI S_30 31 (Int32.toNatClampNeg x1_10) = 0 then (
0)
else (
1) : Int32) fun (y_35 : Int32) =>
gd (inb (12 + x1_10) (lenA 45)) (
be (tsI S_30 45 (Int32.toNatClampNeg (12 + x1_10)) y_35) fun S_37 =>
gd (inb x1_10 (lenA 32)) (
gd (inb (18 + x1_10) (lenA 45)) (
be (tsI S_37 45 (Int32.toNatClampNeg (18 + x1_10)) (tI S_37 32 (Int32.toNatClampNeg x1_10))) fun S_40 =>
be (x1_10 + 1) fun (x1_41 : Int32) =>
some (.inr (x1_41, S_40)))))))))))
def tw_keep (N : Nat)  (S : TS) : Option (Int32 × TS) :=
be (tsI S 0 2 0) fun S_1 =>
be (tsI S_1 0 80 1) fun S_2 =>
bd (tw_put N 44 0 S_2) fun S_4 =>
bd2 (lp N (fun s_23 : Int32 × TS => tw_keep_b1 N s_23.1 s_23.2) (0, S_4)) fun (x1_12 : Int32) (S_13 : TS) =>
be (tsI S_13 45 (Int32.toNatClampNeg 24) (tI S_13 34 (Int32.toNatClampNeg 0))) fun S_16 =>
be (tsI S_16 45 (Int32.toNatClampNeg 25) (tI S_16 35 (Int32.toNatClampNeg 0))) fun S_17 =>
be (tsI S_17 45 (Int32.toNatClampNeg 26) (tI S_17 36 (Int32.toNatClampNeg 0))) fun S_18 =>
be (tsI S_18 45 (Int32.toNatClampNeg 27) (tI S_18 37 (Int32.toNatClampNeg 0))) fun S_19 =>
be (tsI S_19 45 (Int32.toNatClampNeg 28) (tI S_19 38 (Int32.toNatClampNeg 0))) fun S_20 =>
be (tsI S_20 45 (Int32.toNatClampNeg 29) (tI S_20 39 (Int32.toNatClampNeg 0))) fun S_21 =>
be (tsL S_21 0 83 (tL S_21 0 67)) fun S_22 =>
some (tI S_22 37 (Int32.toNatClampNeg 0), S_22)
def rm_tw_keep : Room := { frames := 1, cells := 0, slots := 0, locals := 23 }
theorem ok_tw_keep {E : En} (hE : EOk E) {o : Nat} {M0 : Mem} (hM : TwS o M0) {N : Nat}  {S : TS} {r : Int32} {S' : TS} (h : tw_keep N  S = some (r, S')) : CM E yX7_keep cX7_keep 2 (some .int) rm_tw_keep [rf E o] (tw o S M0) (some (.int r)) (tw o S' M0) := by
  unfold tw_keep at h
  refine CM_intro (own := RX7) rfl (by decide) (Nat.le_of_ble_eq_true rfl) rfl (fun G hG => ?_)
  obtain ⟨Q, eQ⟩ : ∃ Q, Q = QM E G (some (.int r)) (tw o S' M0) 0 0 := ⟨_, rfl⟩
  show V E G (tw o S M0) 0 0 2 0 [(0, rf E o)] [] (QM E G (some (.int r)) (tw o S' M0) 0 0)
  rw [← eQ]
  refine V_aload_n hG 0 rfl dX7_keep_0 ?_
  refine V_iconst hG 0 rfl dX7_keep_1 ?_
  obtain ⟨S_1, eS_1, h⟩ := be_of h
  refine p7_160 hM hG eS_1 dX7_keep_2 ?_
  refine V_aload_n hG 0 rfl dX7_keep_5 ?_
  refine V_iconst hG 1 rfl dX7_keep_6 ?_
  obtain ⟨S_2, eS_2, h⟩ := be_of h
  refine p7_383 hM hG eS_2 (Or.inr rfl) dX7_keep_7 ?_
  refine V_aload_n hG 0 rfl dX7_keep_10 ?_
  refine V_aload_n hG 0 rfl dX7_keep_11 ?_
  refine g7_148 hM hG dX7_keep_12 ?_
  refine V_iconst hG 0 rfl dX7_keep_15 ?_
  obtain ⟨S_4, hc_3, h⟩ := bd_of h
  refine V_callV0 hE hG (As := [rf E ((o + 44)), .int 0]) (rest := []) (ok_tw_put hE hM hc_3) hM.1 (by decide) rfl hw7_520 hd_tw_put ⟨Nat.le_of_ble_eq_true rfl, Nat.le_of_ble_eq_true rfl⟩ rfl rfl (Nat.le_of_ble_eq_true rfl) rfl rfl dX7_keep_16 ?_
  refine V_iconst hG 0 rfl dX7_keep_19 ?_
  refine V_istore_n hG rfl [(1, .int 0), (0, rf E o)] dX7_keep_20 (Nat.le_of_ble_eq_true rfl) rfl ?_
  obtain ⟨x1_12, S_13, hL_14, h⟩ := bd2_of h
  have J_9 : ∀ q_15 : Int32 × TS, q_15 = (x1_12, S_13) → V E G (tw o q_15.2 M0) 0 0 2 98 [(1, .int q_15.1), (0, rf E o)] [] Q := by
    intro q_15 e9
    subst q_15
    show V E G (tw o S_13 M0) 0 0 2 98 [(1, .int x1_12), (0, rf E o)] [] Q
    refine V_aload_n hG 1 rfl dX7_keep_98 ?_
    refine g7_151 hM hG dX7_keep_99 ?_
    refine V_bipush hG 24 (by decide) dX7_keep_102 ?_
    refine V_aload_n hG 1 rfl dX7_keep_104 ?_
    refine g7_115 hM hG dX7_keep_105 ?_
    refine V_iconst hG 0 rfl dX7_keep_108 ?_
    refine T_iaload hM hG (by decide) (by decide) dX7_keep_109 ?_
    obtain ⟨S_16, eS_16, h⟩ := be_of h
    refine T_iastore hM hG eS_16 (by decide) (by decide) dX7_keep_110 ?_
    refine V_aload_n hG 1 rfl dX7_keep_111 ?_
    refine g7_151 hM hG dX7_keep_112 ?_
    refine V_bipush hG 25 (by decide) dX7_keep_115 ?_
    refine V_aload_n hG 1 rfl dX7_keep_117 ?_
    refine g7_118 hM hG dX7_keep_118 ?_
    refine V_iconst hG 0 rfl dX7_keep_121 ?_
    refine T_iaload hM hG (by decide) (by decide) dX7_keep_122 ?_
    obtain ⟨S_17, eS_17, h⟩ := be_of h
    refine T_iastore hM hG eS_17 (by decide) (by decide) dX7_keep_123 ?_
    refine V_aload_n hG 1 rfl dX7_keep_124 ?_
    refine g7_151 hM hG dX7_keep_125 ?_
    refine V_bipush hG 26 (by decide) dX7_keep_128 ?_
    refine V_aload_n hG 1 rfl dX7_keep_130 ?_
    refine g7_121 hM hG dX7_keep_131 ?_
    refine V_iconst hG 0 rfl dX7_keep_134 ?_
    refine T_iaload hM hG (by decide) (by decide) dX7_keep_135 ?_
    obtain ⟨S_18, eS_18, h⟩ := be_of h
    refine T_iastore hM hG eS_18 (by decide) (by decide) dX7_keep_136 ?_
    refine V_aload_n hG 1 rfl dX7_keep_137 ?_
    refine g7_151 hM hG dX7_keep_138 ?_
    refine V_bipush hG 27 (by decide) dX7_keep_141 ?_
    refine V_aload_n hG 1 rfl dX7_keep_143 ?_
    refine g7_124 hM hG dX7_keep_144 ?_
    refine V_iconst hG 0 rfl dX7_keep_147 ?_
    refine T_iaload hM hG (by decide) (by decide) dX7_keep_148 ?_
    obtain ⟨S_19, eS_19, h⟩ := be_of h
    refine T_iastore hM hG eS_19 (by decide) (by decide) dX7_keep_149 ?_
    refine V_aload_n hG 1 rfl dX7_keep_150 ?_
    refine g7_151 hM hG dX7_keep_151 ?_
    refine V_bipush hG 28 (by decide) dX7_keep_154 ?_
    refine V_aload_n hG 1 rfl dX7_keep_156 ?_
    refine g7_127 hM hG dX7_keep_157 ?_
    refine V_iconst hG 0 rfl dX7_keep_160 ?_
    refine T_iaload hM hG (by decide) (by decide) dX7_keep_161 ?_
    obtain ⟨S_20, eS_20, h⟩ := be_of h
    refine T_iastore hM hG eS_20 (by decide) (by decide) dX7_keep_162 ?_
    refine V_aload_n hG 1 rfl dX7_keep_163 ?_
    refine g7_151 hM hG dX7_keep_164 ?_
    refine V_bipush hG 29 (by decide) dX7_keep_167 ?_
    refine V_aload_n hG 1 rfl dX7_keep_169 ?_
    refine g7_130 hM hG dX7_keep_170 ?_
    refine V_iconst hG 0 rfl dX7_keep_173 ?_
    refine T_iaload hM hG (by decide) (by decide) dX7_keep_174 ?_
    obtain ⟨S_21, eS_21, h⟩ := be_of h
    refine T_iastore hM hG eS_21 (by decide) (by decide) dX7_keep_175 ?_
    refine V_aload_n hG 1 rfl dX7_keep_176 ?_
    refine V_aload_n hG 1 rfl dX7_keep_177 ?_
    refine g7_370 hM hG dX7_keep_178 ?_
    obtain ⟨S_22, eS_22, h⟩ := be_of h
    refine p7_526 hM hG eS_22 dX7_keep_181 ?_
    refine V_aload_n hG 1 rfl dX7_keep_184 ?_
    refine g7_124 hM hG dX7_keep_185 ?_
    refine V_iconst hG 0 rfl dX7_keep_188 ?_
    refine T_iaload hM hG (by decide) (by decide) dX7_keep_189 ?_
    cases h
    subst eQ
    exact V_iret hG dX7_keep_190
  refine lp_walk (W := fun s_23 : Int32 × TS => V E G (tw o s_23.2 M0) 0 0 2 21 [(1, .int s_23.1), (0, rf E o)] [] Q) ?_ N (0, S_4) hL_14
  intro s_23 b_5 hb_6 hk_7 hx_8
  obtain ⟨x1_10, S_11⟩ := s_23
  have hb_6 : tw_keep_b1 N x1_10 S_11 = some b_5 := hb_6
  unfold tw_keep_b1 at hb_6
  show V E G (tw o S_11 M0) 0 0 2 21 [(1, .int x1_10), (0, rf E o)] [] Q
  refine V_iload_n hG 0 rfl dX7_keep_21 ?_
  refine V_bipush hG 6 (by decide) dX7_keep_22 ?_
  refine V_icmp_ge hG 98 dX7_keep_24 (by decide) (fun c_24 => ?_) (fun c_24 => ?_)
  · have hb_6 := if_t c_24 hb_6
    cases hb_6
    exact J_9 _ (hx_8 _ rfl)
  · have hb_6 := if_f c_24 hb_6
    refine V_aload_n hG 1 rfl dX7_keep_27 ?_
    refine g7_151 hM hG dX7_keep_28 ?_
    refine V_iload_n hG 0 rfl dX7_keep_31 ?_
    refine V_aload_n hG 1 rfl dX7_keep_32 ?_
    refine g7_97 hM hG dX7_keep_33 ?_
    refine V_iload_n hG 0 rfl dX7_keep_36 ?_
    obtain ⟨g_25, hb_6⟩ := gd_of hb_6
    refine T_iaload hM hG (by decide) g_25 dX7_keep_37 ?_
    obtain ⟨g_26, hb_6⟩ := gd_of hb_6
    obtain ⟨S_27, eS_27, hb_6⟩ := be_of hb_6
    refine T_iastore hM hG eS_27 (by decide) g_26 dX7_keep_38 ?_
    refine V_aload_n hG 1 rfl dX7_keep_39 ?_
    refine g7_151 hM hG dX7_keep_40 ?_
    refine V_bipush hG 6 (by decide) dX7_keep_43 ?_
    refine V_iload_n hG 0 rfl dX7_keep_45 ?_
    refine V_iadd hG dX7_keep_46 ?_
    refine V_aload_n hG 1 rfl dX7_keep_47 ?_
    refine g7_103 hM hG dX7_keep_48 ?_
    refine V_iload_n hG 0 rfl dX7_keep_51 ?_
    obtain ⟨g_28, hb_6⟩ := gd_of hb_6
    refine T_iaload hM hG (by decide) g_28 dX7_keep_52 ?_
    obtain ⟨g_29, hb_6⟩ := gd_of hb_6
    obtain ⟨S_30, eS_30, hb_6⟩ := be_of hb_6
    refine T_iastore hM hG eS_30 (by decide) g_29 dX7_keep_53 ?_
    refine V_aload_n hG 1 rfl dX7_keep_54 ?_
    refine g7_151 hM hG dX7_keep_55 ?_
    refine V_bipush hG 12 (by decide) dX7_keep_58 ?_
    refine V_iload_n hG 0 rfl dX7_keep_60 ?_
    refine V_iadd hG dX7_keep_61 ?_
    refine V_aload_n hG 1 rfl dX7_keep_62 ?_
    refine g7_106 hM hG dX7_keep_63 ?_
    refine V_iload_n hG 0 rfl dX7_keep_66 ?_
    obtain ⟨g_31, hb_6⟩ := gd_of hb_6
    refine T_zaload hM hG (by decide) g_31 dX7_keep_67 ?_
    obtain ⟨t_32, et_32, hb_6⟩ := be_of hb_6
    have J_33 : ∀ y_35 : Int32, y_35 = t_32 → V E G (tw o S_30 M0) 0 0 2 76 [(1, .int x1_10), (0, rf E o)] [.int y_35, .int (12 + x1_10), rf E ((o + 45))] Q := by
      intro y_35 ey
      subst ey
      obtain ⟨g_36, hb_6⟩ := gd_of hb_6
      obtain ⟨S_37, eS_37, hb_6⟩ := be_of hb_6
      refine T_iastore hM hG eS_37 (by decide) g_36 dX7_keep_76 ?_
      refine V_aload_n hG 1 rfl dX7_keep_77 ?_
      refine g7_151 hM hG dX7_keep_78 ?_
      refine V_bipush hG 18 (by decide) dX7_keep_81 ?_
      refine V_iload_n hG 0 rfl dX7_keep_83 ?_
      refine V_iadd hG dX7_keep_84 ?_
      refine V_aload_n hG 1 rfl dX7_keep_85 ?_
      refine g7_109 hM hG dX7_keep_86 ?_
      refine V_iload_n hG 0 rfl dX7_keep_89 ?_
      obtain ⟨g_38, hb_6⟩ := gd_of hb_6
      refine T_iaload hM hG (by decide) g_38 dX7_keep_90 ?_
      obtain ⟨g_39, hb_6⟩ := gd_of hb_6
      obtain ⟨S_40, eS_40, hb_6⟩ := be_of hb_6
      refine T_iastore hM hG eS_40 (by decide) g_39 dX7_keep_91 ?_
      obtain ⟨x1_41, ex1_41, hb_6⟩ := be_of hb_6
      refine V_iinc hG 0 x1_41 rfl (by rw [ex1_41]; rfl) [(1, .int x1_41), (0, rf E o)] dX7_keep_92 (Nat.le_of_ble_eq_true rfl) rfl ?_
      refine V_goto hG 21 dX7_keep_95 (by decide) ?_
      cases hb_6
      exact hk_7 _ rfl
    refine V_if_eq hG 75 dX7_keep_68 (by decide) (fun c_34 => ?_) (fun c_34 => ?_)
    · refine V_iconst hG 0 rfl dX7_keep_75 ?_
      exact J_33 _ (by rw [et_32, if_pos c_34])
    · refine V_iconst hG 1 rfl dX7_keep_71 ?_
      refine V_goto hG 76 dX7_keep_72 (by decide) ?_
      exact J_33 _ (by rw [et_32, if_neg c_34])

def tw_keepText_b1 (N : Nat) (x1_37 : Int32) (S_38 : TS) : Option ((Int32 × TS) ⊕ (Int32 × TS)) :=
if 3 ≤ x1_37 then (
some (.inl (x1_37, S_38)))
else (
gd (inb (3 + x1_37) (lenA 17)) (
gd (inb x1_37 (lenA 17)) (
gd (tI S_38 17 (Int32.toNatClampNeg (3 + x1_37)) = 0 ∨ tI S_38 17 (Int32.toNatClampNeg (3 + x1_37)) = 1) (
be (tsI S_38 17 (Int32.toNatClampNeg x1_37) (tI S_38 17 (Int32.toNatClampNeg (3 + x1_37)))) fun S_60 =>
be (x1_37 + 1) fun (x1_61 : Int32) =>
some (.inr (x1_61, S_60))))))
def tw_keepText (N : Nat)  (S : TS) : Option (TS) :=
be (tsI S 0 12 (tI S 0 17)) fun S_1 =>
be (tsI S_1 0 13 (tI S_1 0 18)) fun S_2 =>
be (tsI S_2 0 14 (tI S_2 0 19)) fun S_3 =>
be (tsI S_3 0 15 (tI S_3 0 20)) fun S_4 =>
be (tsI S_4 0 16 (tI S_4 0 22)) fun S_5 =>
bd (tw_copies N 4 2 S_5) fun S_7 =>
bd (tw_copies N 5 6 S_7) fun S_9 =>
bd (tw_copies N 6 6 S_9) fun S_11 =>
bd (tw_copies N 7 6 S_11) fun S_13 =>
bd (tw_copies N 8 6 S_13) fun S_15 =>
bd (tw_copies N 9 6 S_15) fun S_17 =>
bd (tw_copies N 10 6 S_17) fun S_19 =>
bd (tw_copies N 11 6 S_19) fun S_21 =>
bd (tw_copies N 12 6 S_21) fun S_23 =>
bd (tw_copies N 13 6 S_23) fun S_25 =>
bd (tw_copies N 14 12 S_25) fun S_27 =>
bd (tw_copies N 15 12 S_27) fun S_29 =>
bd (tw_copies N 16 12 S_29) fun S_31 =>
bd2 (lp N (fun s_55 : Int32 × TS => tw_keepText_b1 N s_55.1 s_55.2) (0, S_31)) fun (x1_39 : Int32) (S_40 : TS) =>
bd (tw_copies N 18 3 S_40) fun S_44 =>
bd (tw_copies N 19 3 S_44) fun S_46 =>
bd (tw_copies N 20 64 S_46) fun S_48 =>
bd (tw_copies N 21 64 S_48) fun S_50 =>
bd (tw_copies N 22 64 S_50) fun S_52 =>
bd (tw_begin N S_52) fun S_54 =>
some S_54
def rm_tw_keepText : Room := { frames := 2, cells := 0, slots := 0, locals := 42 }
theorem ok_tw_keepText {E : En} (hE : EOk E) {o : Nat} {M0 : Mem} (hM : TwS o M0) {N : Nat}  {S : TS}  {S' : TS} (h : tw_keepText N  S = some S') : CM E yX7_keepText cX7_keepText 2 none rm_tw_keepText [rf E o] (tw o S M0) none (tw o S' M0) := by
  unfold tw_keepText at h
  refine CM_intro (own := RX7) rfl (by decide) (Nat.le_of_ble_eq_true rfl) rfl (fun G hG => ?_)
  obtain ⟨Q, eQ⟩ : ∃ Q, Q = QM E G none (tw o S' M0) 0 0 := ⟨_, rfl⟩
  show V E G (tw o S M0) 0 0 2 0 [(0, rf E o)] [] (QM E G none (tw o S' M0) 0 0)
  rw [← eQ]
  refine V_aload_n hG 0 rfl dX7_keepText_0 ?_
  refine V_aload_n hG 0 rfl dX7_keepText_1 ?_
  refine g7_222 hM hG dX7_keepText_2 ?_
  obtain ⟨S_1, eS_1, h⟩ := be_of h
  refine p7_243 hM hG eS_1 dX7_keepText_5 ?_
  refine V_aload_n hG 0 rfl dX7_keepText_8 ?_
  refine V_aload_n hG 0 rfl dX7_keepText_9 ?_
  refine g7_225 hM hG dX7_keepText_10 ?_
  obtain ⟨S_2, eS_2, h⟩ := be_of h
  refine p7_246 hM hG eS_2 dX7_keepText_13 ?_
  refine V_aload_n hG 0 rfl dX7_keepText_16 ?_
  refine V_aload_n hG 0 rfl dX7_keepText_17 ?_
  refine g7_228 hM hG dX7_keepText_18 ?_
  obtain ⟨S_3, eS_3, h⟩ := be_of h
  refine p7_249 hM hG eS_3 dX7_keepText_21 ?_
  refine V_aload_n hG 0 rfl dX7_keepText_24 ?_
  refine V_aload_n hG 0 rfl dX7_keepText_25 ?_
  refine g7_231 hM hG dX7_keepText_26 ?_
  obtain ⟨S_4, eS_4, h⟩ := be_of h
  refine p7_252 hM hG eS_4 dX7_keepText_29 ?_
  refine V_aload_n hG 0 rfl dX7_keepText_32 ?_
  refine V_aload_n hG 0 rfl dX7_keepText_33 ?_
  refine g7_237 hM hG dX7_keepText_34 ?_
  obtain ⟨S_5, eS_5, h⟩ := be_of h
  refine p7_255 hM hG eS_5 dX7_keepText_37 ?_
  refine V_aload_n hG 0 rfl dX7_keepText_40 ?_
  refine g7_24 hM hG dX7_keepText_41 ?_
  refine V_iconst hG 2 rfl dX7_keepText_44 ?_
  obtain ⟨S_7, hc_6, h⟩ := bd_of h
  refine V_callS0 hE hG (As := [rf E ((o + 4)), .int 2]) (rest := []) (ok_tw_copies hE hM hc_6) hw7_258 hd_tw_copies ⟨Nat.le_of_ble_eq_true rfl, Nat.le_of_ble_eq_true rfl⟩ rfl rfl (Nat.le_of_ble_eq_true rfl) rfl rfl dX7_keepText_45 ?_
  refine V_aload_n hG 0 rfl dX7_keepText_48 ?_
  refine g7_27 hM hG dX7_keepText_49 ?_
  refine V_bipush hG 6 (by decide) dX7_keepText_52 ?_
  obtain ⟨S_9, hc_8, h⟩ := bd_of h
  refine V_callS0 hE hG (As := [rf E ((o + 5)), .int 6]) (rest := []) (ok_tw_copies hE hM hc_8) hw7_258 hd_tw_copies ⟨Nat.le_of_ble_eq_true rfl, Nat.le_of_ble_eq_true rfl⟩ rfl rfl (Nat.le_of_ble_eq_true rfl) rfl rfl dX7_keepText_54 ?_
  refine V_aload_n hG 0 rfl dX7_keepText_57 ?_
  refine g7_30 hM hG dX7_keepText_58 ?_
  refine V_bipush hG 6 (by decide) dX7_keepText_61 ?_
  obtain ⟨S_11, hc_10, h⟩ := bd_of h
  refine V_callS0 hE hG (As := [rf E ((o + 6)), .int 6]) (rest := []) (ok_tw_copies hE hM hc_10) hw7_258 hd_tw_copies ⟨Nat.le_of_ble_eq_true rfl, Nat.le_of_ble_eq_true rfl⟩ rfl rfl (Nat.le_of_ble_eq_true rfl) rfl rfl dX7_keepText_63 ?_
  refine V_aload_n hG 0 rfl dX7_keepText_66 ?_
  refine g7_33 hM hG dX7_keepText_67 ?_
  refine V_bipush hG 6 (by decide) dX7_keepText_70 ?_
  obtain ⟨S_13, hc_12, h⟩ := bd_of h
  refine V_callS0 hE hG (As := [rf E ((o + 7)), .int 6]) (rest := []) (ok_tw_copies hE hM hc_12) hw7_258 hd_tw_copies ⟨Nat.le_of_ble_eq_true rfl, Nat.le_of_ble_eq_true rfl⟩ rfl rfl (Nat.le_of_ble_eq_true rfl) rfl rfl dX7_keepText_72 ?_
  refine V_aload_n hG 0 rfl dX7_keepText_75 ?_
  refine g7_36 hM hG dX7_keepText_76 ?_
  refine V_bipush hG 6 (by decide) dX7_keepText_79 ?_
  obtain ⟨S_15, hc_14, h⟩ := bd_of h
  refine V_callS0 hE hG (As := [rf E ((o + 8)), .int 6]) (rest := []) (ok_tw_copies hE hM hc_14) hw7_258 hd_tw_copies ⟨Nat.le_of_ble_eq_true rfl, Nat.le_of_ble_eq_true rfl⟩ rfl rfl (Nat.le_of_ble_eq_true rfl) rfl rfl dX7_keepText_81 ?_
  refine V_aload_n hG 0 rfl dX7_keepText_84 ?_
  refine g7_39 hM hG dX7_keepText_85 ?_
  refine V_bipush hG 6 (by decide) dX7_keepText_88 ?_
  obtain ⟨S_17, hc_16, h⟩ := bd_of h
  refine V_callS0 hE hG (As := [rf E ((o + 9)), .int 6]) (rest := []) (ok_tw_copies hE hM hc_16) hw7_258 hd_tw_copies ⟨Nat.le_of_ble_eq_true rfl, Nat.le_of_ble_eq_true rfl⟩ rfl rfl (Nat.le_of_ble_eq_true rfl) rfl rfl dX7_keepText_90 ?_
  refine V_aload_n hG 0 rfl dX7_keepText_93 ?_
  refine g7_42 hM hG dX7_keepText_94 ?_
  refine V_bipush hG 6 (by decide) dX7_keepText_97 ?_
  obtain ⟨S_19, hc_18, h⟩ := bd_of h
  refine V_callS0 hE hG (As := [rf E ((o + 10)), .int 6]) (rest := []) (ok_tw_copies hE hM hc_18) hw7_258 hd_tw_copies ⟨Nat.le_of_ble_eq_true rfl, Nat.le_of_ble_eq_true rfl⟩ rfl rfl (Nat.le_of_ble_eq_true rfl) rfl rfl dX7_keepText_99 ?_
  refine V_aload_n hG 0 rfl dX7_keepText_102 ?_
  refine g7_45 hM hG dX7_keepText_103 ?_
  refine V_bipush hG 6 (by decide) dX7_keepText_106 ?_
  obtain ⟨S_21, hc_20, h⟩ := bd_of h
  refine V_callS0 hE hG (As := [rf E ((o + 11)), .int 6]) (rest := []) (ok_tw_copies hE hM hc_20) hw7_258 hd_tw_copies ⟨Nat.le_of_ble_eq_true rfl, Nat.le_of_ble_eq_true rfl⟩ rfl rfl (Nat.le_of_ble_eq_true rfl) rfl rfl dX7_keepText_108 ?_
  refine V_aload_n hG 0 rfl dX7_keepText_111 ?_
  refine g7_48 hM hG dX7_keepText_112 ?_
  refine V_bipush hG 6 (by decide) dX7_keepText_115 ?_
  obtain ⟨S_23, hc_22, h⟩ := bd_of h
  refine V_callS0 hE hG (As := [rf E ((o + 12)), .int 6]) (rest := []) (ok_tw_copies hE hM hc_22) hw7_258 hd_tw_copies ⟨Nat.le_of_ble_eq_true rfl, Nat.le_of_ble_eq_true rfl⟩ rfl rfl (Nat.le_of_ble_eq_true rfl) rfl rfl dX7_keepText_117 ?_
  refine V_aload_n hG 0 rfl dX7_keepText_120 ?_
  refine g7_51 hM hG dX7_keepText_121 ?_
  refine V_bipush hG 6 (by decide) dX7_keepText_124 ?_
  obtain ⟨S_25, hc_24, h⟩ := bd_of h
  refine V_callS0 hE hG (As := [rf E ((o + 13)), .int 6]) (rest := []) (ok_tw_copies hE hM hc_24) hw7_258 hd_tw_copies ⟨Nat.le_of_ble_eq_true rfl, Nat.le_of_ble_eq_true rfl⟩ rfl rfl (Nat.le_of_ble_eq_true rfl) rfl rfl dX7_keepText_126 ?_
  refine V_aload_n hG 0 rfl dX7_keepText_129 ?_
  refine g7_54 hM hG dX7_keepText_130 ?_
  refine V_bipush hG 12 (by decide) dX7_keepText_133 ?_
  obtain ⟨S_27, hc_26, h⟩ := bd_of h
  refine V_callS0 hE hG (As := [rf E ((o + 14)), .int 12]) (rest := []) (ok_tw_copies hE hM hc_26) hw7_258 hd_tw_copies ⟨Nat.le_of_ble_eq_true rfl, Nat.le_of_ble_eq_true rfl⟩ rfl rfl (Nat.le_of_ble_eq_true rfl) rfl rfl dX7_keepText_135 ?_
  refine V_aload_n hG 0 rfl dX7_keepText_138 ?_
  refine g7_57 hM hG dX7_keepText_139 ?_
  refine V_bipush hG 12 (by decide) dX7_keepText_142 ?_
  obtain ⟨S_29, hc_28, h⟩ := bd_of h
  refine V_callS0 hE hG (As := [rf E ((o + 15)), .int 12]) (rest := []) (ok_tw_copies hE hM hc_28) hw7_258 hd_tw_copies ⟨Nat.le_of_ble_eq_true rfl, Nat.le_of_ble_eq_true rfl⟩ rfl rfl (Nat.le_of_ble_eq_true rfl) rfl rfl dX7_keepText_144 ?_
  refine V_aload_n hG 0 rfl dX7_keepText_147 ?_
  refine g7_60 hM hG dX7_keepText_148 ?_
  refine V_bipush hG 12 (by decide) dX7_keepText_151 ?_
  obtain ⟨S_31, hc_30, h⟩ := bd_of h
  refine V_callS0 hE hG (As := [rf E ((o + 16)), .int 12]) (rest := []) (ok_tw_copies hE hM hc_30) hw7_258 hd_tw_copies ⟨Nat.le_of_ble_eq_true rfl, Nat.le_of_ble_eq_true rfl⟩ rfl rfl (Nat.le_of_ble_eq_true rfl) rfl rfl dX7_keepText_153 ?_
  refine V_iconst hG 0 rfl dX7_keepText_156 ?_
  refine V_istore_n hG rfl [(1, .int 0), (0, rf E o)] dX7_keepText_157 (Nat.le_of_ble_eq_true rfl) rfl ?_
  obtain ⟨x1_39, S_40, hL_41, h⟩ := bd2_of h
  have J_36 : ∀ q_42 : Int32 × TS, q_42 = (x1_39, S_40) → V E G (tw o q_42.2 M0) 0 0 2 183 [(1, .int q_42.1), (0, rf E o)] [] Q := by
    intro q_42 e9
    subst q_42
    show V E G (tw o S_40 M0) 0 0 2 183 [(1, .int x1_39), (0, rf E o)] [] Q
    refine V_aload_n hG 1 rfl dX7_keepText_183 ?_
    refine g7_66 hM hG dX7_keepText_184 ?_
    refine V_iconst hG 3 rfl dX7_keepText_187 ?_
    obtain ⟨S_44, hc_43, h⟩ := bd_of h
    refine V_callS0 hE hG (As := [rf E ((o + 18)), .int 3]) (rest := []) (ok_tw_copies hE hM hc_43) hw7_258 hd_tw_copies ⟨Nat.le_of_ble_eq_true rfl, Nat.le_of_ble_eq_true rfl⟩ rfl rfl (Nat.le_of_ble_eq_true rfl) rfl rfl dX7_keepText_188 ?_
    refine V_aload_n hG 1 rfl dX7_keepText_191 ?_
    refine g7_69 hM hG dX7_keepText_192 ?_
    refine V_iconst hG 3 rfl dX7_keepText_195 ?_
    obtain ⟨S_46, hc_45, h⟩ := bd_of h
    refine V_callS0 hE hG (As := [rf E ((o + 19)), .int 3]) (rest := []) (ok_tw_copies hE hM hc_45) hw7_258 hd_tw_copies ⟨Nat.le_of_ble_eq_true rfl, Nat.le_of_ble_eq_true rfl⟩ rfl rfl (Nat.le_of_ble_eq_true rfl) rfl rfl dX7_keepText_196 ?_
    refine V_aload_n hG 1 rfl dX7_keepText_199 ?_
    refine g7_72 hM hG dX7_keepText_200 ?_
    refine V_bipush hG 64 (by decide) dX7_keepText_203 ?_
    obtain ⟨S_48, hc_47, h⟩ := bd_of h
    refine V_callS0 hE hG (As := [rf E ((o + 20)), .int 64]) (rest := []) (ok_tw_copies hE hM hc_47) hw7_258 hd_tw_copies ⟨Nat.le_of_ble_eq_true rfl, Nat.le_of_ble_eq_true rfl⟩ rfl rfl (Nat.le_of_ble_eq_true rfl) rfl rfl dX7_keepText_205 ?_
    refine V_aload_n hG 1 rfl dX7_keepText_208 ?_
    refine g7_75 hM hG dX7_keepText_209 ?_
    refine V_bipush hG 64 (by decide) dX7_keepText_212 ?_
    obtain ⟨S_50, hc_49, h⟩ := bd_of h
    refine V_callS0 hE hG (As := [rf E ((o + 21)), .int 64]) (rest := []) (ok_tw_copies hE hM hc_49) hw7_258 hd_tw_copies ⟨Nat.le_of_ble_eq_true rfl, Nat.le_of_ble_eq_true rfl⟩ rfl rfl (Nat.le_of_ble_eq_true rfl) rfl rfl dX7_keepText_214 ?_
    refine V_aload_n hG 1 rfl dX7_keepText_217 ?_
    refine g7_78 hM hG dX7_keepText_218 ?_
    refine V_bipush hG 64 (by decide) dX7_keepText_221 ?_
    obtain ⟨S_52, hc_51, h⟩ := bd_of h
    refine V_callS0 hE hG (As := [rf E ((o + 22)), .int 64]) (rest := []) (ok_tw_copies hE hM hc_51) hw7_258 hd_tw_copies ⟨Nat.le_of_ble_eq_true rfl, Nat.le_of_ble_eq_true rfl⟩ rfl rfl (Nat.le_of_ble_eq_true rfl) rfl rfl dX7_keepText_223 ?_
    refine V_aload_n hG 1 rfl dX7_keepText_226 ?_
    obtain ⟨S_54, hc_53, h⟩ := bd_of h
    refine V_callV0 hE hG (As := []) (rest := []) (ok_tw_begin hE hM hc_53) hM.1 (by decide) rfl hw7_262 hd_tw_begin ⟨Nat.le_of_ble_eq_true rfl, Nat.le_of_ble_eq_true rfl⟩ rfl rfl (Nat.le_of_ble_eq_true rfl) rfl rfl dX7_keepText_227 ?_
    cases h
    subst eQ
    exact V_vret hG dX7_keepText_230
  refine lp_walk (W := fun s_55 : Int32 × TS => V E G (tw o s_55.2 M0) 0 0 2 158 [(1, .int s_55.1), (0, rf E o)] [] Q) ?_ N (0, S_31) hL_41
  intro s_55 b_32 hb_33 hk_34 hx_35
  obtain ⟨x1_37, S_38⟩ := s_55
  have hb_33 : tw_keepText_b1 N x1_37 S_38 = some b_32 := hb_33
  unfold tw_keepText_b1 at hb_33
  show V E G (tw o S_38 M0) 0 0 2 158 [(1, .int x1_37), (0, rf E o)] [] Q
  refine V_iload_n hG 0 rfl dX7_keepText_158 ?_
  refine V_iconst hG 3 rfl dX7_keepText_159 ?_
  refine V_icmp_ge hG 183 dX7_keepText_160 (by decide) (fun c_56 => ?_) (fun c_56 => ?_)
  · have hb_33 := if_t c_56 hb_33
    cases hb_33
    exact J_36 _ (hx_35 _ rfl)
  · have hb_33 := if_f c_56 hb_33
    refine V_aload_n hG 1 rfl dX7_keepText_163 ?_
    refine g7_63 hM hG dX7_keepText_164 ?_
    refine V_iload_n hG 0 rfl dX7_keepText_167 ?_
    refine V_aload_n hG 1 rfl dX7_keepText_168 ?_
    refine g7_63 hM hG dX7_keepText_169 ?_
    refine V_iconst hG 3 rfl dX7_keepText_172 ?_
    refine V_iload_n hG 0 rfl dX7_keepText_173 ?_
    refine V_iadd hG dX7_keepText_174 ?_
    obtain ⟨g_57, hb_33⟩ := gd_of hb_33
    refine T_zaload hM hG (by decide) g_57 dX7_keepText_175 ?_
    obtain ⟨g_58, hb_33⟩ := gd_of hb_33
    obtain ⟨g_59, hb_33⟩ := gd_of hb_33
    obtain ⟨S_60, eS_60, hb_33⟩ := be_of hb_33
    refine T_zastore hM hG eS_60 g_59 (by decide) g_58 dX7_keepText_176 ?_
    obtain ⟨x1_61, ex1_61, hb_33⟩ := be_of hb_33
    refine V_iinc hG 0 x1_61 rfl (by rw [ex1_61]; rfl) [(1, .int x1_61), (0, rf E o)] dX7_keepText_177 (Nat.le_of_ble_eq_true rfl) rfl ?_
    refine V_goto hG 158 dX7_keepText_180 (by decide) ?_
    cases hb_33
    exact hk_34 _ rfl

def tw_known (p1 : Int32) (S : TS) : Option (Int32 × TS) :=
be (tsI S 0 2 0) fun S_1 =>
bd (tw_isIn p1 (-1) (tI S_1 0 74) S_1) fun r_3 =>
if r_3 = 0 then (
some (0, S_1))
else (
be (tsI S_1 0 75 p1) fun S_5 =>
some (1, S_5))
def rm_tw_known : Room := { frames := 1, cells := 0, slots := 0, locals := 22 }
theorem ok_tw_known {E : En} (hE : EOk E) {o : Nat} {M0 : Mem} (hM : TwS o M0) {p1 : Int32} {S : TS} {r : Int32} {S' : TS} (h : tw_known p1 S = some (r, S')) : CM E yX7_known cX7_known 2 (some .boolean) rm_tw_known [rf E o, .int p1] (tw o S M0) (some (.int r)) (tw o S' M0) := by
  unfold tw_known at h
  refine CM_intro (own := RX7) rfl (by decide) (Nat.le_of_ble_eq_true rfl) rfl (fun G hG => ?_)
  obtain ⟨Q, eQ⟩ : ∃ Q, Q = QM E G (some (.int r)) (tw o S' M0) 0 0 := ⟨_, rfl⟩
  show V E G (tw o S M0) 0 0 2 0 [(0, rf E o), (1, .int p1)] [] (QM E G (some (.int r)) (tw o S' M0) 0 0)
  rw [← eQ]
  refine V_aload_n hG 0 rfl dX7_known_0 ?_
  refine V_iconst hG 0 rfl dX7_known_1 ?_
  obtain ⟨S_1, eS_1, h⟩ := be_of h
  refine p7_160 hM hG eS_1 dX7_known_2 ?_
  refine V_iload_n hG 1 rfl dX7_known_5 ?_
  refine V_iconst hG (-1) rfl dX7_known_6 ?_
  refine V_aload_n hG 0 rfl dX7_known_7 ?_
  refine g7_377 hM hG dX7_known_8 ?_
  obtain ⟨r_3, hc_2, h⟩ := bd_of h
  refine V_callS0 hE hG (As := [.int p1, .int (-1), .int (tI S_1 0 74)]) (rest := []) (ok_tw_isIn hE hM hc_2) hw7_205 hd_tw_isIn ⟨Nat.le_of_ble_eq_true rfl, Nat.le_of_ble_eq_true rfl⟩ rfl rfl (Nat.le_of_ble_eq_true rfl) rfl rfl dX7_known_11 ?_
  refine V_if_ne hG 19 dX7_known_14 (by decide) (fun c_4 => ?_) (fun c_4 => ?_)
  · have h := if_f c_4 h
    refine V_aload_n hG 0 rfl dX7_known_19 ?_
    refine V_iload_n hG 1 rfl dX7_known_20 ?_
    obtain ⟨S_5, eS_5, h⟩ := be_of h
    refine p7_136 hM hG eS_5 dX7_known_21 ?_
    refine V_iconst hG 1 rfl dX7_known_24 ?_
    cases h
    subst eQ
    exact V_zret hG (Or.inr rfl) dX7_known_25
  · have h := if_t c_4 h
    refine V_iconst hG 0 rfl dX7_known_17 ?_
    cases h
    subst eQ
    exact V_zret hG (Or.inl rfl) dX7_known_18

def tw_thereIn (N : Nat) (p1 : Nat) (p2 : Int32) (p3 : Int32) (S : TS) : Option (Int32 × TS) :=
if tI S 0 8 = 2 then (
bd (tw_find N p1 p2 p3 (tI S 0 9) S) fun r_3 =>
if 0 ≤ r_3 then (
bd (tw_token N S) fun S_6 =>
be (tsI S_6 0 11 r_3) fun S_7 =>
some (1, S_7))
else (
bd2 (tw_wrong 4 S) fun r_10 S_9 =>
gd (r_10 = 0 ∨ r_10 = 1) (
some (r_10, S_9))))
else (
bd2 (tw_wrong 1 S) fun r_14 S_13 =>
gd (r_14 = 0 ∨ r_14 = 1) (
some (r_14, S_13)))
def rm_tw_thereIn : Room := { frames := 2, cells := 0, slots := 0, locals := 47 }
theorem ok_tw_thereIn {E : En} (hE : EOk E) {o : Nat} {M0 : Mem} (hM : TwS o M0) {N : Nat} {p1 : Nat} {p2 : Int32} {p3 : Int32} {S : TS} {r : Int32} {S' : TS} (h : tw_thereIn N p1 p2 p3 S = some (r, S')) : CM E yX7_thereIn cX7_thereIn 5 (some .boolean) rm_tw_thereIn [rf E o, rf E ((o + p1)), .int p2, .int p3] (tw o S M0) (some (.int r)) (tw o S' M0) := by
  unfold tw_thereIn at h
  refine CM_intro (own := RX7) rfl (by decide) (Nat.le_of_ble_eq_true rfl) rfl (fun G hG => ?_)
  obtain ⟨Q, eQ⟩ : ∃ Q, Q = QM E G (some (.int r)) (tw o S' M0) 0 0 := ⟨_, rfl⟩
  show V E G (tw o S M0) 0 0 5 0 [(0, rf E o), (1, rf E ((o + p1))), (2, .int p2), (3, .int p3)] [] (QM E G (some (.int r)) (tw o S' M0) 0 0)
  rw [← eQ]
  refine V_aload_n hG 0 rfl dX7_thereIn_0 ?_
  refine g7_178 hM hG dX7_thereIn_1 ?_
  refine V_iconst hG 2 rfl dX7_thereIn_4 ?_
  refine V_icmp_eq hG 14 dX7_thereIn_5 (by decide) (fun c_1 => ?_) (fun c_1 => ?_)
  · have h := if_t c_1 h
    refine V_aload_n hG 1 rfl dX7_thereIn_14 ?_
    refine V_iload_n hG 2 rfl dX7_thereIn_15 ?_
    refine V_iload_n hG 3 rfl dX7_thereIn_16 ?_
    refine V_aload_n hG 0 rfl dX7_thereIn_17 ?_
    refine g7_189 hM hG dX7_thereIn_18 ?_
    obtain ⟨r_3, hc_2, h⟩ := bd_of h
    refine V_callS0 hE hG (As := [rf E ((o + p1)), .int p2, .int p3, .int (tI S 0 9)]) (rest := []) (ok_tw_find hE hM hc_2) hw7_265 hd_tw_find ⟨Nat.le_of_ble_eq_true rfl, Nat.le_of_ble_eq_true rfl⟩ rfl rfl (Nat.le_of_ble_eq_true rfl) rfl rfl dX7_thereIn_21 ?_
    refine V_istore hG [(4, .int r_3), (0, rf E o), (1, rf E ((o + p1))), (2, .int p2), (3, .int p3)] dX7_thereIn_24 (Nat.le_of_ble_eq_true rfl) rfl ?_
    refine V_iload hG 0 rfl dX7_thereIn_26 ?_
    refine V_if_ge hG 37 dX7_thereIn_28 (by decide) (fun c_4 => ?_) (fun c_4 => ?_)
    · have h := if_t c_4 h
      refine V_aload_n hG 1 rfl dX7_thereIn_37 ?_
      obtain ⟨S_6, hc_5, h⟩ := bd_of h
      refine V_callV0 hE hG (As := []) (rest := []) (ok_tw_token hE hM hc_5) hM.1 (by decide) rfl hw7_212 hd_tw_token ⟨Nat.le_of_ble_eq_true rfl, Nat.le_of_ble_eq_true rfl⟩ rfl rfl (Nat.le_of_ble_eq_true rfl) rfl rfl dX7_thereIn_38 ?_
      refine V_aload_n hG 1 rfl dX7_thereIn_41 ?_
      refine V_iload hG 0 rfl dX7_thereIn_42 ?_
      obtain ⟨S_7, eS_7, h⟩ := be_of h
      refine p7_209 hM hG eS_7 dX7_thereIn_44 ?_
      refine V_iconst hG 1 rfl dX7_thereIn_47 ?_
      cases h
      subst eQ
      exact V_zret hG (Or.inr rfl) dX7_thereIn_48
    · have h := if_f c_4 h
      refine V_aload_n hG 1 rfl dX7_thereIn_31 ?_
      refine V_iconst hG 4 rfl dX7_thereIn_32 ?_
      obtain ⟨r_10, S_9, hc_8, h⟩ := bd2_of h
      refine V_callV0 hE hG (As := [.int 4]) (rest := []) (ok_tw_wrong hE hM hc_8) hM.1 (by decide) rfl hw7_202 hd_tw_wrong ⟨Nat.le_of_ble_eq_true rfl, Nat.le_of_ble_eq_true rfl⟩ rfl rfl (Nat.le_of_ble_eq_true rfl) rfl rfl dX7_thereIn_33 ?_
      obtain ⟨g_11, h⟩ := gd_of h
      cases h
      subst eQ
      exact V_zret hG g_11 dX7_thereIn_36
  · have h := if_f c_1 h
    refine V_aload_n hG 0 rfl dX7_thereIn_8 ?_
    refine V_iconst hG 1 rfl dX7_thereIn_9 ?_
    obtain ⟨r_14, S_13, hc_12, h⟩ := bd2_of h
    refine V_callV0 hE hG (As := [.int 1]) (rest := []) (ok_tw_wrong hE hM hc_12) hM.1 (by decide) rfl hw7_202 hd_tw_wrong ⟨Nat.le_of_ble_eq_true rfl, Nat.le_of_ble_eq_true rfl⟩ rfl rfl (Nat.le_of_ble_eq_true rfl) rfl rfl dX7_thereIn_10 ?_
    obtain ⟨g_15, h⟩ := gd_of h
    cases h
    subst eQ
    exact V_zret hG g_15 dX7_thereIn_13

def tw_lapLine (N : Nat)  (S : TS) : Option (Int32 × TS) :=
if tI S 0 19 = 12 then (
bd2 (tw_wrong 2 S) fun r_26 S_25 =>
gd (r_26 = 0 ∨ r_26 = 1) (
some (r_26, S_25)))
else (
bd (tw_token N S) fun S_3 =>
be (12 + (tI S_3 0 19)) fun (x1_4 : Int32) =>
bd2 (tw_thereIn N 9 6 (tI S_3 0 18) S_3) fun r_7 S_6 =>
if r_7 = 0 then (
some (0, S_6))
else (
gd (inb x1_4 (lenA 14)) (
be (tsI S_6 14 (Int32.toNatClampNeg x1_4) (tI S_6 0 11)) fun S_10 =>
bd2 (tw_thereIn N 5 6 (tI S_10 0 17) S_10) fun r_13 S_12 =>
if r_13 = 0 then (
some (0, S_12))
else (
gd (inb x1_4 (lenA 15)) (
be (tsI S_12 15 (Int32.toNatClampNeg x1_4) (tI S_12 0 11)) fun S_16 =>
bd2 (tw_number N 0 99 S_16) fun r_19 S_18 =>
if r_19 = 0 then (
some (0, S_18))
else (
gd (inb x1_4 (lenA 16)) (
be (tsI S_18 16 (Int32.toNatClampNeg x1_4) (tI S_18 0 11)) fun S_22 =>
be (tsI S_22 0 19 ((tI S_22 0 19) + 1)) fun S_23 =>
some (1, S_23))))))))
def rm_tw_lapLine : Room := { frames := 3, cells := 0, slots := 0, locals := 71 }
theorem ok_tw_lapLine {E : En} (hE : EOk E) {o : Nat} {M0 : Mem} (hM : TwS o M0) {N : Nat}  {S : TS} {r : Int32} {S' : TS} (h : tw_lapLine N  S = some (r, S')) : CM E yX7_lapLine cX7_lapLine 2 (some .boolean) rm_tw_lapLine [rf E o] (tw o S M0) (some (.int r)) (tw o S' M0) := by
  unfold tw_lapLine at h
  refine CM_intro (own := RX7) rfl (by decide) (Nat.le_of_ble_eq_true rfl) rfl (fun G hG => ?_)
  obtain ⟨Q, eQ⟩ : ∃ Q, Q = QM E G (some (.int r)) (tw o S' M0) 0 0 := ⟨_, rfl⟩
  show V E G (tw o S M0) 0 0 2 0 [(0, rf E o)] [] (QM E G (some (.int r)) (tw o S' M0) 0 0)
  rw [← eQ]
  refine V_aload_n hG 0 rfl dX7_lapLine_0 ?_
  refine g7_228 hM hG dX7_lapLine_1 ?_
  refine V_bipush hG 12 (by decide) dX7_lapLine_4 ?_
  refine V_icmp_ne hG 15 dX7_lapLine_6 (by decide) (fun c_1 => ?_) (fun c_1 => ?_)
  · have h := if_f c_1 h
    refine V_aload_n hG 0 rfl dX7_lapLine_15 ?_
    obtain ⟨S_3, hc_2, h⟩ := bd_of h
    refine V_callV0 hE hG (As := []) (rest := []) (ok_tw_token hE hM hc_2) hM.1 (by decide) rfl hw7_212 hd_tw_token ⟨Nat.le_of_ble_eq_true rfl, Nat.le_of_ble_eq_true rfl⟩ rfl rfl (Nat.le_of_ble_eq_true rfl) rfl rfl dX7_lapLine_16 ?_
    refine V_bipush hG 12 (by decide) dX7_lapLine_19 ?_
    refine V_aload_n hG 0 rfl dX7_lapLine_21 ?_
    refine g7_228 hM hG dX7_lapLine_22 ?_
    refine V_iadd hG dX7_lapLine_25 ?_
    obtain ⟨x1_4, ex1_4, h⟩ := be_of h
    refine V_topi ex1_4 ?_
    refine V_istore_n hG rfl [(1, .int x1_4), (0, rf E o)] dX7_lapLine_26 (Nat.le_of_ble_eq_true rfl) rfl ?_
    refine V_aload_n hG 1 rfl dX7_lapLine_27 ?_
    refine V_aload_n hG 1 rfl dX7_lapLine_28 ?_
    refine g7_39 hM hG dX7_lapLine_29 ?_
    refine V_bipush hG 6 (by decide) dX7_lapLine_32 ?_
    refine V_aload_n hG 1 rfl dX7_lapLine_34 ?_
    refine g7_225 hM hG dX7_lapLine_35 ?_
    obtain ⟨r_7, S_6, hc_5, h⟩ := bd2_of h
    refine V_callV0 hE hG (As := [rf E ((o + 9)), .int 6, .int (tI S_3 0 18)]) (rest := []) (ok_tw_thereIn hE hM hc_5) hM.1 (by decide) rfl hw7_273 hd_tw_thereIn ⟨Nat.le_of_ble_eq_true rfl, Nat.le_of_ble_eq_true rfl⟩ rfl rfl (Nat.le_of_ble_eq_true rfl) rfl rfl dX7_lapLine_38 ?_
    refine V_if_ne hG 46 dX7_lapLine_41 (by decide) (fun c_8 => ?_) (fun c_8 => ?_)
    · have h := if_f c_8 h
      refine V_aload_n hG 1 rfl dX7_lapLine_46 ?_
      refine g7_54 hM hG dX7_lapLine_47 ?_
      refine V_iload_n hG 0 rfl dX7_lapLine_50 ?_
      refine V_aload_n hG 1 rfl dX7_lapLine_51 ?_
      refine g7_209 hM hG dX7_lapLine_52 ?_
      obtain ⟨g_9, h⟩ := gd_of h
      obtain ⟨S_10, eS_10, h⟩ := be_of h
      refine T_iastore hM hG eS_10 (by decide) g_9 dX7_lapLine_55 ?_
      refine V_aload_n hG 1 rfl dX7_lapLine_56 ?_
      refine V_aload_n hG 1 rfl dX7_lapLine_57 ?_
      refine g7_27 hM hG dX7_lapLine_58 ?_
      refine V_bipush hG 6 (by decide) dX7_lapLine_61 ?_
      refine V_aload_n hG 1 rfl dX7_lapLine_63 ?_
      refine g7_222 hM hG dX7_lapLine_64 ?_
      obtain ⟨r_13, S_12, hc_11, h⟩ := bd2_of h
      refine V_callV0 hE hG (As := [rf E ((o + 5)), .int 6, .int (tI S_10 0 17)]) (rest := []) (ok_tw_thereIn hE hM hc_11) hM.1 (by decide) rfl hw7_273 hd_tw_thereIn ⟨Nat.le_of_ble_eq_true rfl, Nat.le_of_ble_eq_true rfl⟩ rfl rfl (Nat.le_of_ble_eq_true rfl) rfl rfl dX7_lapLine_67 ?_
      refine V_if_ne hG 75 dX7_lapLine_70 (by decide) (fun c_14 => ?_) (fun c_14 => ?_)
      · have h := if_f c_14 h
        refine V_aload_n hG 1 rfl dX7_lapLine_75 ?_
        refine g7_57 hM hG dX7_lapLine_76 ?_
        refine V_iload_n hG 0 rfl dX7_lapLine_79 ?_
        refine V_aload_n hG 1 rfl dX7_lapLine_80 ?_
        refine g7_209 hM hG dX7_lapLine_81 ?_
        obtain ⟨g_15, h⟩ := gd_of h
        obtain ⟨S_16, eS_16, h⟩ := be_of h
        refine T_iastore hM hG eS_16 (by decide) g_15 dX7_lapLine_84 ?_
        refine V_aload_n hG 1 rfl dX7_lapLine_85 ?_
        refine V_iconst hG 0 rfl dX7_lapLine_86 ?_
        refine V_bipush hG 99 (by decide) dX7_lapLine_87 ?_
        obtain ⟨r_19, S_18, hc_17, h⟩ := bd2_of h
        refine V_callV0 hE hG (As := [.int 0, .int 99]) (rest := []) (ok_tw_number hE hM hc_17) hM.1 (by decide) rfl hw7_218 hd_tw_number ⟨Nat.le_of_ble_eq_true rfl, Nat.le_of_ble_eq_true rfl⟩ rfl rfl (Nat.le_of_ble_eq_true rfl) rfl rfl dX7_lapLine_89 ?_
        refine V_if_ne hG 97 dX7_lapLine_92 (by decide) (fun c_20 => ?_) (fun c_20 => ?_)
        · have h := if_f c_20 h
          refine V_aload_n hG 1 rfl dX7_lapLine_97 ?_
          refine g7_60 hM hG dX7_lapLine_98 ?_
          refine V_iload_n hG 0 rfl dX7_lapLine_101 ?_
          refine V_aload_n hG 1 rfl dX7_lapLine_102 ?_
          refine g7_209 hM hG dX7_lapLine_103 ?_
          obtain ⟨g_21, h⟩ := gd_of h
          obtain ⟨S_22, eS_22, h⟩ := be_of h
          refine T_iastore hM hG eS_22 (by decide) g_21 dX7_lapLine_106 ?_
          refine V_aload_n hG 1 rfl dX7_lapLine_107 ?_
          refine V_dup hG rfl dX7_lapLine_108 ?_
          refine g7_228 hM hG dX7_lapLine_109 ?_
          refine V_iconst hG 1 rfl dX7_lapLine_112 ?_
          refine V_iadd hG dX7_lapLine_113 ?_
          obtain ⟨S_23, eS_23, h⟩ := be_of h
          refine p7_228 hM hG eS_23 dX7_lapLine_114 ?_
          refine V_iconst hG 1 rfl dX7_lapLine_117 ?_
          cases h
          subst eQ
          exact V_zret hG (Or.inr rfl) dX7_lapLine_118
        · have h := if_t c_20 h
          refine V_iconst hG 0 rfl dX7_lapLine_95 ?_
          cases h
          subst eQ
          exact V_zret hG (Or.inl rfl) dX7_lapLine_96
      · have h := if_t c_14 h
        refine V_iconst hG 0 rfl dX7_lapLine_73 ?_
        cases h
        subst eQ
        exact V_zret hG (Or.inl rfl) dX7_lapLine_74
    · have h := if_t c_8 h
      refine V_iconst hG 0 rfl dX7_lapLine_44 ?_
      cases h
      subst eQ
      exact V_zret hG (Or.inl rfl) dX7_lapLine_45
  · have h := if_t c_1 h
    refine V_aload_n hG 0 rfl dX7_lapLine_9 ?_
    refine V_iconst hG 2 rfl dX7_lapLine_10 ?_
    obtain ⟨r_26, S_25, hc_24, h⟩ := bd2_of h
    refine V_callV0 hE hG (As := [.int 2]) (rest := []) (ok_tw_wrong hE hM hc_24) hM.1 (by decide) rfl hw7_202 hd_tw_wrong ⟨Nat.le_of_ble_eq_true rfl, Nat.le_of_ble_eq_true rfl⟩ rfl rfl (Nat.le_of_ble_eq_true rfl) rfl rfl dX7_lapLine_11 ?_
    obtain ⟨g_27, h⟩ := gd_of h
    cases h
    subst eQ
    exact V_zret hG g_27 dX7_lapLine_14

def tw_law (N : Nat) (p1 : Int32) (p2 : Int32) (S : TS) : Option (Int64 × TS) :=
be (tsI S 0 2 0) fun S_1 =>
bd (tw_isIn p1 0 2 S_1) fun r_3 =>
if r_3 = 0 then (
some ((-9223372036854775808), S_1))
else (
gd (inb p1 (lenA 17)) (
if tI S_1 17 (Int32.toNatClampNeg p1) = 0 then (
some ((-9223372036854775808), S_1))
else (
bd (tw_isHorse p2 S_1) fun r_8 =>
if r_8 = 0 then (
some ((-9223372036854775808), S_1))
else (
bd (tw_plainTried S_1) fun S_11 =>
bd (tw_layNames N 0 p2 S_11) fun S_13 =>
bd2 (tw_lawOf N p1 S_13) fun r_16 S_15 =>
be (if tI S_15 0 53 = 0 then (
r_16)
else (
(-9223372036854775808)) : Int64) fun (y_20 : Int64) =>
some (y_20, S_15)))))
def rm_tw_law : Room := { frames := 3, cells := 0, slots := 0, locals := 72 }
theorem ok_tw_law {E : En} (hE : EOk E) {o : Nat} {M0 : Mem} (hM : TwS o M0) {N : Nat} {p1 : Int32} {p2 : Int32} {S : TS} {r : Int64} {S' : TS} (h : tw_law N p1 p2 S = some (r, S')) : CM E yX7_law cX7_law 5 (some .long) rm_tw_law [rf E o, .int p1, .int p2] (tw o S M0) (some (.long r)) (tw o S' M0) := by
  unfold tw_law at h
  refine CM_intro (own := RX7) rfl (by decide) (Nat.le_of_ble_eq_true rfl) rfl (fun G hG => ?_)
  obtain ⟨Q, eQ⟩ : ∃ Q, Q = QM E G (some (.long r)) (tw o S' M0) 0 0 := ⟨_, rfl⟩
  show V E G (tw o S M0) 0 0 5 0 [(0, rf E o), (1, .int p1), (2, .int p2)] [] (QM E G (some (.long r)) (tw o S' M0) 0 0)
  rw [← eQ]
  refine V_aload_n hG 0 rfl dX7_law_0 ?_
  refine V_iconst hG 0 rfl dX7_law_1 ?_
  obtain ⟨S_1, eS_1, h⟩ := be_of h
  refine p7_160 hM hG eS_1 dX7_law_2 ?_
  refine V_iload_n hG 1 rfl dX7_law_5 ?_
  refine V_iconst hG 0 rfl dX7_law_6 ?_
  refine V_iconst hG 2 rfl dX7_law_7 ?_
  obtain ⟨r_3, hc_2, h⟩ := bd_of h
  refine V_callS0 hE hG (As := [.int p1, .int 0, .int 2]) (rest := []) (ok_tw_isIn hE hM hc_2) hw7_205 hd_tw_isIn ⟨Nat.le_of_ble_eq_true rfl, Nat.le_of_ble_eq_true rfl⟩ rfl rfl (Nat.le_of_ble_eq_true rfl) rfl rfl dX7_law_8 ?_
  refine V_if_eq hG 31 dX7_law_11 (by decide) (fun c_4 => ?_) (fun c_4 => ?_)
  · have h := if_t c_4 h
    refine V_ldc2 hG q1976 dX7_law_31 ?_
    cases h
    subst eQ
    exact V_lret hG dX7_law_34
  · have h := if_f c_4 h
    refine V_aload_n hG 0 rfl dX7_law_14 ?_
    refine g7_63 hM hG dX7_law_15 ?_
    refine V_iload_n hG 1 rfl dX7_law_18 ?_
    obtain ⟨g_5, h⟩ := gd_of h
    refine T_zaload hM hG (by decide) g_5 dX7_law_19 ?_
    refine V_if_eq hG 31 dX7_law_20 (by decide) (fun c_6 => ?_) (fun c_6 => ?_)
    · have h := if_t c_6 h
      refine V_ldc2 hG q1976 dX7_law_31 ?_
      cases h
      subst eQ
      exact V_lret hG dX7_law_34
    · have h := if_f c_6 h
      refine V_aload_n hG 0 rfl dX7_law_23 ?_
      refine V_iload_n hG 2 rfl dX7_law_24 ?_
      obtain ⟨r_8, hc_7, h⟩ := bd_of h
      refine V_callV0 hE hG (As := [.int p2]) (rest := []) (ok_tw_isHorse hE hM hc_7) hM.1 (by decide) rfl hw7_459 hd_tw_isHorse ⟨Nat.le_of_ble_eq_true rfl, Nat.le_of_ble_eq_true rfl⟩ rfl rfl (Nat.le_of_ble_eq_true rfl) rfl rfl dX7_law_25 ?_
      refine V_if_ne hG 35 dX7_law_28 (by decide) (fun c_9 => ?_) (fun c_9 => ?_)
      · have h := if_f c_9 h
        refine V_aload_n hG 0 rfl dX7_law_35 ?_
        obtain ⟨S_11, hc_10, h⟩ := bd_of h
        refine V_callV0 hE hG (As := []) (rest := []) (ok_tw_plainTried hE hM hc_10) hM.1 (by decide) rfl hw7_374 hd_tw_plainTried ⟨Nat.le_of_ble_eq_true rfl, Nat.le_of_ble_eq_true rfl⟩ rfl rfl (Nat.le_of_ble_eq_true rfl) rfl rfl dX7_law_36 ?_
        refine V_aload_n hG 0 rfl dX7_law_39 ?_
        refine V_iconst hG 0 rfl dX7_law_40 ?_
        refine V_iload_n hG 2 rfl dX7_law_41 ?_
        obtain ⟨S_13, hc_12, h⟩ := bd_of h
        refine V_callV0 hE hG (As := [.int 0, .int p2]) (rest := []) (ok_tw_layNames hE hM hc_12) hM.1 (by decide) rfl hw7_414 hd_tw_layNames ⟨Nat.le_of_ble_eq_true rfl, Nat.le_of_ble_eq_true rfl⟩ rfl rfl (Nat.le_of_ble_eq_true rfl) rfl rfl dX7_law_42 ?_
        refine V_aload_n hG 0 rfl dX7_law_45 ?_
        refine V_iload_n hG 1 rfl dX7_law_46 ?_
        obtain ⟨r_16, S_15, hc_14, h⟩ := bd2_of h
        refine V_callV0 hE hG (As := [.int p1]) (rest := []) (ok_tw_lawOf hE hM hc_14) hM.1 (by decide) rfl hw7_418 hd_tw_lawOf ⟨Nat.le_of_ble_eq_true rfl, Nat.le_of_ble_eq_true rfl⟩ rfl rfl (Nat.le_of_ble_eq_true rfl) rfl rfl dX7_law_47 ?_
        refine V_lstore_n hG rfl [(3, .long r_16), (0, rf E o), (1, .int p1), (2, .int p2)] dX7_law_50 (Nat.le_of_ble_eq_true rfl) rfl ?_
        refine V_aload_n hG 1 rfl dX7_law_51 ?_
        refine g7_348 hM hG dX7_law_52 ?_
        obtain ⟨t_17, et_17, h⟩ := be_of h
        have J_18 : ∀ y_20 : Int64, y_20 = t_17 → V E G (tw o S_15 M0) 0 0 5 65 [(3, .long r_16), (0, rf E o), (1, .int p1), (2, .int p2)] [.long y_20] Q := by
          intro y_20 ey
          subst ey
          cases h
          subst eQ
          exact V_lret hG dX7_law_65
        refine V_if_eq hG 64 dX7_law_55 (by decide) (fun c_19 => ?_) (fun c_19 => ?_)
        · refine V_lload_n hG 0 rfl dX7_law_64 ?_
          exact J_18 _ (by rw [et_17, if_pos c_19])
        · refine V_ldc2 hG q1976 dX7_law_58 ?_
          refine V_goto hG 65 dX7_law_61 (by decide) ?_
          exact J_18 _ (by rw [et_17, if_neg c_19])
      · have h := if_t c_9 h
        refine V_ldc2 hG q1976 dX7_law_31 ?_
        cases h
        subst eQ
        exact V_lret hG dX7_law_34

def tw_lead (N : Nat) (p1 : Int32) (p2 : Int32) (S : TS) : Option (Int32 × TS) :=
be (tsI S 0 2 0) fun S_1 =>
bd (tw_isHorse p1 S_1) fun r_3 =>
if r_3 = 0 then (
some (0, S_1))
else (
gd (inb p1 (lenA 31)) (
if tI S_1 31 (Int32.toNatClampNeg p1) = 0 then (
some (0, S_1))
else (
bd (tw_isIn p2 0 (tI S_1 0 15) S_1) fun r_8 =>
if r_8 = 0 then (
some (0, S_1))
else (
gd (inb p1 (lenA 27)) (
be (fun (u_13 : Unit) =>
bd (tw_remember N S_1) fun S_15 =>
gd (inb p1 (lenA 27)) (
be (tsI S_15 27 (Int32.toNatClampNeg p1) p2) fun S_17 =>
gd (inb p1 (lenA 29)) (
be (tsI S_17 29 (Int32.toNatClampNeg p1) (-1)) fun S_19 =>
some (1, S_19)))) fun (k_11 : Unit → Option (Int32 × TS)) =>
if tI S_1 27 (Int32.toNatClampNeg p1) = p2 then (
gd (inb p1 (lenA 29)) (
if 0 ≤ tI S_1 29 (Int32.toNatClampNeg p1) then (
k_11 (()))
else (
some (0, S_1))))
else (
k_11 (())))))))
def rm_tw_lead : Room := { frames := 2, cells := 0, slots := 0, locals := 44 }
theorem ok_tw_lead {E : En} (hE : EOk E) {o : Nat} {M0 : Mem} (hM : TwS o M0) {N : Nat} {p1 : Int32} {p2 : Int32} {S : TS} {r : Int32} {S' : TS} (h : tw_lead N p1 p2 S = some (r, S')) : CM E yX7_lead cX7_lead 3 (some .boolean) rm_tw_lead [rf E o, .int p1, .int p2] (tw o S M0) (some (.int r)) (tw o S' M0) := by
  unfold tw_lead at h
  refine CM_intro (own := RX7) rfl (by decide) (Nat.le_of_ble_eq_true rfl) rfl (fun G hG => ?_)
  obtain ⟨Q, eQ⟩ : ∃ Q, Q = QM E G (some (.int r)) (tw o S' M0) 0 0 := ⟨_, rfl⟩
  show V E G (tw o S M0) 0 0 3 0 [(0, rf E o), (1, .int p1), (2, .int p2)] [] (QM E G (some (.int r)) (tw o S' M0) 0 0)
  rw [← eQ]
  refine V_aload_n hG 0 rfl dX7_lead_0 ?_
  refine V_iconst hG 0 rfl dX7_lead_1 ?_
  obtain ⟨S_1, eS_1, h⟩ := be_of h
  refine p7_160 hM hG eS_1 dX7_lead_2 ?_
  refine V_aload_n hG 0 rfl dX7_lead_5 ?_
  refine V_iload_n hG 1 rfl dX7_lead_6 ?_
  obtain ⟨r_3, hc_2, h⟩ := bd_of h
  refine V_callV0 hE hG (As := [.int p1]) (rest := []) (ok_tw_isHorse hE hM hc_2) hM.1 (by decide) rfl hw7_459 hd_tw_isHorse ⟨Nat.le_of_ble_eq_true rfl, Nat.le_of_ble_eq_true rfl⟩ rfl rfl (Nat.le_of_ble_eq_true rfl) rfl rfl dX7_lead_7 ?_
  refine V_if_eq hG 53 dX7_lead_10 (by decide) (fun c_4 => ?_) (fun c_4 => ?_)
  · have h := if_t c_4 h
    refine V_iconst hG 0 rfl dX7_lead_53 ?_
    cases h
    subst eQ
    exact V_zret hG (Or.inl rfl) dX7_lead_54
  · have h := if_f c_4 h
    refine V_aload_n hG 0 rfl dX7_lead_13 ?_
    refine g7_106 hM hG dX7_lead_14 ?_
    refine V_iload_n hG 1 rfl dX7_lead_17 ?_
    obtain ⟨g_5, h⟩ := gd_of h
    refine T_zaload hM hG (by decide) g_5 dX7_lead_18 ?_
    refine V_if_eq hG 53 dX7_lead_19 (by decide) (fun c_6 => ?_) (fun c_6 => ?_)
    · have h := if_t c_6 h
      refine V_iconst hG 0 rfl dX7_lead_53 ?_
      cases h
      subst eQ
      exact V_zret hG (Or.inl rfl) dX7_lead_54
    · have h := if_f c_6 h
      refine V_iload_n hG 2 rfl dX7_lead_22 ?_
      refine V_iconst hG 0 rfl dX7_lead_23 ?_
      refine V_aload_n hG 0 rfl dX7_lead_24 ?_
      refine g7_252 hM hG dX7_lead_25 ?_
      obtain ⟨r_8, hc_7, h⟩ := bd_of h
      refine V_callS0 hE hG (As := [.int p2, .int 0, .int (tI S_1 0 15)]) (rest := []) (ok_tw_isIn hE hM hc_7) hw7_205 hd_tw_isIn ⟨Nat.le_of_ble_eq_true rfl, Nat.le_of_ble_eq_true rfl⟩ rfl rfl (Nat.le_of_ble_eq_true rfl) rfl rfl dX7_lead_28 ?_
      refine V_if_eq hG 53 dX7_lead_31 (by decide) (fun c_9 => ?_) (fun c_9 => ?_)
      · have h := if_t c_9 h
        refine V_iconst hG 0 rfl dX7_lead_53 ?_
        cases h
        subst eQ
        exact V_zret hG (Or.inl rfl) dX7_lead_54
      · have h := if_f c_9 h
        refine V_aload_n hG 0 rfl dX7_lead_34 ?_
        refine g7_94 hM hG dX7_lead_35 ?_
        refine V_iload_n hG 1 rfl dX7_lead_38 ?_
        obtain ⟨g_10, h⟩ := gd_of h
        refine T_iaload hM hG (by decide) g_10 dX7_lead_39 ?_
        refine V_iload_n hG 2 rfl dX7_lead_40 ?_
        obtain ⟨k_11, ek_11, h⟩ := bek1_of h
        have J_12 : ∀ (u_13 : Unit), k_11 u_13 = some (r, S') → V E G (tw o S_1 M0) 0 0 3 55 [(0, rf E o), (1, .int p1), (2, .int p2)] [] Q := by
          intro u_13 h
          have h := ek_11 _ _ h
          refine V_aload_n hG 0 rfl dX7_lead_55 ?_
          obtain ⟨S_15, hc_14, h⟩ := bd_of h
          refine V_callV0 hE hG (As := []) (rest := []) (ok_tw_remember hE hM hc_14) hM.1 (by decide) rfl hw7_470 hd_tw_remember ⟨Nat.le_of_ble_eq_true rfl, Nat.le_of_ble_eq_true rfl⟩ rfl rfl (Nat.le_of_ble_eq_true rfl) rfl rfl dX7_lead_56 ?_
          refine V_aload_n hG 0 rfl dX7_lead_59 ?_
          refine g7_94 hM hG dX7_lead_60 ?_
          refine V_iload_n hG 1 rfl dX7_lead_63 ?_
          refine V_iload_n hG 2 rfl dX7_lead_64 ?_
          obtain ⟨g_16, h⟩ := gd_of h
          obtain ⟨S_17, eS_17, h⟩ := be_of h
          refine T_iastore hM hG eS_17 (by decide) g_16 dX7_lead_65 ?_
          refine V_aload_n hG 0 rfl dX7_lead_66 ?_
          refine g7_100 hM hG dX7_lead_67 ?_
          refine V_iload_n hG 1 rfl dX7_lead_70 ?_
          refine V_iconst hG (-1) rfl dX7_lead_71 ?_
          obtain ⟨g_18, h⟩ := gd_of h
          obtain ⟨S_19, eS_19, h⟩ := be_of h
          refine T_iastore hM hG eS_19 (by decide) g_18 dX7_lead_72 ?_
          refine V_iconst hG 1 rfl dX7_lead_73 ?_
          cases h
          subst eQ
          exact V_zret hG (Or.inr rfl) dX7_lead_74
        refine V_icmp_ne hG 55 dX7_lead_41 (by decide) (fun c_20 => ?_) (fun c_20 => ?_)
        · have h := if_f c_20 h
          exact J_12 (()) h
        · have h := if_t c_20 h
          refine V_aload_n hG 0 rfl dX7_lead_44 ?_
          refine g7_100 hM hG dX7_lead_45 ?_
          refine V_iload_n hG 1 rfl dX7_lead_48 ?_
          obtain ⟨g_21, h⟩ := gd_of h
          refine T_iaload hM hG (by decide) g_21 dX7_lead_49 ?_
          refine V_if_ge hG 55 dX7_lead_50 (by decide) (fun c_22 => ?_) (fun c_22 => ?_)
          · have h := if_t c_22 h
            exact J_12 (()) h
          · have h := if_f c_22 h
            refine V_iconst hG 0 rfl dX7_lead_53 ?_
            cases h
            subst eQ
            exact V_zret hG (Or.inl rfl) dX7_lead_54
