set_option maxRecDepth 100000
set_option maxHeartbeats 4000000
def tw_fault (p1 : Int32) (S : TS) : Option (Int32 × TS) :=
be (tsI S 0 2 0) fun S_1 =>
be (if p1 = 0 then (
tI S_1 0 4)
else (
if p1 = 1 then (
tI S_1 0 5)
else (
(-1))) : Int32) fun (y_6 : Int32) =>
some (y_6, S_1)
def rm_tw_fault : Room := { frames := 0, cells := 0, slots := 0, locals := 0 }
theorem ok_tw_fault {E : En} (hE : EOk E) {o : Nat} {M0 : Mem} (hM : TwS o M0) {p1 : Int32} {S : TS} {r : Int32} {S' : TS} (h : tw_fault p1 S = some (r, S')) : CM E yX7_fault cX7_fault 2 (some .int) rm_tw_fault [rf E o, .int p1] (tw o S M0) (some (.int r)) (tw o S' M0) := by
  unfold tw_fault at h
  refine CM_intro (own := RX7) rfl (by decide) (Nat.le_of_ble_eq_true rfl) rfl (fun G hG => ?_)
  obtain ⟨Q, eQ⟩ : ∃ Q, Q = QM E G (some (.int r)) (tw o S' M0) 0 0 := ⟨_, rfl⟩
  show V E G (tw o S M0) 0 0 2 0 [(0, rf E o), (1, .int p1)] [] (QM E G (some (.int r)) (tw o S' M0) 0 0)
  rw [← eQ]
  refine V_aload_n hG 0 rfl dX7_fault_0 ?_
  refine V_iconst hG 0 rfl dX7_fault_1 ?_
  obtain ⟨S_1, eS_1, h⟩ := be_of h
  refine p7_160 hM hG eS_1 dX7_fault_2 ?_
  refine V_iload_n hG 1 rfl dX7_fault_5 ?_
  obtain ⟨t_2, et_2, h⟩ := be_of h
  have J_3 : ∀ y_6 : Int32, y_6 = t_2 → V E G (tw o S_1 M0) 0 0 2 29 [(0, rf E o), (1, .int p1)] [.int y_6] Q := by
    intro y_6 ey
    subst ey
    cases h
    subst eQ
    exact V_iret hG dX7_fault_29
  refine V_if_ne hG 16 dX7_fault_6 (by decide) (fun c_4 => ?_) (fun c_4 => ?_)
  · refine V_iload_n hG 1 rfl dX7_fault_16 ?_
    refine V_iconst hG 1 rfl dX7_fault_17 ?_
    refine V_icmp_ne hG 28 dX7_fault_18 (by decide) (fun c_5 => ?_) (fun c_5 => ?_)
    · refine V_iconst hG (-1) rfl dX7_fault_28 ?_
      exact J_3 _ (by rw [et_2, if_neg c_4, if_neg c_5])
    · refine V_aload_n hG 0 rfl dX7_fault_21 ?_
      refine g7_16 hM hG dX7_fault_22 ?_
      refine V_goto hG 29 dX7_fault_25 (by decide) ?_
      exact J_3 _ (by rw [et_2, if_neg c_4, if_pos c_5])
  · refine V_aload_n hG 0 rfl dX7_fault_9 ?_
    refine g7_166 hM hG dX7_fault_10 ?_
    refine V_goto hG 29 dX7_fault_13 (by decide) ?_
    exact J_3 _ (by rw [et_2, if_pos c_4])

def tw_feed_b1 (N : Nat) (p1 : Int32) (p2 : Int32) (p3 : Int32) (p4 : Int32) (p5 : Int32) (x6_8 : Int32) (S_9 : TS) : Option ((Int32 × TS) ⊕ (Int32 × TS)) :=
if 20 ≤ x6_8 then (
some (.inl (x6_8, S_9)))
else (
be (if 4 ≤ x6_8 then (
if 8 ≤ x6_8 then (
if 12 ≤ x6_8 then (
if 16 ≤ x6_8 then (
p5)
else (
p4))
else (
p3))
else (
p2))
else (
p1) : Int32) fun (y_23 : Int32) =>
gd (inb ((tI S_9 0 1) + x6_8) (lenA 1)) (
be (tsI S_9 1 (Int32.toNatClampNeg ((tI S_9 0 1) + x6_8)) ((y_23 >>> ((24 - (8 * (x6_8 - x6_8 / 4 * 4))) &&& 31)) &&& 255)) fun S_25 =>
be (x6_8 + 1) fun (x6_26 : Int32) =>
some (.inr (x6_26, S_25))))
def tw_feed (N : Nat) (p1 : Int32) (p2 : Int32) (p3 : Int32) (p4 : Int32) (p5 : Int32) (S : TS) : Option (Int32 × TS) :=
be (tsI S 0 2 0) fun S_1 =>
if (tI S_1 0 1) + 20 ≤ 700 then (
bd2 (lp N (fun s_15 : Int32 × TS => tw_feed_b1 N p1 p2 p3 p4 p5 s_15.1 s_15.2) (0, S_1)) fun (x6_10 : Int32) (S_11 : TS) =>
be (tsI S_11 0 1 ((tI S_11 0 1) + 20)) fun S_14 =>
some (tI S_14 0 1, S_14))
else (
some ((-1), S_1))
def rm_tw_feed : Room := { frames := 0, cells := 0, slots := 0, locals := 0 }
theorem ok_tw_feed {E : En} (hE : EOk E) {o : Nat} {M0 : Mem} (hM : TwS o M0) {N : Nat} {p1 : Int32} {p2 : Int32} {p3 : Int32} {p4 : Int32} {p5 : Int32} {S : TS} {r : Int32} {S' : TS} (h : tw_feed N p1 p2 p3 p4 p5 S = some (r, S')) : CM E yX7_feed cX7_feed 8 (some .int) rm_tw_feed [rf E o, .int p1, .int p2, .int p3, .int p4, .int p5] (tw o S M0) (some (.int r)) (tw o S' M0) := by
  unfold tw_feed at h
  refine CM_intro (own := RX7) rfl (by decide) (Nat.le_of_ble_eq_true rfl) rfl (fun G hG => ?_)
  obtain ⟨Q, eQ⟩ : ∃ Q, Q = QM E G (some (.int r)) (tw o S' M0) 0 0 := ⟨_, rfl⟩
  show V E G (tw o S M0) 0 0 8 0 [(0, rf E o), (1, .int p1), (2, .int p2), (3, .int p3), (4, .int p4), (5, .int p5)] [] (QM E G (some (.int r)) (tw o S' M0) 0 0)
  rw [← eQ]
  refine V_aload_n hG 0 rfl dX7_feed_0 ?_
  refine V_iconst hG 0 rfl dX7_feed_1 ?_
  obtain ⟨S_1, eS_1, h⟩ := be_of h
  refine p7_160 hM hG eS_1 dX7_feed_2 ?_
  refine V_aload_n hG 0 rfl dX7_feed_5 ?_
  refine g7_163 hM hG dX7_feed_6 ?_
  refine V_bipush hG 20 (by decide) dX7_feed_9 ?_
  refine V_iadd hG dX7_feed_11 ?_
  refine V_sipush hG 700 (by decide) dX7_feed_12 ?_
  refine V_icmp_le hG 20 dX7_feed_15 (by decide) (fun c_2 => ?_) (fun c_2 => ?_)
  · have h := if_t c_2 h
    refine V_iconst hG 0 rfl dX7_feed_20 ?_
    refine V_istore hG [(6, .int 0), (0, rf E o), (1, .int p1), (2, .int p2), (3, .int p3), (4, .int p4), (5, .int p5)] dX7_feed_21 (Nat.le_of_ble_eq_true rfl) rfl ?_
    obtain ⟨x6_10, S_11, hL_12, h⟩ := bd2_of h
    have J_7 : ∀ q_13 : Int32 × TS, q_13 = (x6_10, S_11) → V E G (tw o q_13.2 M0) 0 0 8 113 [(6, .int q_13.1), (0, rf E o), (1, .int p1), (2, .int p2), (3, .int p3), (4, .int p4), (5, .int p5)] [] Q := by
      intro q_13 e9
      subst q_13
      show V E G (tw o S_11 M0) 0 0 8 113 [(6, .int x6_10), (0, rf E o), (1, .int p1), (2, .int p2), (3, .int p3), (4, .int p4), (5, .int p5)] [] Q
      refine V_aload_n hG 1 rfl dX7_feed_113 ?_
      refine V_dup hG rfl dX7_feed_114 ?_
      refine g7_163 hM hG dX7_feed_115 ?_
      refine V_bipush hG 20 (by decide) dX7_feed_118 ?_
      refine V_iadd hG dX7_feed_120 ?_
      obtain ⟨S_14, eS_14, h⟩ := be_of h
      refine p7_163 hM hG eS_14 dX7_feed_121 ?_
      refine V_aload_n hG 1 rfl dX7_feed_124 ?_
      refine g7_163 hM hG dX7_feed_125 ?_
      cases h
      subst eQ
      exact V_iret hG dX7_feed_128
    refine lp_walk (W := fun s_15 : Int32 × TS => V E G (tw o s_15.2 M0) 0 0 8 23 [(6, .int s_15.1), (0, rf E o), (1, .int p1), (2, .int p2), (3, .int p3), (4, .int p4), (5, .int p5)] [] Q) ?_ N (0, S_1) hL_12
    intro s_15 b_3 hb_4 hk_5 hx_6
    obtain ⟨x6_8, S_9⟩ := s_15
    have hb_4 : tw_feed_b1 N p1 p2 p3 p4 p5 x6_8 S_9 = some b_3 := hb_4
    unfold tw_feed_b1 at hb_4
    show V E G (tw o S_9 M0) 0 0 8 23 [(6, .int x6_8), (0, rf E o), (1, .int p1), (2, .int p2), (3, .int p3), (4, .int p4), (5, .int p5)] [] Q
    refine V_iload hG 0 rfl dX7_feed_23 ?_
    refine V_bipush hG 20 (by decide) dX7_feed_25 ?_
    refine V_icmp_ge hG 113 dX7_feed_27 (by decide) (fun c_16 => ?_) (fun c_16 => ?_)
    · have hb_4 := if_t c_16 hb_4
      cases hb_4
      exact J_7 _ (hx_6 _ rfl)
    · have hb_4 := if_f c_16 hb_4
      refine V_iload hG 0 rfl dX7_feed_30 ?_
      refine V_iconst hG 4 rfl dX7_feed_32 ?_
      obtain ⟨t_17, et_17, hb_4⟩ := be_of hb_4
      have J_18 : ∀ y_23 : Int32, y_23 = t_17 → V E G (tw o S_9 M0) 0 0 8 76 [(6, .int x6_8), (0, rf E o), (1, .int p1), (2, .int p2), (3, .int p3), (4, .int p4), (5, .int p5)] [.int y_23] Q := by
        intro y_23 ey
        subst ey
        refine V_istore hG [(7, .int y_23), (6, .int x6_8), (0, rf E o), (1, .int p1), (2, .int p2), (3, .int p3), (4, .int p4), (5, .int p5)] dX7_feed_76 (Nat.le_of_ble_eq_true rfl) rfl ?_
        refine V_aload_n hG 2 rfl dX7_feed_78 ?_
        refine g7_7 hM hG dX7_feed_79 ?_
        refine V_aload_n hG 2 rfl dX7_feed_82 ?_
        refine g7_163 hM hG dX7_feed_83 ?_
        refine V_iload hG 1 rfl dX7_feed_86 ?_
        refine V_iadd hG dX7_feed_88 ?_
        refine V_iload hG 0 rfl dX7_feed_89 ?_
        refine V_bipush hG 24 (by decide) dX7_feed_91 ?_
        refine V_bipush hG 8 (by decide) dX7_feed_93 ?_
        refine V_iload hG 1 rfl dX7_feed_95 ?_
        refine V_iconst hG 4 rfl dX7_feed_97 ?_
        refine V_irem hG (by decide) dX7_feed_98 ?_
        refine V_imul hG dX7_feed_99 ?_
        refine V_isub hG dX7_feed_100 ?_
        refine V_ishr hG dX7_feed_101 ?_
        refine V_sipush hG 255 (by decide) dX7_feed_102 ?_
        refine V_iand hG dX7_feed_105 ?_
        obtain ⟨g_24, hb_4⟩ := gd_of hb_4
        obtain ⟨S_25, eS_25, hb_4⟩ := be_of hb_4
        refine T_iastore hM hG eS_25 (by decide) g_24 dX7_feed_106 ?_
        obtain ⟨x6_26, ex6_26, hb_4⟩ := be_of hb_4
        refine V_iinc hG 1 x6_26 rfl (by rw [ex6_26]; rfl) [(6, .int x6_26), (7, .int y_23), (0, rf E o), (1, .int p1), (2, .int p2), (3, .int p3), (4, .int p4), (5, .int p5)] dX7_feed_107 (Nat.le_of_ble_eq_true rfl) rfl ?_
        refine V_goto hG 23 dX7_feed_110 (by decide) ?_
        cases hb_4
        exact V_lv [0, 2, 3, 4, 5, 6, 7] rfl (hk_5 _ rfl)
      refine V_icmp_ge hG 40 dX7_feed_33 (by decide) (fun c_19 => ?_) (fun c_19 => ?_)
      · refine V_iload hG 0 rfl dX7_feed_40 ?_
        refine V_bipush hG 8 (by decide) dX7_feed_42 ?_
        refine V_icmp_ge hG 51 dX7_feed_44 (by decide) (fun c_20 => ?_) (fun c_20 => ?_)
        · refine V_iload hG 0 rfl dX7_feed_51 ?_
          refine V_bipush hG 12 (by decide) dX7_feed_53 ?_
          refine V_icmp_ge hG 62 dX7_feed_55 (by decide) (fun c_21 => ?_) (fun c_21 => ?_)
          · refine V_iload hG 0 rfl dX7_feed_62 ?_
            refine V_bipush hG 16 (by decide) dX7_feed_64 ?_
            refine V_icmp_ge hG 74 dX7_feed_66 (by decide) (fun c_22 => ?_) (fun c_22 => ?_)
            · refine V_iload hG 6 rfl dX7_feed_74 ?_
              exact J_18 _ (by rw [et_17, if_pos c_19, if_pos c_20, if_pos c_21, if_pos c_22])
            · refine V_iload hG 5 rfl dX7_feed_69 ?_
              refine V_goto hG 76 dX7_feed_71 (by decide) ?_
              exact J_18 _ (by rw [et_17, if_pos c_19, if_pos c_20, if_pos c_21, if_neg c_22])
          · refine V_iload_n hG 4 rfl dX7_feed_58 ?_
            refine V_goto hG 76 dX7_feed_59 (by decide) ?_
            exact J_18 _ (by rw [et_17, if_pos c_19, if_pos c_20, if_neg c_21])
        · refine V_iload_n hG 3 rfl dX7_feed_47 ?_
          refine V_goto hG 76 dX7_feed_48 (by decide) ?_
          exact J_18 _ (by rw [et_17, if_pos c_19, if_neg c_20])
      · refine V_iload_n hG 2 rfl dX7_feed_36 ?_
        refine V_goto hG 76 dX7_feed_37 (by decide) ?_
        exact J_18 _ (by rw [et_17, if_neg c_19])
  · have h := if_f c_2 h
    refine V_iconst hG (-1) rfl dX7_feed_18 ?_
    cases h
    subst eQ
    exact V_iret hG dX7_feed_19

def tw_put_b1 (N : Nat) (p1 : Nat) (p2 : Int32) (x3_6 : Int32) (S_7 : TS) : Option ((Int32 × TS) ⊕ (Int32 × TS)) :=
if 6 ≤ x3_6 then (
some (.inl (x3_6, S_7)))
else (
gd (inb x3_6 (lenA 27)) (
gd (tyA p1 = 0) (
gd (inb (p2 + x3_6) (lenA p1)) (
be (tsI S_7 p1 (Int32.toNatClampNeg (p2 + x3_6)) (tI S_7 27 (Int32.toNatClampNeg x3_6))) fun S_17 =>
gd (inb x3_6 (lenA 29)) (
gd (tyA p1 = 0) (
gd (inb ((p2 + 6) + x3_6) (lenA p1)) (
be (tsI S_17 p1 (Int32.toNatClampNeg ((p2 + 6) + x3_6)) (tI S_17 29 (Int32.toNatClampNeg x3_6))) fun S_21 =>
gd (inb x3_6 (lenA 33)) (
gd (tyA p1 = 0) (
gd (inb ((p2 + 12) + x3_6) (lenA p1)) (
be (tsI S_21 p1 (Int32.toNatClampNeg ((p2 + 12) + x3_6)) (tI S_21 33 (Int32.toNatClampNeg x3_6))) fun S_25 =>
be (x3_6 + 1) fun (x3_26 : Int32) =>
some (.inr (x3_26, S_25))))))))))))
def tw_put (N : Nat) (p1 : Nat) (p2 : Int32) (S : TS) : Option (TS) :=
bd2 (lp N (fun s_12 : Int32 × TS => tw_put_b1 N p1 p2 s_12.1 s_12.2) (0, S)) fun (x3_8 : Int32) (S_9 : TS) =>
some S_9
def rm_tw_put : Room := { frames := 0, cells := 0, slots := 0, locals := 0 }
theorem ok_tw_put {E : En} (hE : EOk E) {o : Nat} {M0 : Mem} (hM : TwS o M0) {N : Nat} {p1 : Nat} {p2 : Int32} {S : TS}  {S' : TS} (h : tw_put N p1 p2 S = some S') : CM E yX7_put cX7_put 4 none rm_tw_put [rf E o, rf E ((o + p1)), .int p2] (tw o S M0) none (tw o S' M0) := by
  unfold tw_put at h
  refine CM_intro (own := RX7) rfl (by decide) (Nat.le_of_ble_eq_true rfl) rfl (fun G hG => ?_)
  obtain ⟨Q, eQ⟩ : ∃ Q, Q = QM E G none (tw o S' M0) 0 0 := ⟨_, rfl⟩
  show V E G (tw o S M0) 0 0 4 0 [(0, rf E o), (1, rf E ((o + p1))), (2, .int p2)] [] (QM E G none (tw o S' M0) 0 0)
  rw [← eQ]
  refine V_iconst hG 0 rfl dX7_put_0 ?_
  refine V_istore_n hG rfl [(3, .int 0), (0, rf E o), (1, rf E ((o + p1))), (2, .int p2)] dX7_put_1 (Nat.le_of_ble_eq_true rfl) rfl ?_
  obtain ⟨x3_8, S_9, hL_10, h⟩ := bd2_of h
  have J_5 : ∀ q_11 : Int32 × TS, q_11 = (x3_8, S_9) → V E G (tw o q_11.2 M0) 0 0 4 53 [(3, .int q_11.1), (0, rf E o), (1, rf E ((o + p1))), (2, .int p2)] [] Q := by
    intro q_11 e9
    subst q_11
    show V E G (tw o S_9 M0) 0 0 4 53 [(3, .int x3_8), (0, rf E o), (1, rf E ((o + p1))), (2, .int p2)] [] Q
    cases h
    subst eQ
    exact V_vret hG dX7_put_53
  refine lp_walk (W := fun s_12 : Int32 × TS => V E G (tw o s_12.2 M0) 0 0 4 2 [(3, .int s_12.1), (0, rf E o), (1, rf E ((o + p1))), (2, .int p2)] [] Q) ?_ N (0, S) hL_10
  intro s_12 b_1 hb_2 hk_3 hx_4
  obtain ⟨x3_6, S_7⟩ := s_12
  have hb_2 : tw_put_b1 N p1 p2 x3_6 S_7 = some b_1 := hb_2
  unfold tw_put_b1 at hb_2
  show V E G (tw o S_7 M0) 0 0 4 2 [(3, .int x3_6), (0, rf E o), (1, rf E ((o + p1))), (2, .int p2)] [] Q
  refine V_iload_n hG 0 rfl dX7_put_2 ?_
  refine V_bipush hG 6 (by decide) dX7_put_3 ?_
  refine V_icmp_ge hG 53 dX7_put_5 (by decide) (fun c_13 => ?_) (fun c_13 => ?_)
  · have hb_2 := if_t c_13 hb_2
    cases hb_2
    exact J_5 _ (hx_4 _ rfl)
  · have hb_2 := if_f c_13 hb_2
    refine V_aload_n hG 2 rfl dX7_put_8 ?_
    refine V_iload_n hG 3 rfl dX7_put_9 ?_
    refine V_iload_n hG 0 rfl dX7_put_10 ?_
    refine V_iadd hG dX7_put_11 ?_
    refine V_aload_n hG 1 rfl dX7_put_12 ?_
    refine g7_94 hM hG dX7_put_13 ?_
    refine V_iload_n hG 0 rfl dX7_put_16 ?_
    obtain ⟨g_14, hb_2⟩ := gd_of hb_2
    refine T_iaload hM hG (by decide) g_14 dX7_put_17 ?_
    obtain ⟨g_15, hb_2⟩ := gd_of hb_2
    obtain ⟨g_16, hb_2⟩ := gd_of hb_2
    obtain ⟨S_17, eS_17, hb_2⟩ := be_of hb_2
    refine T_iastore hM hG eS_17 g_15 g_16 dX7_put_18 ?_
    refine V_aload_n hG 2 rfl dX7_put_19 ?_
    refine V_iload_n hG 3 rfl dX7_put_20 ?_
    refine V_bipush hG 6 (by decide) dX7_put_21 ?_
    refine V_iadd hG dX7_put_23 ?_
    refine V_iload_n hG 0 rfl dX7_put_24 ?_
    refine V_iadd hG dX7_put_25 ?_
    refine V_aload_n hG 1 rfl dX7_put_26 ?_
    refine g7_100 hM hG dX7_put_27 ?_
    refine V_iload_n hG 0 rfl dX7_put_30 ?_
    obtain ⟨g_18, hb_2⟩ := gd_of hb_2
    refine T_iaload hM hG (by decide) g_18 dX7_put_31 ?_
    obtain ⟨g_19, hb_2⟩ := gd_of hb_2
    obtain ⟨g_20, hb_2⟩ := gd_of hb_2
    obtain ⟨S_21, eS_21, hb_2⟩ := be_of hb_2
    refine T_iastore hM hG eS_21 g_19 g_20 dX7_put_32 ?_
    refine V_aload_n hG 2 rfl dX7_put_33 ?_
    refine V_iload_n hG 3 rfl dX7_put_34 ?_
    refine V_bipush hG 12 (by decide) dX7_put_35 ?_
    refine V_iadd hG dX7_put_37 ?_
    refine V_iload_n hG 0 rfl dX7_put_38 ?_
    refine V_iadd hG dX7_put_39 ?_
    refine V_aload_n hG 1 rfl dX7_put_40 ?_
    refine g7_112 hM hG dX7_put_41 ?_
    refine V_iload_n hG 0 rfl dX7_put_44 ?_
    obtain ⟨g_22, hb_2⟩ := gd_of hb_2
    refine T_iaload hM hG (by decide) g_22 dX7_put_45 ?_
    obtain ⟨g_23, hb_2⟩ := gd_of hb_2
    obtain ⟨g_24, hb_2⟩ := gd_of hb_2
    obtain ⟨S_25, eS_25, hb_2⟩ := be_of hb_2
    refine T_iastore hM hG eS_25 g_23 g_24 dX7_put_46 ?_
    obtain ⟨x3_26, ex3_26, hb_2⟩ := be_of hb_2
    refine V_iinc hG 0 x3_26 rfl (by rw [ex3_26]; rfl) [(3, .int x3_26), (0, rf E o), (1, rf E ((o + p1))), (2, .int p2)] dX7_put_47 (Nat.le_of_ble_eq_true rfl) rfl ?_
    refine V_goto hG 2 dX7_put_50 (by decide) ?_
    cases hb_2
    exact hk_3 _ rfl

def tw_remember_b1 (N : Nat) (x1_13 : Int32) (S_14 : TS) : Option ((Int32 × TS) ⊕ (Int32 × TS)) :=
if 342 ≤ x1_13 then (
some (.inl (x1_13, S_14)))
else (
gd (inb (x1_13 + 18) (lenA 43)) (
gd (inb x1_13 (lenA 43)) (
be (tsI S_14 43 (Int32.toNatClampNeg x1_13) (tI S_14 43 (Int32.toNatClampNeg (x1_13 + 18)))) fun S_24 =>
be (x1_13 + 1) fun (x1_25 : Int32) =>
some (.inr (x1_25, S_24)))))
def tw_remember (N : Nat)  (S : TS) : Option (TS) :=
bd (if tI S 0 78 = 20 then (
bd2 (lp N (fun s_20 : Int32 × TS => tw_remember_b1 N s_20.1 s_20.2) (0, S)) fun (x1_15 : Int32) (S_16 : TS) =>
be (tsI S_16 0 78 ((tI S_16 0 78) - 1)) fun S_19 =>
some S_19)
else (
some S) : Option (TS)) fun (S_1 : TS) =>
bd (tw_put N 43 (18 * (tI S_1 0 78)) S_1) fun S_5 =>
be (tsI S_5 0 78 ((tI S_5 0 78) + 1)) fun S_6 =>
some S_6
def rm_tw_remember : Room := { frames := 1, cells := 0, slots := 0, locals := 23 }
theorem ok_tw_remember {E : En} (hE : EOk E) {o : Nat} {M0 : Mem} (hM : TwS o M0) {N : Nat}  {S : TS}  {S' : TS} (h : tw_remember N  S = some S') : CM E yX7_remember cX7_remember 2 none rm_tw_remember [rf E o] (tw o S M0) none (tw o S' M0) := by
  unfold tw_remember at h
  refine CM_intro (own := RX7) rfl (by decide) (Nat.le_of_ble_eq_true rfl) rfl (fun G hG => ?_)
  obtain ⟨Q, eQ⟩ : ∃ Q, Q = QM E G none (tw o S' M0) 0 0 := ⟨_, rfl⟩
  show V E G (tw o S M0) 0 0 2 0 [(0, rf E o)] [] (QM E G none (tw o S' M0) 0 0)
  rw [← eQ]
  refine V_aload_n hG 0 rfl dX7_remember_0 ?_
  refine g7_380 hM hG dX7_remember_1 ?_
  refine V_bipush hG 20 (by decide) dX7_remember_4 ?_
  obtain ⟨S_1, hj_3, h⟩ := bd_of h
  have J_2 : V E G (tw o S_1 M0) 0 0 2 49 [(0, rf E o)] [] Q := by
    refine V_aload_n hG 0 rfl dX7_remember_49 ?_
    refine V_aload_n hG 0 rfl dX7_remember_50 ?_
    refine g7_145 hM hG dX7_remember_51 ?_
    refine V_bipush hG 18 (by decide) dX7_remember_54 ?_
    refine V_aload_n hG 0 rfl dX7_remember_56 ?_
    refine g7_380 hM hG dX7_remember_57 ?_
    refine V_imul hG dX7_remember_60 ?_
    obtain ⟨S_5, hc_4, h⟩ := bd_of h
    refine V_callV0 hE hG (As := [rf E ((o + 43)), .int (18 * (tI S_1 0 78))]) (rest := []) (ok_tw_put hE hM hc_4) hM.1 (by decide) rfl hw7_520 hd_tw_put ⟨Nat.le_of_ble_eq_true rfl, Nat.le_of_ble_eq_true rfl⟩ rfl rfl (Nat.le_of_ble_eq_true rfl) rfl rfl dX7_remember_61 ?_
    refine V_aload_n hG 0 rfl dX7_remember_64 ?_
    refine V_dup hG rfl dX7_remember_65 ?_
    refine g7_380 hM hG dX7_remember_66 ?_
    refine V_iconst hG 1 rfl dX7_remember_69 ?_
    refine V_iadd hG dX7_remember_70 ?_
    obtain ⟨S_6, eS_6, h⟩ := be_of h
    refine p7_380 hM hG eS_6 dX7_remember_71 ?_
    cases h
    subst eQ
    exact V_vret hG dX7_remember_74
  refine V_icmp_ne hG 49 dX7_remember_6 (by decide) (fun c_7 => ?_) (fun c_7 => ?_)
  · have hj_3 := if_f c_7 hj_3
    cases hj_3
    exact J_2
  · have hj_3 := if_t c_7 hj_3
    refine V_iconst hG 0 rfl dX7_remember_9 ?_
    refine V_istore_n hG rfl [(1, .int 0), (0, rf E o)] dX7_remember_10 (Nat.le_of_ble_eq_true rfl) rfl ?_
    obtain ⟨x1_15, S_16, hL_17, hj_3⟩ := bd2_of hj_3
    have J_12 : ∀ q_18 : Int32 × TS, q_18 = (x1_15, S_16) → V E G (tw o q_18.2 M0) 0 0 2 39 [(1, .int q_18.1), (0, rf E o)] [] Q := by
      intro q_18 e9
      subst q_18
      show V E G (tw o S_16 M0) 0 0 2 39 [(1, .int x1_15), (0, rf E o)] [] Q
      refine V_aload_n hG 1 rfl dX7_remember_39 ?_
      refine V_dup hG rfl dX7_remember_40 ?_
      refine g7_380 hM hG dX7_remember_41 ?_
      refine V_iconst hG 1 rfl dX7_remember_44 ?_
      refine V_isub hG dX7_remember_45 ?_
      obtain ⟨S_19, eS_19, hj_3⟩ := be_of hj_3
      refine p7_380 hM hG eS_19 dX7_remember_46 ?_
      cases hj_3
      exact V_lv [1] rfl (J_2)
    refine lp_walk (W := fun s_20 : Int32 × TS => V E G (tw o s_20.2 M0) 0 0 2 11 [(1, .int s_20.1), (0, rf E o)] [] Q) ?_ N (0, S) hL_17
    intro s_20 b_8 hb_9 hk_10 hx_11
    obtain ⟨x1_13, S_14⟩ := s_20
    have hb_9 : tw_remember_b1 N x1_13 S_14 = some b_8 := hb_9
    unfold tw_remember_b1 at hb_9
    show V E G (tw o S_14 M0) 0 0 2 11 [(1, .int x1_13), (0, rf E o)] [] Q
    refine V_iload_n hG 0 rfl dX7_remember_11 ?_
    refine V_sipush hG 342 (by decide) dX7_remember_12 ?_
    refine V_icmp_ge hG 39 dX7_remember_15 (by decide) (fun c_21 => ?_) (fun c_21 => ?_)
    · have hb_9 := if_t c_21 hb_9
      cases hb_9
      exact J_12 _ (hx_11 _ rfl)
    · have hb_9 := if_f c_21 hb_9
      refine V_aload_n hG 1 rfl dX7_remember_18 ?_
      refine g7_145 hM hG dX7_remember_19 ?_
      refine V_iload_n hG 0 rfl dX7_remember_22 ?_
      refine V_aload_n hG 1 rfl dX7_remember_23 ?_
      refine g7_145 hM hG dX7_remember_24 ?_
      refine V_iload_n hG 0 rfl dX7_remember_27 ?_
      refine V_bipush hG 18 (by decide) dX7_remember_28 ?_
      refine V_iadd hG dX7_remember_30 ?_
      obtain ⟨g_22, hb_9⟩ := gd_of hb_9
      refine T_iaload hM hG (by decide) g_22 dX7_remember_31 ?_
      obtain ⟨g_23, hb_9⟩ := gd_of hb_9
      obtain ⟨S_24, eS_24, hb_9⟩ := be_of hb_9
      refine T_iastore hM hG eS_24 (by decide) g_23 dX7_remember_32 ?_
      obtain ⟨x1_25, ex1_25, hb_9⟩ := be_of hb_9
      refine V_iinc hG 0 x1_25 rfl (by rw [ex1_25]; rfl) [(1, .int x1_25), (0, rf E o)] dX7_remember_33 (Nat.le_of_ble_eq_true rfl) rfl ?_
      refine V_goto hG 11 dX7_remember_36 (by decide) ?_
      cases hb_9
      exact hk_10 _ rfl

def tw_fill (N : Nat) (p1 : Int32) (p2 : Int32) (S : TS) : Option (Int32 × TS) :=
be (tsI S 0 2 0) fun S_1 =>
bd (tw_isTrough p1 S_1) fun r_3 =>
if r_3 = 0 then (
some ((-1), S_1))
else (
bd (tw_isIn p2 1 99 S_1) fun r_6 =>
if r_6 = 0 then (
some ((-1), S_1))
else (
bd (tw_remember N S_1) fun S_9 =>
gd (inb p1 (lenA 33)) (
bd (if (tI S_9 33 (Int32.toNatClampNeg p1)) + p2 ≤ 99 then (
gd (inb p1 (lenA 33)) (
some ((tI S_9 33 (Int32.toNatClampNeg p1)) + p2)))
else (
some 99) : Option (Int32)) fun (t_11 : Int32) =>
gd (inb p1 (lenA 33)) (
be (tsI S_9 33 (Int32.toNatClampNeg p1) t_11) fun S_15 =>
gd (inb p1 (lenA 33)) (
some (tI S_15 33 (Int32.toNatClampNeg p1), S_15))))))
def rm_tw_fill : Room := { frames := 2, cells := 0, slots := 0, locals := 44 }
theorem ok_tw_fill {E : En} (hE : EOk E) {o : Nat} {M0 : Mem} (hM : TwS o M0) {N : Nat} {p1 : Int32} {p2 : Int32} {S : TS} {r : Int32} {S' : TS} (h : tw_fill N p1 p2 S = some (r, S')) : CM E yX7_fill cX7_fill 3 (some .int) rm_tw_fill [rf E o, .int p1, .int p2] (tw o S M0) (some (.int r)) (tw o S' M0) := by
  unfold tw_fill at h
  refine CM_intro (own := RX7) rfl (by decide) (Nat.le_of_ble_eq_true rfl) rfl (fun G hG => ?_)
  obtain ⟨Q, eQ⟩ : ∃ Q, Q = QM E G (some (.int r)) (tw o S' M0) 0 0 := ⟨_, rfl⟩
  show V E G (tw o S M0) 0 0 3 0 [(0, rf E o), (1, .int p1), (2, .int p2)] [] (QM E G (some (.int r)) (tw o S' M0) 0 0)
  rw [← eQ]
  refine V_aload_n hG 0 rfl dX7_fill_0 ?_
  refine V_iconst hG 0 rfl dX7_fill_1 ?_
  obtain ⟨S_1, eS_1, h⟩ := be_of h
  refine p7_160 hM hG eS_1 dX7_fill_2 ?_
  refine V_aload_n hG 0 rfl dX7_fill_5 ?_
  refine V_iload_n hG 1 rfl dX7_fill_6 ?_
  obtain ⟨r_3, hc_2, h⟩ := bd_of h
  refine V_callV0 hE hG (As := [.int p1]) (rest := []) (ok_tw_isTrough hE hM hc_2) hM.1 (by decide) rfl hw7_465 hd_tw_isTrough ⟨Nat.le_of_ble_eq_true rfl, Nat.le_of_ble_eq_true rfl⟩ rfl rfl (Nat.le_of_ble_eq_true rfl) rfl rfl dX7_fill_7 ?_
  refine V_if_eq hG 23 dX7_fill_10 (by decide) (fun c_4 => ?_) (fun c_4 => ?_)
  · have h := if_t c_4 h
    refine V_iconst hG (-1) rfl dX7_fill_23 ?_
    cases h
    subst eQ
    exact V_iret hG dX7_fill_24
  · have h := if_f c_4 h
    refine V_iload_n hG 2 rfl dX7_fill_13 ?_
    refine V_iconst hG 1 rfl dX7_fill_14 ?_
    refine V_bipush hG 99 (by decide) dX7_fill_15 ?_
    obtain ⟨r_6, hc_5, h⟩ := bd_of h
    refine V_callS0 hE hG (As := [.int p2, .int 1, .int 99]) (rest := []) (ok_tw_isIn hE hM hc_5) hw7_205 hd_tw_isIn ⟨Nat.le_of_ble_eq_true rfl, Nat.le_of_ble_eq_true rfl⟩ rfl rfl (Nat.le_of_ble_eq_true rfl) rfl rfl dX7_fill_17 ?_
    refine V_if_ne hG 25 dX7_fill_20 (by decide) (fun c_7 => ?_) (fun c_7 => ?_)
    · have h := if_f c_7 h
      refine V_aload_n hG 0 rfl dX7_fill_25 ?_
      obtain ⟨S_9, hc_8, h⟩ := bd_of h
      refine V_callV0 hE hG (As := []) (rest := []) (ok_tw_remember hE hM hc_8) hM.1 (by decide) rfl hw7_470 hd_tw_remember ⟨Nat.le_of_ble_eq_true rfl, Nat.le_of_ble_eq_true rfl⟩ rfl rfl (Nat.le_of_ble_eq_true rfl) rfl rfl dX7_fill_26 ?_
      refine V_aload_n hG 0 rfl dX7_fill_29 ?_
      refine g7_112 hM hG dX7_fill_30 ?_
      refine V_iload_n hG 1 rfl dX7_fill_33 ?_
      refine V_aload_n hG 0 rfl dX7_fill_34 ?_
      refine g7_112 hM hG dX7_fill_35 ?_
      refine V_iload_n hG 1 rfl dX7_fill_38 ?_
      obtain ⟨g_10, h⟩ := gd_of h
      refine T_iaload hM hG (by decide) g_10 dX7_fill_39 ?_
      refine V_iload_n hG 2 rfl dX7_fill_40 ?_
      refine V_iadd hG dX7_fill_41 ?_
      refine V_bipush hG 99 (by decide) dX7_fill_42 ?_
      obtain ⟨t_11, hj_13, h⟩ := bd_of h
      have J_12 : V E G (tw o S_9 M0) 0 0 3 60 [(0, rf E o), (1, .int p1), (2, .int p2)] [.int t_11, .int p1, rf E ((o + 33))] Q := by
        obtain ⟨g_14, h⟩ := gd_of h
        obtain ⟨S_15, eS_15, h⟩ := be_of h
        refine T_iastore hM hG eS_15 (by decide) g_14 dX7_fill_60 ?_
        refine V_aload_n hG 0 rfl dX7_fill_61 ?_
        refine g7_112 hM hG dX7_fill_62 ?_
        refine V_iload_n hG 1 rfl dX7_fill_65 ?_
        obtain ⟨g_16, h⟩ := gd_of h
        refine T_iaload hM hG (by decide) g_16 dX7_fill_66 ?_
        cases h
        subst eQ
        exact V_iret hG dX7_fill_67
      refine V_icmp_le hG 52 dX7_fill_44 (by decide) (fun c_17 => ?_) (fun c_17 => ?_)
      · have hj_13 := if_t c_17 hj_13
        refine V_aload_n hG 0 rfl dX7_fill_52 ?_
        refine g7_112 hM hG dX7_fill_53 ?_
        refine V_iload_n hG 1 rfl dX7_fill_56 ?_
        obtain ⟨g_18, hj_13⟩ := gd_of hj_13
        refine T_iaload hM hG (by decide) g_18 dX7_fill_57 ?_
        refine V_iload_n hG 2 rfl dX7_fill_58 ?_
        refine V_iadd hG dX7_fill_59 ?_
        cases hj_13
        exact J_12
      · have hj_13 := if_f c_17 hj_13
        refine V_bipush hG 99 (by decide) dX7_fill_47 ?_
        refine V_goto hG 60 dX7_fill_49 (by decide) ?_
        cases hj_13
        exact J_12
    · have h := if_t c_7 h
      refine V_iconst hG (-1) rfl dX7_fill_23 ?_
      cases h
      subst eQ
      exact V_iret hG dX7_fill_24

def tw_isSo_b1 (N : Nat) (p1 : Int32) (S : TS) (x2_6 : Int32) : Option (((Int32) ⊕ (Int32)) ⊕ (Int32)) :=
bd (tw_knownBy S) fun r_15 =>
if r_15 ≤ x2_6 then (
some (.inl (.inl x2_6)))
else (
gd (inb x2_6 (lenA 42)) (
if tI S 42 (Int32.toNatClampNeg x2_6) = 0 then (
be (x2_6 + 1) fun (x2_19 : Int32) =>
some (.inr x2_19))
else (
gd (inb (4 * x2_6) (lenA 41)) (
if tI S 41 (Int32.toNatClampNeg (4 * x2_6)) = p1 then (
gd (inb ((4 * x2_6) + 1) (lenA 41)) (
gd (inb (6 + (tI S 41 (Int32.toNatClampNeg ((4 * x2_6) + 1)))) (lenA 33)) (
gd (inb ((4 * x2_6) + 2) (lenA 41)) (
be (if tI S 33 (Int32.toNatClampNeg (6 + (tI S 41 (Int32.toNatClampNeg ((4 * x2_6) + 1))))) < tI S 41 (Int32.toNatClampNeg ((4 * x2_6) + 2)) then (
0)
else (
1) : Int32) fun (y_28 : Int32) =>
gd (inb ((4 * x2_6) + 3) (lenA 41)) (
be (if tI S 41 (Int32.toNatClampNeg ((4 * x2_6) + 3)) = 1 then (
1)
else (
0) : Int32) fun (y_33 : Int32) =>
if y_28 = y_33 then (
be (x2_6 + 1) fun (x2_35 : Int32) =>
some (.inr x2_35))
else (
some (.inl (.inr 0))))))))
else (
be (x2_6 + 1) fun (x2_38 : Int32) =>
some (.inr x2_38))))))
def tw_isSo (N : Nat) (p1 : Int32) (S : TS) : Option (Int32) :=
bx (lp N (fun s_13 : Int32 => tw_isSo_b1 N p1 S s_13) 0) (fun (x2_8 : Int32) =>
some 1) (fun (w_39 : Int32) => some w_39)
def rm_tw_isSo : Room := { frames := 1, cells := 0, slots := 0, locals := 20 }
theorem ok_tw_isSo {E : En} (hE : EOk E) {o : Nat} {M0 : Mem} (hM : TwS o M0) {N : Nat} {p1 : Int32} {S : TS} {r : Int32} (h : tw_isSo N p1 S = some r) : CM E yX7_isSo cX7_isSo 3 (some .boolean) rm_tw_isSo [rf E o, .int p1] (tw o S M0) (some (.int r)) (tw o S M0) := by
  unfold tw_isSo at h
  refine CM_intro (own := RX7) rfl (by decide) (Nat.le_of_ble_eq_true rfl) rfl (fun G hG => ?_)
  obtain ⟨Q, eQ⟩ : ∃ Q, Q = QM E G (some (.int r)) (tw o S M0) 0 0 := ⟨_, rfl⟩
  show V E G (tw o S M0) 0 0 3 0 [(0, rf E o), (1, .int p1)] [] (QM E G (some (.int r)) (tw o S M0) 0 0)
  rw [← eQ]
  refine V_iconst hG 0 rfl dX7_isSo_0 ?_
  refine V_istore_n hG rfl [(2, .int 0), (0, rf E o), (1, .int p1)] dX7_isSo_1 (Nat.le_of_ble_eq_true rfl) rfl ?_
  obtain ⟨rr_10, hL_9, hl_11, hr_7⟩ := bx_of h
  have J_5 : ∀ q_12 : Int32, Sum.inl q_12 = rr_10 → V E G (tw o S M0) 0 0 3 100 [(2, .int q_12), (0, rf E o), (1, .int p1)] [] Q := by
    intro q_12 e9
    obtain ⟨x2_8, rfl⟩ : ∃ z, z = q_12 := ⟨_, rfl⟩
    have h := hl_11 x2_8 e9.symm
    show V E G (tw o S M0) 0 0 3 100 [(2, .int x2_8), (0, rf E o), (1, .int p1)] [] Q
    refine V_iconst hG 1 rfl dX7_isSo_100 ?_
    cases h
    subst eQ
    exact V_zret hG (Or.inr rfl) dX7_isSo_101
  refine lp_walk (W := fun s_13 : Int32 => V E G (tw o S M0) 0 0 3 2 [(2, .int s_13), (0, rf E o), (1, .int p1)] [] Q) ?_ N 0 hL_9
  intro s_13 b_1 hb_2 hk_3 hx_4
  obtain ⟨x2_6, rfl⟩ : ∃ z, z = s_13 := ⟨_, rfl⟩
  have hb_2 : tw_isSo_b1 N p1 S x2_6 = some b_1 := hb_2
  unfold tw_isSo_b1 at hb_2
  show V E G (tw o S M0) 0 0 3 2 [(2, .int x2_6), (0, rf E o), (1, .int p1)] [] Q
  refine V_iload_n hG 0 rfl dX7_isSo_2 ?_
  refine V_aload_n hG 1 rfl dX7_isSo_3 ?_
  obtain ⟨r_15, hc_14, hb_2⟩ := bd_of hb_2
  refine V_callV0 hE hG (As := []) (rest := [.int x2_6]) (ok_tw_knownBy hE hM hc_14) hM.1 (by decide) rfl hw7_511 hd_tw_knownBy ⟨Nat.le_of_ble_eq_true rfl, Nat.le_of_ble_eq_true rfl⟩ rfl rfl (Nat.le_of_ble_eq_true rfl) rfl rfl dX7_isSo_4 ?_
  refine V_icmp_ge hG 100 dX7_isSo_7 (by decide) (fun c_16 => ?_) (fun c_16 => ?_)
  · have hb_2 := if_t c_16 hb_2
    cases hb_2
    exact J_5 _ (hx_4 _ rfl)
  · have hb_2 := if_f c_16 hb_2
    refine V_aload_n hG 1 rfl dX7_isSo_10 ?_
    refine g7_142 hM hG dX7_isSo_11 ?_
    refine V_iload_n hG 0 rfl dX7_isSo_14 ?_
    obtain ⟨g_17, hb_2⟩ := gd_of hb_2
    refine T_zaload hM hG (by decide) g_17 dX7_isSo_15 ?_
    refine V_if_eq hG 94 dX7_isSo_16 (by decide) (fun c_18 => ?_) (fun c_18 => ?_)
    · have hb_2 := if_t c_18 hb_2
      obtain ⟨x2_19, ex2_19, hb_2⟩ := be_of hb_2
      refine V_iinc hG 0 x2_19 rfl (by rw [ex2_19]; rfl) [(2, .int x2_19), (0, rf E o), (1, .int p1)] dX7_isSo_94 (Nat.le_of_ble_eq_true rfl) rfl ?_
      refine V_goto hG 2 dX7_isSo_97 (by decide) ?_
      cases hb_2
      exact hk_3 _ rfl
    · have hb_2 := if_f c_18 hb_2
      refine V_aload_n hG 1 rfl dX7_isSo_19 ?_
      refine g7_139 hM hG dX7_isSo_20 ?_
      refine V_iconst hG 4 rfl dX7_isSo_23 ?_
      refine V_iload_n hG 0 rfl dX7_isSo_24 ?_
      refine V_imul hG dX7_isSo_25 ?_
      obtain ⟨g_20, hb_2⟩ := gd_of hb_2
      refine T_iaload hM hG (by decide) g_20 dX7_isSo_26 ?_
      refine V_iload_n hG 2 rfl dX7_isSo_27 ?_
      refine V_icmp_eq hG 34 dX7_isSo_28 (by decide) (fun c_21 => ?_) (fun c_21 => ?_)
      · have hb_2 := if_t c_21 hb_2
        refine V_aload_n hG 1 rfl dX7_isSo_34 ?_
        refine g7_112 hM hG dX7_isSo_35 ?_
        refine V_bipush hG 6 (by decide) dX7_isSo_38 ?_
        refine V_aload_n hG 1 rfl dX7_isSo_40 ?_
        refine g7_139 hM hG dX7_isSo_41 ?_
        refine V_iconst hG 4 rfl dX7_isSo_44 ?_
        refine V_iload_n hG 0 rfl dX7_isSo_45 ?_
        refine V_imul hG dX7_isSo_46 ?_
        refine V_iconst hG 1 rfl dX7_isSo_47 ?_
        refine V_iadd hG dX7_isSo_48 ?_
        obtain ⟨g_22, hb_2⟩ := gd_of hb_2
        refine T_iaload hM hG (by decide) g_22 dX7_isSo_49 ?_
        refine V_iadd hG dX7_isSo_50 ?_
        obtain ⟨g_23, hb_2⟩ := gd_of hb_2
        refine T_iaload hM hG (by decide) g_23 dX7_isSo_51 ?_
        refine V_aload_n hG 1 rfl dX7_isSo_52 ?_
        refine g7_139 hM hG dX7_isSo_53 ?_
        refine V_iconst hG 4 rfl dX7_isSo_56 ?_
        refine V_iload_n hG 0 rfl dX7_isSo_57 ?_
        refine V_imul hG dX7_isSo_58 ?_
        refine V_iconst hG 2 rfl dX7_isSo_59 ?_
        refine V_iadd hG dX7_isSo_60 ?_
        obtain ⟨g_24, hb_2⟩ := gd_of hb_2
        refine T_iaload hM hG (by decide) g_24 dX7_isSo_61 ?_
        obtain ⟨t_25, et_25, hb_2⟩ := be_of hb_2
        have J_26 : ∀ y_28 : Int32, y_28 = t_25 → V E G (tw o S M0) 0 0 3 70 [(2, .int x2_6), (0, rf E o), (1, .int p1)] [.int y_28] Q := by
          intro y_28 ey
          subst ey
          refine V_aload_n hG 1 rfl dX7_isSo_70 ?_
          refine g7_139 hM hG dX7_isSo_71 ?_
          refine V_iconst hG 4 rfl dX7_isSo_74 ?_
          refine V_iload_n hG 0 rfl dX7_isSo_75 ?_
          refine V_imul hG dX7_isSo_76 ?_
          refine V_iconst hG 3 rfl dX7_isSo_77 ?_
          refine V_iadd hG dX7_isSo_78 ?_
          obtain ⟨g_29, hb_2⟩ := gd_of hb_2
          refine T_iaload hM hG (by decide) g_29 dX7_isSo_79 ?_
          refine V_iconst hG 1 rfl dX7_isSo_80 ?_
          obtain ⟨t_30, et_30, hb_2⟩ := be_of hb_2
          have J_31 : ∀ y_33 : Int32, y_33 = t_30 → V E G (tw o S M0) 0 0 3 89 [(2, .int x2_6), (0, rf E o), (1, .int p1)] [.int y_33, .int y_28] Q := by
            intro y_33 ey
            subst ey
            refine V_icmp_eq hG 94 dX7_isSo_89 (by decide) (fun c_34 => ?_) (fun c_34 => ?_)
            · have hb_2 := if_t c_34 hb_2
              obtain ⟨x2_35, ex2_35, hb_2⟩ := be_of hb_2
              refine V_iinc hG 0 x2_35 rfl (by rw [ex2_35]; rfl) [(2, .int x2_35), (0, rf E o), (1, .int p1)] dX7_isSo_94 (Nat.le_of_ble_eq_true rfl) rfl ?_
              refine V_goto hG 2 dX7_isSo_97 (by decide) ?_
              cases hb_2
              exact hk_3 _ rfl
            · have hb_2 := if_f c_34 hb_2
              refine V_iconst hG 0 rfl dX7_isSo_92 ?_
              cases hb_2
              have e_36 := hx_4 _ rfl
              have h_37 : some 0 = some r := hr_7 _ e_36.symm
              cases h_37
              subst eQ
              exact V_zret hG (Or.inl rfl) dX7_isSo_93
          refine V_icmp_ne hG 88 dX7_isSo_81 (by decide) (fun c_32 => ?_) (fun c_32 => ?_)
          · refine V_iconst hG 0 rfl dX7_isSo_88 ?_
            exact J_31 _ (by rw [et_30, if_neg c_32])
          · refine V_iconst hG 1 rfl dX7_isSo_84 ?_
            refine V_goto hG 89 dX7_isSo_85 (by decide) ?_
            exact J_31 _ (by rw [et_30, if_pos c_32])
        refine V_icmp_lt hG 69 dX7_isSo_62 (by decide) (fun c_27 => ?_) (fun c_27 => ?_)
        · refine V_iconst hG 0 rfl dX7_isSo_69 ?_
          exact J_26 _ (by rw [et_25, if_pos c_27])
        · refine V_iconst hG 1 rfl dX7_isSo_65 ?_
          refine V_goto hG 70 dX7_isSo_66 (by decide) ?_
          exact J_26 _ (by rw [et_25, if_neg c_27])
      · have hb_2 := if_f c_21 hb_2
        refine V_goto hG 94 dX7_isSo_31 (by decide) ?_
        obtain ⟨x2_38, ex2_38, hb_2⟩ := be_of hb_2
        refine V_iinc hG 0 x2_38 rfl (by rw [ex2_38]; rfl) [(2, .int x2_38), (0, rf E o), (1, .int p1)] dX7_isSo_94 (Nat.le_of_ble_eq_true rfl) rfl ?_
        refine V_goto hG 2 dX7_isSo_97 (by decide) ?_
        cases hb_2
        exact hk_3 _ rfl

def tw_fits_b1 (N : Nat) (p1 : Int32) (p2 : Int32) (x3_12 : Int32) (S_13 : TS) : Option (((Int32 × TS) ⊕ (Int32 × TS)) ⊕ (Int32 × TS)) :=
if 60 < x3_12 then (
some (.inl (.inl (x3_12, S_13))))
else (
bd (tw_hourGoes N 1 S_13) fun S_24 =>
bd (tw_isSo N x3_12 S_24) fun r_26 =>
if r_26 = 0 then (
some (.inl (.inr (0, S_24))))
else (
be (x3_12 + 1) fun (x3_28 : Int32) =>
some (.inr (x3_28, S_24))))
def tw_fits (N : Nat) (p1 : Int32) (p2 : Int32) (S : TS) : Option (Int32 × TS) :=
bd (tw_atFirst N 1 S) fun S_2 =>
bd (tw_plainTried S_2) fun S_4 =>
gd (inb (6 + p1) (lenA 28)) (
be (tsI S_4 28 (Int32.toNatClampNeg (6 + p1)) p2) fun S_6 =>
bx2 (lp N (fun s_21 : Int32 × TS => tw_fits_b1 N p1 p2 s_21.1 s_21.2) (1, S_6)) (fun (x3_15 : Int32) (S_16 : TS) =>
some (1, S_16)) (fun (w_31 : Int32 × TS) => some w_31))
def rm_tw_fits : Room := { frames := 6, cells := 0, slots := 0, locals := 147 }
theorem ok_tw_fits {E : En} (hE : EOk E) {o : Nat} {M0 : Mem} (hM : TwS o M0) {N : Nat} {p1 : Int32} {p2 : Int32} {S : TS} {r : Int32} {S' : TS} (h : tw_fits N p1 p2 S = some (r, S')) : CM E yX7_fits cX7_fits 4 (some .boolean) rm_tw_fits [rf E o, .int p1, .int p2] (tw o S M0) (some (.int r)) (tw o S' M0) := by
  unfold tw_fits at h
  refine CM_intro (own := RX7) rfl (by decide) (Nat.le_of_ble_eq_true rfl) rfl (fun G hG => ?_)
  obtain ⟨Q, eQ⟩ : ∃ Q, Q = QM E G (some (.int r)) (tw o S' M0) 0 0 := ⟨_, rfl⟩
  show V E G (tw o S M0) 0 0 4 0 [(0, rf E o), (1, .int p1), (2, .int p2)] [] (QM E G (some (.int r)) (tw o S' M0) 0 0)
  rw [← eQ]
  refine V_aload_n hG 0 rfl dX7_fits_0 ?_
  refine V_iconst hG 1 rfl dX7_fits_1 ?_
  obtain ⟨S_2, hc_1, h⟩ := bd_of h
  refine V_callV0 hE hG (As := [.int 1]) (rest := []) (ok_tw_atFirst hE hM hc_1) hM.1 (by decide) rfl hw7_367 hd_tw_atFirst ⟨Nat.le_of_ble_eq_true rfl, Nat.le_of_ble_eq_true rfl⟩ rfl rfl (Nat.le_of_ble_eq_true rfl) rfl rfl dX7_fits_2 ?_
  refine V_aload_n hG 0 rfl dX7_fits_5 ?_
  obtain ⟨S_4, hc_3, h⟩ := bd_of h
  refine V_callV0 hE hG (As := []) (rest := []) (ok_tw_plainTried hE hM hc_3) hM.1 (by decide) rfl hw7_374 hd_tw_plainTried ⟨Nat.le_of_ble_eq_true rfl, Nat.le_of_ble_eq_true rfl⟩ rfl rfl (Nat.le_of_ble_eq_true rfl) rfl rfl dX7_fits_6 ?_
  refine V_aload_n hG 0 rfl dX7_fits_9 ?_
  refine g7_97 hM hG dX7_fits_10 ?_
  refine V_bipush hG 6 (by decide) dX7_fits_13 ?_
  refine V_iload_n hG 1 rfl dX7_fits_15 ?_
  refine V_iadd hG dX7_fits_16 ?_
  refine V_iload_n hG 2 rfl dX7_fits_17 ?_
  obtain ⟨g_5, h⟩ := gd_of h
  obtain ⟨S_6, eS_6, h⟩ := be_of h
  refine T_iastore hM hG eS_6 (by decide) g_5 dX7_fits_18 ?_
  refine V_iconst hG 1 rfl dX7_fits_19 ?_
  refine V_istore_n hG rfl [(3, .int 1), (0, rf E o), (1, .int p1), (2, .int p2)] dX7_fits_20 (Nat.le_of_ble_eq_true rfl) rfl ?_
  obtain ⟨rr_18, hL_17, hl_19, hr_14⟩ := bx2_of h
  have J_11 : ∀ q_20 : Int32 × TS, Sum.inl q_20 = rr_18 → V E G (tw o q_20.2 M0) 0 0 4 48 [(3, .int q_20.1), (0, rf E o), (1, .int p1), (2, .int p2)] [] Q := by
    intro q_20 e9
    obtain ⟨x3_15, S_16⟩ := q_20
    have h := hl_19 x3_15 S_16 e9.symm
    show V E G (tw o S_16 M0) 0 0 4 48 [(3, .int x3_15), (0, rf E o), (1, .int p1), (2, .int p2)] [] Q
    refine V_iconst hG 1 rfl dX7_fits_48 ?_
    cases h
    subst eQ
    exact V_zret hG (Or.inr rfl) dX7_fits_49
  refine lp_walk (W := fun s_21 : Int32 × TS => V E G (tw o s_21.2 M0) 0 0 4 21 [(3, .int s_21.1), (0, rf E o), (1, .int p1), (2, .int p2)] [] Q) ?_ N (1, S_6) hL_17
  intro s_21 b_7 hb_8 hk_9 hx_10
  obtain ⟨x3_12, S_13⟩ := s_21
  have hb_8 : tw_fits_b1 N p1 p2 x3_12 S_13 = some b_7 := hb_8
  unfold tw_fits_b1 at hb_8
  show V E G (tw o S_13 M0) 0 0 4 21 [(3, .int x3_12), (0, rf E o), (1, .int p1), (2, .int p2)] [] Q
  refine V_iload_n hG 0 rfl dX7_fits_21 ?_
  refine V_bipush hG 60 (by decide) dX7_fits_22 ?_
  refine V_icmp_gt hG 48 dX7_fits_24 (by decide) (fun c_22 => ?_) (fun c_22 => ?_)
  · have hb_8 := if_t c_22 hb_8
    cases hb_8
    exact J_11 _ (hx_10 _ rfl)
  · have hb_8 := if_f c_22 hb_8
    refine V_aload_n hG 1 rfl dX7_fits_27 ?_
    refine V_iconst hG 1 rfl dX7_fits_28 ?_
    obtain ⟨S_24, hc_23, hb_8⟩ := bd_of hb_8
    refine V_callV0 hE hG (As := [.int 1]) (rest := []) (ok_tw_hourGoes hE hM hc_23) hM.1 (by decide) rfl hw7_456 hd_tw_hourGoes ⟨Nat.le_of_ble_eq_true rfl, Nat.le_of_ble_eq_true rfl⟩ rfl rfl (Nat.le_of_ble_eq_true rfl) rfl rfl dX7_fits_29 ?_
    refine V_aload_n hG 1 rfl dX7_fits_32 ?_
    refine V_iload_n hG 0 rfl dX7_fits_33 ?_
    obtain ⟨r_26, hc_25, hb_8⟩ := bd_of hb_8
    refine V_callV0 hE hG (As := [.int x3_12]) (rest := []) (ok_tw_isSo hE hM hc_25) hM.1 (by decide) rfl hw7_514 hd_tw_isSo ⟨Nat.le_of_ble_eq_true rfl, Nat.le_of_ble_eq_true rfl⟩ rfl rfl (Nat.le_of_ble_eq_true rfl) rfl rfl dX7_fits_34 ?_
    refine V_if_ne hG 42 dX7_fits_37 (by decide) (fun c_27 => ?_) (fun c_27 => ?_)
    · have hb_8 := if_f c_27 hb_8
      obtain ⟨x3_28, ex3_28, hb_8⟩ := be_of hb_8
      refine V_iinc hG 0 x3_28 rfl (by rw [ex3_28]; rfl) [(3, .int x3_28), (0, rf E o), (1, .int p1), (2, .int p2)] dX7_fits_42 (Nat.le_of_ble_eq_true rfl) rfl ?_
      refine V_goto hG 21 dX7_fits_45 (by decide) ?_
      cases hb_8
      exact hk_9 _ rfl
    · have hb_8 := if_t c_27 hb_8
      refine V_iconst hG 0 rfl dX7_fits_40 ?_
      cases hb_8
      have e_29 := hx_10 _ rfl
      have h_30 : some (0, S_24) = some (r, S') := hr_14 _ e_29.symm
      cases h_30
      subst eQ
      exact V_zret hG (Or.inl rfl) dX7_fits_41

def tw_legOf (p1 : Int32) (p2 : Int32) (p3 : Int32) (S : TS) : Option (Int32) :=
bd (tw_sizeOf (p3 - p2) S) fun r_2 =>
gd (inb p1 (lenA 13)) (
gd (inb p1 (lenA 13)) (
gd (¬ tI S 13 (Int32.toNatClampNeg p1) = 0) (
some (((r_2 + (tI S 13 (Int32.toNatClampNeg p1))) - 1) / (tI S 13 (Int32.toNatClampNeg p1))))))
def rm_tw_legOf : Room := { frames := 1, cells := 0, slots := 0, locals := 20 }
theorem ok_tw_legOf {E : En} (hE : EOk E) {o : Nat} {M0 : Mem} (hM : TwS o M0) {p1 : Int32} {p2 : Int32} {p3 : Int32} {S : TS} {r : Int32} (h : tw_legOf p1 p2 p3 S = some r) : CM E yX7_legOf cX7_legOf 4 (some .int) rm_tw_legOf [rf E o, .int p1, .int p2, .int p3] (tw o S M0) (some (.int r)) (tw o S M0) := by
  unfold tw_legOf at h
  refine CM_intro (own := RX7) rfl (by decide) (Nat.le_of_ble_eq_true rfl) rfl (fun G hG => ?_)
  obtain ⟨Q, eQ⟩ : ∃ Q, Q = QM E G (some (.int r)) (tw o S M0) 0 0 := ⟨_, rfl⟩
  show V E G (tw o S M0) 0 0 4 0 [(0, rf E o), (1, .int p1), (2, .int p2), (3, .int p3)] [] (QM E G (some (.int r)) (tw o S M0) 0 0)
  rw [← eQ]
  refine V_iload_n hG 3 rfl dX7_legOf_0 ?_
  refine V_iload_n hG 2 rfl dX7_legOf_1 ?_
  refine V_isub hG dX7_legOf_2 ?_
  obtain ⟨r_2, hc_1, h⟩ := bd_of h
  refine V_callS0 hE hG (As := [.int (p3 - p2)]) (rest := []) (ok_tw_sizeOf hE hM hc_1) hw7_398 hd_tw_sizeOf ⟨Nat.le_of_ble_eq_true rfl, Nat.le_of_ble_eq_true rfl⟩ rfl rfl (Nat.le_of_ble_eq_true rfl) rfl rfl dX7_legOf_3 ?_
  refine V_aload_n hG 0 rfl dX7_legOf_6 ?_
  refine g7_51 hM hG dX7_legOf_7 ?_
  refine V_iload_n hG 1 rfl dX7_legOf_10 ?_
  obtain ⟨g_3, h⟩ := gd_of h
  refine T_iaload hM hG (by decide) g_3 dX7_legOf_11 ?_
  refine V_iadd hG dX7_legOf_12 ?_
  refine V_iconst hG 1 rfl dX7_legOf_13 ?_
  refine V_isub hG dX7_legOf_14 ?_
  refine V_aload_n hG 0 rfl dX7_legOf_15 ?_
  refine g7_51 hM hG dX7_legOf_16 ?_
  refine V_iload_n hG 1 rfl dX7_legOf_19 ?_
  obtain ⟨g_4, h⟩ := gd_of h
  refine T_iaload hM hG (by decide) g_4 dX7_legOf_20 ?_
  obtain ⟨g_5, h⟩ := gd_of h
  refine V_idiv hG g_5 dX7_legOf_21 ?_
  cases h
  subst eQ
  exact V_iret hG dX7_legOf_22

def tw_gather_b2 (N : Nat) (x4_10 : Int32) (x3_11 : Int32) (x2_12 : Int32) (p1 : Int32) (S_1 : TS) (x6_29 : Int32) (x5_30 : Int32) : Option ((Int32 × Int32) ⊕ (Int32 × Int32)) :=
if tI S_1 0 13 ≤ x6_29 then (
some (.inl (x6_29, x5_30)))
else (
gd (inb x6_29 (lenA 31)) (
bd (if tI S_1 31 (Int32.toNatClampNeg x6_29) = 0 then (
some (-1))
else (
gd (inb x6_29 (lenA 27)) (
gd (inb x4_10 (lenA 6)) (
bd (tw_legOf x6_29 (tI S_1 27 (Int32.toNatClampNeg x6_29)) (tI S_1 6 (Int32.toNatClampNeg x4_10)) S_1) fun r_58 =>
some r_58))) : Option (Int32)) fun (t_46 : Int32) =>
be (if t_46 ≤ x5_30 then (
x5_30)
else (
t_46) : Int32) fun (y_52 : Int32) =>
be (x6_29 + 1) fun (x6_53 : Int32) =>
some (.inr (x6_53, y_52))))
def tw_gather_b1 (N : Nat) (p1 : Int32) (S_1 : TS) (x4_10 : Int32) (x3_11 : Int32) (x2_12 : Int32) : Option ((Int32 × Int32 × Int32) ⊕ (Int32 × Int32 × Int32)) :=
if tI S_1 0 12 ≤ x4_10 then (
some (.inl (x4_10, x3_11, x2_12)))
else (
bd2 (lp N (fun s_43 : Int32 × Int32 => tw_gather_b2 N x4_10 x3_11 x2_12 p1 S_1 s_43.1 s_43.2) (0, (-1))) fun (x6_31 : Int32) (x5_32 : Int32) =>
bd2 (if x5_32 < 0 then (
some (x3_11, x2_12))
else (
if x2_12 < 0 then (
some (x5_32, x4_10))
else (
if x5_32 < x3_11 then (
some (x5_32, x4_10))
else (
some (x3_11, x2_12)))) : Option (Int32 × Int32)) fun (x3_35 : Int32) (x2_36 : Int32) =>
be (x4_10 + 1) fun (x4_39 : Int32) =>
some (.inr (x4_39, x3_35, x2_36)))
def tw_gather (N : Nat) (p1 : Int32) (S : TS) : Option (Int32 × TS) :=
be (tsI S 0 2 0) fun S_1 =>
bd (tw_isIn p1 0 1 S_1) fun r_3 =>
if r_3 = 0 then (
some ((-1), S_1))
else (
bd3 (lp N (fun s_22 : Int32 × Int32 × Int32 => tw_gather_b1 N p1 S_1 s_22.1 s_22.2.1 s_22.2.2) (0, (-2), (-2))) fun (x4_13 : Int32) (x3_14 : Int32) (x2_15 : Int32) =>
be (if p1 = 0 then (
x2_15)
else (
x3_14) : Int32) fun (y_21 : Int32) =>
some (y_21, S_1))
def rm_tw_gather : Room := { frames := 2, cells := 0, slots := 0, locals := 43 }
theorem ok_tw_gather {E : En} (hE : EOk E) {o : Nat} {M0 : Mem} (hM : TwS o M0) {N : Nat} {p1 : Int32} {S : TS} {r : Int32} {S' : TS} (h : tw_gather N p1 S = some (r, S')) : CM E yX7_gather cX7_gather 8 (some .int) rm_tw_gather [rf E o, .int p1] (tw o S M0) (some (.int r)) (tw o S' M0) := by
  unfold tw_gather at h
  refine CM_intro (own := RX7) rfl (by decide) (Nat.le_of_ble_eq_true rfl) rfl (fun G hG => ?_)
  obtain ⟨Q, eQ⟩ : ∃ Q, Q = QM E G (some (.int r)) (tw o S' M0) 0 0 := ⟨_, rfl⟩
  show V E G (tw o S M0) 0 0 8 0 [(0, rf E o), (1, .int p1)] [] (QM E G (some (.int r)) (tw o S' M0) 0 0)
  rw [← eQ]
  refine V_aload_n hG 0 rfl dX7_gather_0 ?_
  refine V_iconst hG 0 rfl dX7_gather_1 ?_
  obtain ⟨S_1, eS_1, h⟩ := be_of h
  refine p7_160 hM hG eS_1 dX7_gather_2 ?_
  refine V_iload_n hG 1 rfl dX7_gather_5 ?_
  refine V_iconst hG 0 rfl dX7_gather_6 ?_
  refine V_iconst hG 1 rfl dX7_gather_7 ?_
  obtain ⟨r_3, hc_2, h⟩ := bd_of h
  refine V_callS0 hE hG (As := [.int p1, .int 0, .int 1]) (rest := []) (ok_tw_isIn hE hM hc_2) hw7_205 hd_tw_isIn ⟨Nat.le_of_ble_eq_true rfl, Nat.le_of_ble_eq_true rfl⟩ rfl rfl (Nat.le_of_ble_eq_true rfl) rfl rfl dX7_gather_8 ?_
  refine V_if_ne hG 16 dX7_gather_11 (by decide) (fun c_4 => ?_) (fun c_4 => ?_)
  · have h := if_f c_4 h
    refine V_bipush hG (-2) (by decide) dX7_gather_16 ?_
    refine V_istore_n hG rfl [(2, .int (-2)), (0, rf E o), (1, .int p1)] dX7_gather_18 (Nat.le_of_ble_eq_true rfl) rfl ?_
    refine V_bipush hG (-2) (by decide) dX7_gather_19 ?_
    refine V_istore_n hG rfl [(3, .int (-2)), (2, .int (-2)), (0, rf E o), (1, .int p1)] dX7_gather_21 (Nat.le_of_ble_eq_true rfl) rfl ?_
    refine V_iconst hG 0 rfl dX7_gather_22 ?_
    refine V_istore hG [(4, .int 0), (3, .int (-2)), (2, .int (-2)), (0, rf E o), (1, .int p1)] dX7_gather_23 (Nat.le_of_ble_eq_true rfl) rfl ?_
    obtain ⟨x4_13, x3_14, x2_15, hL_16, h⟩ := bd3_of h
    have J_9 : ∀ q_17 : Int32 × Int32 × Int32, q_17 = (x4_13, x3_14, x2_15) → V E G (tw o S_1 M0) 0 0 8 137 [(4, .int q_17.1), (3, .int q_17.2.1), (2, .int q_17.2.2), (0, rf E o), (1, .int p1)] [] Q := by
      intro q_17 e9
      subst q_17
      show V E G (tw o S_1 M0) 0 0 8 137 [(4, .int x4_13), (3, .int x3_14), (2, .int x2_15), (0, rf E o), (1, .int p1)] [] Q
      refine V_iload_n hG 4 rfl dX7_gather_137 ?_
      obtain ⟨t_18, et_18, h⟩ := be_of h
      have J_19 : ∀ y_21 : Int32, y_21 = t_18 → V E G (tw o S_1 M0) 0 0 8 146 [(4, .int x4_13), (3, .int x3_14), (2, .int x2_15), (0, rf E o), (1, .int p1)] [.int y_21] Q := by
        intro y_21 ey
        subst ey
        cases h
        subst eQ
        exact V_iret hG dX7_gather_146
      refine V_if_ne hG 145 dX7_gather_138 (by decide) (fun c_20 => ?_) (fun c_20 => ?_)
      · refine V_iload_n hG 1 rfl dX7_gather_145 ?_
        exact J_19 _ (by rw [et_18, if_neg c_20])
      · refine V_iload_n hG 2 rfl dX7_gather_141 ?_
        refine V_goto hG 146 dX7_gather_142 (by decide) ?_
        exact J_19 _ (by rw [et_18, if_pos c_20])
    refine lp_walk (W := fun s_22 : Int32 × Int32 × Int32 => V E G (tw o S_1 M0) 0 0 8 25 [(4, .int s_22.1), (3, .int s_22.2.1), (2, .int s_22.2.2), (0, rf E o), (1, .int p1)] [] Q) ?_ N (0, (-2), (-2)) hL_16
    intro s_22 b_5 hb_6 hk_7 hx_8
    obtain ⟨x4_10, x3_11, x2_12⟩ := s_22
    have hb_6 : tw_gather_b1 N p1 S_1 x4_10 x3_11 x2_12 = some b_5 := hb_6
    unfold tw_gather_b1 at hb_6
    show V E G (tw o S_1 M0) 0 0 8 25 [(4, .int x4_10), (3, .int x3_11), (2, .int x2_12), (0, rf E o), (1, .int p1)] [] Q
    refine V_iload hG 0 rfl dX7_gather_25 ?_
    refine V_aload_n hG 3 rfl dX7_gather_27 ?_
    refine g7_243 hM hG dX7_gather_28 ?_
    refine V_icmp_ge hG 137 dX7_gather_31 (by decide) (fun c_23 => ?_) (fun c_23 => ?_)
    · have hb_6 := if_t c_23 hb_6
      cases hb_6
      exact J_9 _ (hx_8 _ rfl)
    · have hb_6 := if_f c_23 hb_6
      refine V_iconst hG (-1) rfl dX7_gather_34 ?_
      refine V_istore hG [(5, .int (-1)), (4, .int x4_10), (3, .int x3_11), (2, .int x2_12), (0, rf E o), (1, .int p1)] dX7_gather_35 (Nat.le_of_ble_eq_true rfl) rfl ?_
      refine V_iconst hG 0 rfl dX7_gather_37 ?_
      refine V_istore hG [(6, .int 0), (5, .int (-1)), (4, .int x4_10), (3, .int x3_11), (2, .int x2_12), (0, rf E o), (1, .int p1)] dX7_gather_38 (Nat.le_of_ble_eq_true rfl) rfl ?_
      obtain ⟨x6_31, x5_32, hL_33, hb_6⟩ := bd2_of hb_6
      have J_28 : ∀ q_34 : Int32 × Int32, q_34 = (x6_31, x5_32) → V E G (tw o S_1 M0) 0 0 8 107 [(6, .int q_34.1), (5, .int q_34.2), (4, .int x4_10), (3, .int x3_11), (2, .int x2_12), (0, rf E o), (1, .int p1)] [] Q := by
        intro q_34 e9
        subst q_34
        show V E G (tw o S_1 M0) 0 0 8 107 [(6, .int x6_31), (5, .int x5_32), (4, .int x4_10), (3, .int x3_11), (2, .int x2_12), (0, rf E o), (1, .int p1)] [] Q
        refine V_iload hG 1 rfl dX7_gather_107 ?_
        obtain ⟨x3_35, x2_36, hj_38, hb_6⟩ := bd2_of hb_6
        have J_37 : V E G (tw o S_1 M0) 0 0 8 131 [(6, .int x6_31), (5, .int x5_32), (4, .int x4_10), (3, .int x3_35), (2, .int x2_36), (0, rf E o), (1, .int p1)] [] Q := by
          obtain ⟨x4_39, ex4_39, hb_6⟩ := be_of hb_6
          refine V_iinc hG 2 x4_39 rfl (by rw [ex4_39]; rfl) [(4, .int x4_39), (6, .int x6_31), (5, .int x5_32), (3, .int x3_35), (2, .int x2_36), (0, rf E o), (1, .int p1)] dX7_gather_131 (Nat.le_of_ble_eq_true rfl) rfl ?_
          refine V_goto hG 25 dX7_gather_134 (by decide) ?_
          cases hb_6
          exact V_lv [0, 3, 4, 5, 6] rfl (hk_7 _ rfl)
        refine V_if_lt hG 131 dX7_gather_109 (by decide) (fun c_40 => ?_) (fun c_40 => ?_)
        · have hj_38 := if_t c_40 hj_38
          cases hj_38
          exact J_37
        · have hj_38 := if_f c_40 hj_38
          refine V_iload_n hG 4 rfl dX7_gather_112 ?_
          refine V_if_lt hG 125 dX7_gather_113 (by decide) (fun c_41 => ?_) (fun c_41 => ?_)
          · have hj_38 := if_t c_41 hj_38
            refine V_iload hG 2 rfl dX7_gather_125 ?_
            refine V_istore_n hG rfl [(2, .int x4_10), (6, .int x6_31), (5, .int x5_32), (4, .int x4_10), (3, .int x3_11), (0, rf E o), (1, .int p1)] dX7_gather_127 (Nat.le_of_ble_eq_true rfl) rfl ?_
            refine V_iload hG 2 rfl dX7_gather_128 ?_
            refine V_istore_n hG rfl [(3, .int x5_32), (2, .int x4_10), (6, .int x6_31), (5, .int x5_32), (4, .int x4_10), (0, rf E o), (1, .int p1)] dX7_gather_130 (Nat.le_of_ble_eq_true rfl) rfl ?_
            cases hj_38
            exact V_lv [2, 3, 4, 0, 1, 5, 6] rfl (J_37)
          · have hj_38 := if_f c_41 hj_38
            refine V_iload hG 1 rfl dX7_gather_116 ?_
            refine V_iload_n hG 3 rfl dX7_gather_118 ?_
            refine V_icmp_lt hG 125 dX7_gather_119 (by decide) (fun c_42 => ?_) (fun c_42 => ?_)
            · have hj_38 := if_t c_42 hj_38
              refine V_iload hG 2 rfl dX7_gather_125 ?_
              refine V_istore_n hG rfl [(2, .int x4_10), (6, .int x6_31), (5, .int x5_32), (4, .int x4_10), (3, .int x3_11), (0, rf E o), (1, .int p1)] dX7_gather_127 (Nat.le_of_ble_eq_true rfl) rfl ?_
              refine V_iload hG 2 rfl dX7_gather_128 ?_
              refine V_istore_n hG rfl [(3, .int x5_32), (2, .int x4_10), (6, .int x6_31), (5, .int x5_32), (4, .int x4_10), (0, rf E o), (1, .int p1)] dX7_gather_130 (Nat.le_of_ble_eq_true rfl) rfl ?_
              cases hj_38
              exact V_lv [2, 3, 4, 0, 1, 5, 6] rfl (J_37)
            · have hj_38 := if_f c_42 hj_38
              refine V_goto hG 131 dX7_gather_122 (by decide) ?_
              cases hj_38
              exact J_37
      refine lp_walk (W := fun s_43 : Int32 × Int32 => V E G (tw o S_1 M0) 0 0 8 40 [(6, .int s_43.1), (5, .int s_43.2), (4, .int x4_10), (3, .int x3_11), (2, .int x2_12), (0, rf E o), (1, .int p1)] [] Q) ?_ N (0, (-1)) hL_33
      intro s_43 b_24 hb_25 hk_26 hx_27
      obtain ⟨x6_29, x5_30⟩ := s_43
      have hb_25 : tw_gather_b2 N x4_10 x3_11 x2_12 p1 S_1 x6_29 x5_30 = some b_24 := hb_25
      unfold tw_gather_b2 at hb_25
      show V E G (tw o S_1 M0) 0 0 8 40 [(6, .int x6_29), (5, .int x5_30), (4, .int x4_10), (3, .int x3_11), (2, .int x2_12), (0, rf E o), (1, .int p1)] [] Q
      refine V_iload hG 0 rfl dX7_gather_40 ?_
      refine V_aload_n hG 5 rfl dX7_gather_42 ?_
      refine g7_246 hM hG dX7_gather_43 ?_
      refine V_icmp_ge hG 107 dX7_gather_46 (by decide) (fun c_44 => ?_) (fun c_44 => ?_)
      · have hb_25 := if_t c_44 hb_25
        cases hb_25
        exact J_28 _ (hx_27 _ rfl)
      · have hb_25 := if_f c_44 hb_25
        refine V_aload_n hG 5 rfl dX7_gather_49 ?_
        refine g7_106 hM hG dX7_gather_50 ?_
        refine V_iload hG 0 rfl dX7_gather_53 ?_
        obtain ⟨g_45, hb_25⟩ := gd_of hb_25
        refine T_zaload hM hG (by decide) g_45 dX7_gather_55 ?_
        obtain ⟨t_46, hj_48, hb_25⟩ := bd_of hb_25
        have J_47 : V E G (tw o S_1 M0) 0 0 8 83 [(6, .int x6_29), (5, .int x5_30), (4, .int x4_10), (3, .int x3_11), (2, .int x2_12), (0, rf E o), (1, .int p1)] [.int t_46] Q := by
          refine V_istore hG [(7, .int t_46), (6, .int x6_29), (5, .int x5_30), (4, .int x4_10), (3, .int x3_11), (2, .int x2_12), (0, rf E o), (1, .int p1)] dX7_gather_83 (Nat.le_of_ble_eq_true rfl) rfl ?_
          refine V_iload hG 0 rfl dX7_gather_85 ?_
          refine V_iload hG 2 rfl dX7_gather_87 ?_
          obtain ⟨t_49, et_49, hb_25⟩ := be_of hb_25
          have J_50 : ∀ y_52 : Int32, y_52 = t_49 → V E G (tw o S_1 M0) 0 0 8 99 [(7, .int t_46), (6, .int x6_29), (5, .int x5_30), (4, .int x4_10), (3, .int x3_11), (2, .int x2_12), (0, rf E o), (1, .int p1)] [.int y_52] Q := by
            intro y_52 ey
            subst ey
            refine V_istore hG [(5, .int y_52), (7, .int t_46), (6, .int x6_29), (4, .int x4_10), (3, .int x3_11), (2, .int x2_12), (0, rf E o), (1, .int p1)] dX7_gather_99 (Nat.le_of_ble_eq_true rfl) rfl ?_
            obtain ⟨x6_53, ex6_53, hb_25⟩ := be_of hb_25
            refine V_iinc hG 2 x6_53 rfl (by rw [ex6_53]; rfl) [(6, .int x6_53), (5, .int y_52), (7, .int t_46), (4, .int x4_10), (3, .int x3_11), (2, .int x2_12), (0, rf E o), (1, .int p1)] dX7_gather_101 (Nat.le_of_ble_eq_true rfl) rfl ?_
            refine V_goto hG 40 dX7_gather_104 (by decide) ?_
            cases hb_25
            exact V_lv [0, 1, 3, 4, 5, 6, 7] rfl (hk_26 _ rfl)
          refine V_icmp_le hG 97 dX7_gather_89 (by decide) (fun c_51 => ?_) (fun c_51 => ?_)
          · refine V_iload hG 2 rfl dX7_gather_97 ?_
            exact J_50 _ (by rw [et_49, if_pos c_51])
          · refine V_iload hG 0 rfl dX7_gather_92 ?_
            refine V_goto hG 99 dX7_gather_94 (by decide) ?_
            exact J_50 _ (by rw [et_49, if_neg c_51])
        refine V_if_eq hG 82 dX7_gather_56 (by decide) (fun c_54 => ?_) (fun c_54 => ?_)
        · have hj_48 := if_t c_54 hj_48
          refine V_iconst hG (-1) rfl dX7_gather_82 ?_
          cases hj_48
          exact J_47
        · have hj_48 := if_f c_54 hj_48
          refine V_aload_n hG 5 rfl dX7_gather_59 ?_
          refine V_iload hG 0 rfl dX7_gather_60 ?_
          refine V_aload_n hG 5 rfl dX7_gather_62 ?_
          refine g7_94 hM hG dX7_gather_63 ?_
          refine V_iload hG 0 rfl dX7_gather_66 ?_
          obtain ⟨g_55, hj_48⟩ := gd_of hj_48
          refine T_iaload hM hG (by decide) g_55 dX7_gather_68 ?_
          refine V_aload_n hG 5 rfl dX7_gather_69 ?_
          refine g7_30 hM hG dX7_gather_70 ?_
          refine V_iload hG 2 rfl dX7_gather_73 ?_
          obtain ⟨g_56, hj_48⟩ := gd_of hj_48
          refine T_iaload hM hG (by decide) g_56 dX7_gather_75 ?_
          obtain ⟨r_58, hc_57, hj_48⟩ := bd_of hj_48
          refine V_callV0 hE hG (As := [.int x6_29, .int (tI S_1 27 (Int32.toNatClampNeg x6_29)), .int (tI S_1 6 (Int32.toNatClampNeg x4_10))]) (rest := []) (ok_tw_legOf hE hM hc_57) hM.1 (by decide) rfl hw7_491 hd_tw_legOf ⟨Nat.le_of_ble_eq_true rfl, Nat.le_of_ble_eq_true rfl⟩ rfl rfl (Nat.le_of_ble_eq_true rfl) rfl rfl dX7_gather_76 ?_
          refine V_goto hG 83 dX7_gather_79 (by decide) ?_
          cases hj_48
          exact J_47
  · have h := if_t c_4 h
    refine V_iconst hG (-1) rfl dX7_gather_14 ?_
    cases h
    subst eQ
    exact V_iret hG dX7_gather_15

def tw_go_b1 (N : Nat) (p1 : Int32) (x2_14 : Int32) (S_15 : TS) : Option ((Int32 × TS) ⊕ (Int32 × TS)) :=
if p1 ≤ x2_14 then (
some (.inl (x2_14, S_15)))
else (
bd (tw_hourGoes N 0 S_15) fun S_29 =>
be (x2_14 + 1) fun (x2_30 : Int32) =>
some (.inr (x2_30, S_29)))
def tw_go (N : Nat) (p1 : Int32) (S : TS) : Option (Int32 × TS) :=
be (tsI S 0 2 0) fun S_1 =>
bd (tw_isIn p1 0 200 S_1) fun r_3 =>
if r_3 = 0 then (
some ((-1), S_1))
else (
if (tI S_1 37 (Int32.toNatClampNeg 0)) + p1 ≤ 9000 then (
bd (tw_plainTried S_1) fun S_7 =>
be (tsI S_7 0 69 1) fun S_8 =>
bd2 (lp N (fun s_26 : Int32 × TS => tw_go_b1 N p1 s_26.1 s_26.2) (0, S_8)) fun (x2_16 : Int32) (S_17 : TS) =>
be (tsI S_17 0 69 0) fun S_20 =>
be (if p1 ≤ 0 then (
tI S_20 0 78)
else (
0) : Int32) fun (y_24 : Int32) =>
be (tsI S_20 0 78 y_24) fun S_25 =>
some (tI S_25 37 (Int32.toNatClampNeg 0), S_25))
else (
some ((-1), S_1)))
def rm_tw_go : Room := { frames := 6, cells := 0, slots := 0, locals := 147 }
theorem ok_tw_go {E : En} (hE : EOk E) {o : Nat} {M0 : Mem} (hM : TwS o M0) {N : Nat} {p1 : Int32} {S : TS} {r : Int32} {S' : TS} (h : tw_go N p1 S = some (r, S')) : CM E yX7_go cX7_go 3 (some .int) rm_tw_go [rf E o, .int p1] (tw o S M0) (some (.int r)) (tw o S' M0) := by
  unfold tw_go at h
  refine CM_intro (own := RX7) rfl (by decide) (Nat.le_of_ble_eq_true rfl) rfl (fun G hG => ?_)
  obtain ⟨Q, eQ⟩ : ∃ Q, Q = QM E G (some (.int r)) (tw o S' M0) 0 0 := ⟨_, rfl⟩
  show V E G (tw o S M0) 0 0 3 0 [(0, rf E o), (1, .int p1)] [] (QM E G (some (.int r)) (tw o S' M0) 0 0)
  rw [← eQ]
  refine V_aload_n hG 0 rfl dX7_go_0 ?_
  refine V_iconst hG 0 rfl dX7_go_1 ?_
  obtain ⟨S_1, eS_1, h⟩ := be_of h
  refine p7_160 hM hG eS_1 dX7_go_2 ?_
  refine V_iload_n hG 1 rfl dX7_go_5 ?_
  refine V_iconst hG 0 rfl dX7_go_6 ?_
  refine V_sipush hG 200 (by decide) dX7_go_7 ?_
  obtain ⟨r_3, hc_2, h⟩ := bd_of h
  refine V_callS0 hE hG (As := [.int p1, .int 0, .int 200]) (rest := []) (ok_tw_isIn hE hM hc_2) hw7_205 hd_tw_isIn ⟨Nat.le_of_ble_eq_true rfl, Nat.le_of_ble_eq_true rfl⟩ rfl rfl (Nat.le_of_ble_eq_true rfl) rfl rfl dX7_go_10 ?_
  refine V_if_eq hG 30 dX7_go_13 (by decide) (fun c_4 => ?_) (fun c_4 => ?_)
  · have h := if_t c_4 h
    refine V_iconst hG (-1) rfl dX7_go_30 ?_
    cases h
    subst eQ
    exact V_iret hG dX7_go_31
  · have h := if_f c_4 h
    refine V_aload_n hG 0 rfl dX7_go_16 ?_
    refine g7_124 hM hG dX7_go_17 ?_
    refine V_iconst hG 0 rfl dX7_go_20 ?_
    refine T_iaload hM hG (by decide) (by decide) dX7_go_21 ?_
    refine V_iload_n hG 1 rfl dX7_go_22 ?_
    refine V_iadd hG dX7_go_23 ?_
    refine V_sipush hG 9000 (by decide) dX7_go_24 ?_
    refine V_icmp_le hG 32 dX7_go_27 (by decide) (fun c_5 => ?_) (fun c_5 => ?_)
    · have h := if_t c_5 h
      refine V_aload_n hG 0 rfl dX7_go_32 ?_
      obtain ⟨S_7, hc_6, h⟩ := bd_of h
      refine V_callV0 hE hG (As := []) (rest := []) (ok_tw_plainTried hE hM hc_6) hM.1 (by decide) rfl hw7_374 hd_tw_plainTried ⟨Nat.le_of_ble_eq_true rfl, Nat.le_of_ble_eq_true rfl⟩ rfl rfl (Nat.le_of_ble_eq_true rfl) rfl rfl dX7_go_33 ?_
      refine V_aload_n hG 0 rfl dX7_go_36 ?_
      refine V_iconst hG 1 rfl dX7_go_37 ?_
      obtain ⟨S_8, eS_8, h⟩ := be_of h
      refine p7_386 hM hG eS_8 (Or.inr rfl) dX7_go_38 ?_
      refine V_iconst hG 0 rfl dX7_go_41 ?_
      refine V_istore_n hG rfl [(2, .int 0), (0, rf E o), (1, .int p1)] dX7_go_42 (Nat.le_of_ble_eq_true rfl) rfl ?_
      obtain ⟨x2_16, S_17, hL_18, h⟩ := bd2_of h
      have J_13 : ∀ q_19 : Int32 × TS, q_19 = (x2_16, S_17) → V E G (tw o q_19.2 M0) 0 0 3 59 [(2, .int q_19.1), (0, rf E o), (1, .int p1)] [] Q := by
        intro q_19 e9
        subst q_19
        show V E G (tw o S_17 M0) 0 0 3 59 [(2, .int x2_16), (0, rf E o), (1, .int p1)] [] Q
        refine V_aload_n hG 1 rfl dX7_go_59 ?_
        refine V_iconst hG 0 rfl dX7_go_60 ?_
        obtain ⟨S_20, eS_20, h⟩ := be_of h
        refine p7_386 hM hG eS_20 (Or.inl rfl) dX7_go_61 ?_
        refine V_aload_n hG 1 rfl dX7_go_64 ?_
        refine V_iload_n hG 2 rfl dX7_go_65 ?_
        obtain ⟨t_21, et_21, h⟩ := be_of h
        have J_22 : ∀ y_24 : Int32, y_24 = t_21 → V E G (tw o S_20 M0) 0 0 3 77 [(2, .int x2_16), (0, rf E o), (1, .int p1)] [.int y_24, rf E o] Q := by
          intro y_24 ey
          subst ey
          obtain ⟨S_25, eS_25, h⟩ := be_of h
          refine p7_380 hM hG eS_25 dX7_go_77 ?_
          refine V_aload_n hG 1 rfl dX7_go_80 ?_
          refine g7_124 hM hG dX7_go_81 ?_
          refine V_iconst hG 0 rfl dX7_go_84 ?_
          refine T_iaload hM hG (by decide) (by decide) dX7_go_85 ?_
          cases h
          subst eQ
          exact V_iret hG dX7_go_86
        refine V_if_le hG 73 dX7_go_66 (by decide) (fun c_23 => ?_) (fun c_23 => ?_)
        · refine V_aload_n hG 1 rfl dX7_go_73 ?_
          refine g7_380 hM hG dX7_go_74 ?_
          exact J_22 _ (by rw [et_21, if_pos c_23])
        · refine V_iconst hG 0 rfl dX7_go_69 ?_
          refine V_goto hG 77 dX7_go_70 (by decide) ?_
          exact J_22 _ (by rw [et_21, if_neg c_23])
      refine lp_walk (W := fun s_26 : Int32 × TS => V E G (tw o s_26.2 M0) 0 0 3 43 [(2, .int s_26.1), (0, rf E o), (1, .int p1)] [] Q) ?_ N (0, S_8) hL_18
      intro s_26 b_9 hb_10 hk_11 hx_12
      obtain ⟨x2_14, S_15⟩ := s_26
      have hb_10 : tw_go_b1 N p1 x2_14 S_15 = some b_9 := hb_10
      unfold tw_go_b1 at hb_10
      show V E G (tw o S_15 M0) 0 0 3 43 [(2, .int x2_14), (0, rf E o), (1, .int p1)] [] Q
      refine V_iload_n hG 0 rfl dX7_go_43 ?_
      refine V_iload_n hG 2 rfl dX7_go_44 ?_
      refine V_icmp_ge hG 59 dX7_go_45 (by decide) (fun c_27 => ?_) (fun c_27 => ?_)
      · have hb_10 := if_t c_27 hb_10
        cases hb_10
        exact J_13 _ (hx_12 _ rfl)
      · have hb_10 := if_f c_27 hb_10
        refine V_aload_n hG 1 rfl dX7_go_48 ?_
        refine V_iconst hG 0 rfl dX7_go_49 ?_
        obtain ⟨S_29, hc_28, hb_10⟩ := bd_of hb_10
        refine V_callV0 hE hG (As := [.int 0]) (rest := []) (ok_tw_hourGoes hE hM hc_28) hM.1 (by decide) rfl hw7_456 hd_tw_hourGoes ⟨Nat.le_of_ble_eq_true rfl, Nat.le_of_ble_eq_true rfl⟩ rfl rfl (Nat.le_of_ble_eq_true rfl) rfl rfl dX7_go_50 ?_
        obtain ⟨x2_30, ex2_30, hb_10⟩ := be_of hb_10
        refine V_iinc hG 0 x2_30 rfl (by rw [ex2_30]; rfl) [(2, .int x2_30), (0, rf E o), (1, .int p1)] dX7_go_53 (Nat.le_of_ble_eq_true rfl) rfl ?_
        refine V_goto hG 43 dX7_go_56 (by decide) ?_
        cases hb_10
        exact hk_11 _ rfl
    · have h := if_f c_5 h
      refine V_iconst hG (-1) rfl dX7_go_30 ?_
      cases h
      subst eQ
      exact V_iret hG dX7_go_31

def tw_hasBy (p1 : Int32) (p2 : Int32) (p3 : Int32) (p4 : Int32) (S : TS) : Option (Int32) :=
if p3 = 0 then (
bd (if p4 = 0 then (
gd (inb p1 (lenA 10)) (
gd (inb p2 (lenA 10)) (
bd (tw_sizeOf ((tI S 10 (Int32.toNatClampNeg p1)) - (tI S 10 (Int32.toNatClampNeg p2))) S) fun r_16 =>
some (10 - r_16))))
else (
gd (inb p1 (lenA 28)) (
some ((tI S 28 (Int32.toNatClampNeg p1)) / 5))) : Option (Int32)) fun (t_8 : Int32) =>
some t_8)
else (
bd (if p4 = 0 then (
gd (inb p1 (lenA 13)) (
some (tI S 13 (Int32.toNatClampNeg p1))))
else (
gd (inb p1 (lenA 13)) (
some ((tI S 13 (Int32.toNatClampNeg p1)) / 2))) : Option (Int32)) fun (t_2 : Int32) =>
some t_2)
def rm_tw_hasBy : Room := { frames := 1, cells := 0, slots := 0, locals := 20 }
theorem ok_tw_hasBy {E : En} (hE : EOk E) {o : Nat} {M0 : Mem} (hM : TwS o M0) {p1 : Int32} {p2 : Int32} {p3 : Int32} {p4 : Int32} {S : TS} {r : Int32} (h : tw_hasBy p1 p2 p3 p4 S = some r) : CM E yX7_hasBy cX7_hasBy 5 (some .int) rm_tw_hasBy [rf E o, .int p1, .int p2, .int p3, .int p4] (tw o S M0) (some (.int r)) (tw o S M0) := by
  unfold tw_hasBy at h
  refine CM_intro (own := RX7) rfl (by decide) (Nat.le_of_ble_eq_true rfl) rfl (fun G hG => ?_)
  obtain ⟨Q, eQ⟩ : ∃ Q, Q = QM E G (some (.int r)) (tw o S M0) 0 0 := ⟨_, rfl⟩
  show V E G (tw o S M0) 0 0 5 0 [(0, rf E o), (1, .int p1), (2, .int p2), (3, .int p3), (4, .int p4)] [] (QM E G (some (.int r)) (tw o S M0) 0 0)
  rw [← eQ]
  refine V_iload_n hG 3 rfl dX7_hasBy_0 ?_
  refine V_if_ne hG 40 dX7_hasBy_1 (by decide) (fun c_1 => ?_) (fun c_1 => ?_)
  · have h := if_f c_1 h
    refine V_iload hG 4 rfl dX7_hasBy_40 ?_
    obtain ⟨t_2, hj_4, h⟩ := bd_of h
    have J_3 : V E G (tw o S M0) 0 0 5 62 [(0, rf E o), (1, .int p1), (2, .int p2), (3, .int p3), (4, .int p4)] [.int t_2] Q := by
      cases h
      subst eQ
      exact V_iret hG dX7_hasBy_62
    refine V_if_ne hG 54 dX7_hasBy_42 (by decide) (fun c_5 => ?_) (fun c_5 => ?_)
    · have hj_4 := if_f c_5 hj_4
      refine V_aload_n hG 0 rfl dX7_hasBy_54 ?_
      refine g7_51 hM hG dX7_hasBy_55 ?_
      refine V_iload_n hG 1 rfl dX7_hasBy_58 ?_
      obtain ⟨g_6, hj_4⟩ := gd_of hj_4
      refine T_iaload hM hG (by decide) g_6 dX7_hasBy_59 ?_
      refine V_iconst hG 2 rfl dX7_hasBy_60 ?_
      refine V_idiv hG (by decide) dX7_hasBy_61 ?_
      cases hj_4
      exact J_3
    · have hj_4 := if_t c_5 hj_4
      refine V_aload_n hG 0 rfl dX7_hasBy_45 ?_
      refine g7_51 hM hG dX7_hasBy_46 ?_
      refine V_iload_n hG 1 rfl dX7_hasBy_49 ?_
      obtain ⟨g_7, hj_4⟩ := gd_of hj_4
      refine T_iaload hM hG (by decide) g_7 dX7_hasBy_50 ?_
      refine V_goto hG 62 dX7_hasBy_51 (by decide) ?_
      cases hj_4
      exact J_3
  · have h := if_t c_1 h
    refine V_iload hG 4 rfl dX7_hasBy_4 ?_
    obtain ⟨t_8, hj_10, h⟩ := bd_of h
    have J_9 : V E G (tw o S M0) 0 0 5 39 [(0, rf E o), (1, .int p1), (2, .int p2), (3, .int p3), (4, .int p4)] [.int t_8] Q := by
      cases h
      subst eQ
      exact V_iret hG dX7_hasBy_39
    refine V_if_ne hG 31 dX7_hasBy_6 (by decide) (fun c_11 => ?_) (fun c_11 => ?_)
    · have hj_10 := if_f c_11 hj_10
      refine V_aload_n hG 0 rfl dX7_hasBy_31 ?_
      refine g7_97 hM hG dX7_hasBy_32 ?_
      refine V_iload_n hG 1 rfl dX7_hasBy_35 ?_
      obtain ⟨g_12, hj_10⟩ := gd_of hj_10
      refine T_iaload hM hG (by decide) g_12 dX7_hasBy_36 ?_
      refine V_iconst hG 5 rfl dX7_hasBy_37 ?_
      refine V_idiv hG (by decide) dX7_hasBy_38 ?_
      cases hj_10
      exact J_9
    · have hj_10 := if_t c_11 hj_10
      refine V_bipush hG 10 (by decide) dX7_hasBy_9 ?_
      refine V_aload_n hG 0 rfl dX7_hasBy_11 ?_
      refine g7_42 hM hG dX7_hasBy_12 ?_
      refine V_iload_n hG 1 rfl dX7_hasBy_15 ?_
      obtain ⟨g_13, hj_10⟩ := gd_of hj_10
      refine T_iaload hM hG (by decide) g_13 dX7_hasBy_16 ?_
      refine V_aload_n hG 0 rfl dX7_hasBy_17 ?_
      refine g7_42 hM hG dX7_hasBy_18 ?_
      refine V_iload_n hG 2 rfl dX7_hasBy_21 ?_
      obtain ⟨g_14, hj_10⟩ := gd_of hj_10
      refine T_iaload hM hG (by decide) g_14 dX7_hasBy_22 ?_
      refine V_isub hG dX7_hasBy_23 ?_
      obtain ⟨r_16, hc_15, hj_10⟩ := bd_of hj_10
      refine V_callS0 hE hG (As := [.int ((tI S 10 (Int32.toNatClampNeg p1)) - (tI S 10 (Int32.toNatClampNeg p2)))]) (rest := [.int 10]) (ok_tw_sizeOf hE hM hc_15) hw7_398 hd_tw_sizeOf ⟨Nat.le_of_ble_eq_true rfl, Nat.le_of_ble_eq_true rfl⟩ rfl rfl (Nat.le_of_ble_eq_true rfl) rfl rfl dX7_hasBy_24 ?_
      refine V_isub hG dX7_hasBy_27 ?_
      refine V_goto hG 39 dX7_hasBy_28 (by decide) ?_
      cases hj_10
      exact J_9

def tw_horse (p1 : Int32) (p2 : Int32) (S : TS) : Option (Int32 × TS) :=
be (tsI S 0 2 0) fun S_1 =>
bd (tw_isHorse p1 S_1) fun r_3 =>
if r_3 = 0 then (
bd2 (tw_fails 1 S_1) fun r_35 S_34 =>
some (r_35, S_34))
else (
if p2 = 0 then (
gd (inb p1 (lenA 10)) (
some (tI S_1 10 (Int32.toNatClampNeg p1), S_1)))
else (
if p2 = 1 then (
gd (inb p1 (lenA 27)) (
some (tI S_1 27 (Int32.toNatClampNeg p1), S_1)))
else (
if p2 = 2 then (
gd (inb p1 (lenA 28)) (
some (tI S_1 28 (Int32.toNatClampNeg p1), S_1)))
else (
if p2 = 3 then (
gd (inb p1 (lenA 13)) (
some (tI S_1 13 (Int32.toNatClampNeg p1), S_1)))
else (
if p2 = 4 then (
gd (inb p1 (lenA 29)) (
bd (if 0 ≤ tI S_1 29 (Int32.toNatClampNeg p1) then (
gd (inb p1 (lenA 29)) (
some (tI S_1 29 (Int32.toNatClampNeg p1))))
else (
some (-2)) : Option (Int32)) fun (t_15 : Int32) =>
some (t_15, S_1)))
else (
if p2 = 5 then (
gd (inb p1 (lenA 30)) (
some (tI S_1 30 (Int32.toNatClampNeg p1), S_1)))
else (
if p2 = 6 then (
gd (inb p1 (lenA 31)) (
be (if tI S_1 31 (Int32.toNatClampNeg p1) = 0 then (
0)
else (
1) : Int32) fun (y_27 : Int32) =>
some (y_27, S_1)))
else (
if p2 = 7 then (
gd (inb p1 (lenA 32)) (
some (tI S_1 32 (Int32.toNatClampNeg p1), S_1)))
else (
bd2 (tw_fails 2 S_1) fun r_32 S_31 =>
some (r_32, S_31))))))))))
def rm_tw_horse : Room := { frames := 1, cells := 0, slots := 0, locals := 21 }
theorem ok_tw_horse {E : En} (hE : EOk E) {o : Nat} {M0 : Mem} (hM : TwS o M0) {p1 : Int32} {p2 : Int32} {S : TS} {r : Int32} {S' : TS} (h : tw_horse p1 p2 S = some (r, S')) : CM E yX7_horse cX7_horse 3 (some .int) rm_tw_horse [rf E o, .int p1, .int p2] (tw o S M0) (some (.int r)) (tw o S' M0) := by
  unfold tw_horse at h
  refine CM_intro (own := RX7) rfl (by decide) (Nat.le_of_ble_eq_true rfl) rfl (fun G hG => ?_)
  obtain ⟨Q, eQ⟩ : ∃ Q, Q = QM E G (some (.int r)) (tw o S' M0) 0 0 := ⟨_, rfl⟩
  show V E G (tw o S M0) 0 0 3 0 [(0, rf E o), (1, .int p1), (2, .int p2)] [] (QM E G (some (.int r)) (tw o S' M0) 0 0)
  rw [← eQ]
  refine V_aload_n hG 0 rfl dX7_horse_0 ?_
  refine V_iconst hG 0 rfl dX7_horse_1 ?_
  obtain ⟨S_1, eS_1, h⟩ := be_of h
  refine p7_160 hM hG eS_1 dX7_horse_2 ?_
  refine V_aload_n hG 0 rfl dX7_horse_5 ?_
  refine V_iload_n hG 1 rfl dX7_horse_6 ?_
  obtain ⟨r_3, hc_2, h⟩ := bd_of h
  refine V_callV0 hE hG (As := [.int p1]) (rest := []) (ok_tw_isHorse hE hM hc_2) hM.1 (by decide) rfl hw7_459 hd_tw_isHorse ⟨Nat.le_of_ble_eq_true rfl, Nat.le_of_ble_eq_true rfl⟩ rfl rfl (Nat.le_of_ble_eq_true rfl) rfl rfl dX7_horse_7 ?_
  refine V_if_ne hG 19 dX7_horse_10 (by decide) (fun c_4 => ?_) (fun c_4 => ?_)
  · have h := if_f c_4 h
    refine V_iload_n hG 2 rfl dX7_horse_19 ?_
    by_cases c_5 : p2 = 0
    · have h := if_t c_5 h
      refine V_tableIn hG 68 dX7_horse_20 (by rw [c_5]; decide) (by rw [c_5]; decide) (by rw [c_5]; rfl) (by decide) ?_
      refine V_aload_n hG 0 rfl dX7_horse_68 ?_
      refine g7_42 hM hG dX7_horse_69 ?_
      refine V_iload_n hG 1 rfl dX7_horse_72 ?_
      obtain ⟨g_6, h⟩ := gd_of h
      refine T_iaload hM hG (by decide) g_6 dX7_horse_73 ?_
      cases h
      subst eQ
      exact V_iret hG dX7_horse_74
    have h := if_f c_5 h
    by_cases c_7 : p2 = 1
    · have h := if_t c_7 h
      refine V_tableIn hG 75 dX7_horse_20 (by rw [c_7]; decide) (by rw [c_7]; decide) (by rw [c_7]; rfl) (by decide) ?_
      refine V_aload_n hG 0 rfl dX7_horse_75 ?_
      refine g7_94 hM hG dX7_horse_76 ?_
      refine V_iload_n hG 1 rfl dX7_horse_79 ?_
      obtain ⟨g_8, h⟩ := gd_of h
      refine T_iaload hM hG (by decide) g_8 dX7_horse_80 ?_
      cases h
      subst eQ
      exact V_iret hG dX7_horse_81
    have h := if_f c_7 h
    by_cases c_9 : p2 = 2
    · have h := if_t c_9 h
      refine V_tableIn hG 82 dX7_horse_20 (by rw [c_9]; decide) (by rw [c_9]; decide) (by rw [c_9]; rfl) (by decide) ?_
      refine V_aload_n hG 0 rfl dX7_horse_82 ?_
      refine g7_97 hM hG dX7_horse_83 ?_
      refine V_iload_n hG 1 rfl dX7_horse_86 ?_
      obtain ⟨g_10, h⟩ := gd_of h
      refine T_iaload hM hG (by decide) g_10 dX7_horse_87 ?_
      cases h
      subst eQ
      exact V_iret hG dX7_horse_88
    have h := if_f c_9 h
    by_cases c_11 : p2 = 3
    · have h := if_t c_11 h
      refine V_tableIn hG 89 dX7_horse_20 (by rw [c_11]; decide) (by rw [c_11]; decide) (by rw [c_11]; rfl) (by decide) ?_
      refine V_aload_n hG 0 rfl dX7_horse_89 ?_
      refine g7_51 hM hG dX7_horse_90 ?_
      refine V_iload_n hG 1 rfl dX7_horse_93 ?_
      obtain ⟨g_12, h⟩ := gd_of h
      refine T_iaload hM hG (by decide) g_12 dX7_horse_94 ?_
      cases h
      subst eQ
      exact V_iret hG dX7_horse_95
    have h := if_f c_11 h
    by_cases c_13 : p2 = 4
    · have h := if_t c_13 h
      refine V_tableIn hG 96 dX7_horse_20 (by rw [c_13]; decide) (by rw [c_13]; decide) (by rw [c_13]; rfl) (by decide) ?_
      refine V_aload_n hG 0 rfl dX7_horse_96 ?_
      refine g7_100 hM hG dX7_horse_97 ?_
      refine V_iload_n hG 1 rfl dX7_horse_100 ?_
      obtain ⟨g_14, h⟩ := gd_of h
      refine T_iaload hM hG (by decide) g_14 dX7_horse_101 ?_
      obtain ⟨t_15, hj_17, h⟩ := bd_of h
      have J_16 : V E G (tw o S_1 M0) 0 0 3 116 [(0, rf E o), (1, .int p1), (2, .int p2)] [.int t_15] Q := by
        cases h
        subst eQ
        exact V_iret hG dX7_horse_116
      refine V_if_ge hG 110 dX7_horse_102 (by decide) (fun c_18 => ?_) (fun c_18 => ?_)
      · have hj_17 := if_t c_18 hj_17
        refine V_aload_n hG 0 rfl dX7_horse_110 ?_
        refine g7_100 hM hG dX7_horse_111 ?_
        refine V_iload_n hG 1 rfl dX7_horse_114 ?_
        obtain ⟨g_19, hj_17⟩ := gd_of hj_17
        refine T_iaload hM hG (by decide) g_19 dX7_horse_115 ?_
        cases hj_17
        exact J_16
      · have hj_17 := if_f c_18 hj_17
        refine V_bipush hG (-2) (by decide) dX7_horse_105 ?_
        refine V_goto hG 116 dX7_horse_107 (by decide) ?_
        cases hj_17
        exact J_16
    have h := if_f c_13 h
    by_cases c_20 : p2 = 5
    · have h := if_t c_20 h
      refine V_tableIn hG 117 dX7_horse_20 (by rw [c_20]; decide) (by rw [c_20]; decide) (by rw [c_20]; rfl) (by decide) ?_
      refine V_aload_n hG 0 rfl dX7_horse_117 ?_
      refine g7_103 hM hG dX7_horse_118 ?_
      refine V_iload_n hG 1 rfl dX7_horse_121 ?_
      obtain ⟨g_21, h⟩ := gd_of h
      refine T_iaload hM hG (by decide) g_21 dX7_horse_122 ?_
      cases h
      subst eQ
      exact V_iret hG dX7_horse_123
    have h := if_f c_20 h
    by_cases c_22 : p2 = 6
    · have h := if_t c_22 h
      refine V_tableIn hG 124 dX7_horse_20 (by rw [c_22]; decide) (by rw [c_22]; decide) (by rw [c_22]; rfl) (by decide) ?_
      refine V_aload_n hG 0 rfl dX7_horse_124 ?_
      refine g7_106 hM hG dX7_horse_125 ?_
      refine V_iload_n hG 1 rfl dX7_horse_128 ?_
      obtain ⟨g_23, h⟩ := gd_of h
      refine T_zaload hM hG (by decide) g_23 dX7_horse_129 ?_
      obtain ⟨t_24, et_24, h⟩ := be_of h
      have J_25 : ∀ y_27 : Int32, y_27 = t_24 → V E G (tw o S_1 M0) 0 0 3 138 [(0, rf E o), (1, .int p1), (2, .int p2)] [.int y_27] Q := by
        intro y_27 ey
        subst ey
        cases h
        subst eQ
        exact V_iret hG dX7_horse_138
      refine V_if_eq hG 137 dX7_horse_130 (by decide) (fun c_26 => ?_) (fun c_26 => ?_)
      · refine V_iconst hG 0 rfl dX7_horse_137 ?_
        exact J_25 _ (by rw [et_24, if_pos c_26])
      · refine V_iconst hG 1 rfl dX7_horse_133 ?_
        refine V_goto hG 138 dX7_horse_134 (by decide) ?_
        exact J_25 _ (by rw [et_24, if_neg c_26])
    have h := if_f c_22 h
    by_cases c_28 : p2 = 7
    · have h := if_t c_28 h
      refine V_tableIn hG 139 dX7_horse_20 (by rw [c_28]; decide) (by rw [c_28]; decide) (by rw [c_28]; rfl) (by decide) ?_
      refine V_aload_n hG 0 rfl dX7_horse_139 ?_
      refine g7_109 hM hG dX7_horse_140 ?_
      refine V_iload_n hG 1 rfl dX7_horse_143 ?_
      obtain ⟨g_29, h⟩ := gd_of h
      refine T_iaload hM hG (by decide) g_29 dX7_horse_144 ?_
      cases h
      subst eQ
      exact V_iret hG dX7_horse_145
    have h := if_f c_28 h
    refine V_tableOut hG 146 dX7_horse_20 (by have := lv_neT c_5 (show Int32.toInt 0 = 0 from rfl); have := lv_neT c_7 (show Int32.toInt 1 = 1 from rfl); have := lv_neT c_9 (show Int32.toInt 2 = 2 from rfl); have := lv_neT c_11 (show Int32.toInt 3 = 3 from rfl); have := lv_neT c_13 (show Int32.toInt 4 = 4 from rfl); have := lv_neT c_20 (show Int32.toInt 5 = 5 from rfl); have := lv_neT c_22 (show Int32.toInt 6 = 6 from rfl); have := lv_neT c_28 (show Int32.toInt 7 = 7 from rfl); omega) (by decide) ?_
    refine V_aload_n hG 0 rfl dX7_horse_146 ?_
    refine V_iconst hG 2 rfl dX7_horse_147 ?_
    obtain ⟨r_32, S_31, hc_30, h⟩ := bd2_of h
    refine V_callV0 hE hG (As := [.int 2]) (rest := []) (ok_tw_fails hE hM hc_30) hM.1 (by decide) rfl hw7_462 hd_tw_fails ⟨Nat.le_of_ble_eq_true rfl, Nat.le_of_ble_eq_true rfl⟩ rfl rfl (Nat.le_of_ble_eq_true rfl) rfl rfl dX7_horse_148 ?_
    cases h
    subst eQ
    exact V_iret hG dX7_horse_151
  · have h := if_t c_4 h
    refine V_aload_n hG 0 rfl dX7_horse_13 ?_
    refine V_iconst hG 1 rfl dX7_horse_14 ?_
    obtain ⟨r_35, S_34, hc_33, h⟩ := bd2_of h
    refine V_callV0 hE hG (As := [.int 1]) (rest := []) (ok_tw_fails hE hM hc_33) hM.1 (by decide) rfl hw7_462 hd_tw_fails ⟨Nat.le_of_ble_eq_true rfl, Nat.le_of_ble_eq_true rfl⟩ rfl rfl (Nat.le_of_ble_eq_true rfl) rfl rfl dX7_horse_15 ?_
    cases h
    subst eQ
    exact V_iret hG dX7_horse_18

def tw_isDigit (p1 : Int32) (S : TS) : Option (Int32) :=
bd (if tI S 0 6 ≤ p1 then (
some 0)
else (
gd (inb p1 (lenA 1)) (
if tI S 1 (Int32.toNatClampNeg p1) < 48 then (
some 0)
else (
gd (inb p1 (lenA 1)) (
if 57 < tI S 1 (Int32.toNatClampNeg p1) then (
some 0)
else (
some 1))))) : Option (Int32)) fun (t_1 : Int32) =>
gd (t_1 = 0 ∨ t_1 = 1) (
some t_1)
def rm_tw_isDigit : Room := { frames := 0, cells := 0, slots := 0, locals := 0 }
theorem ok_tw_isDigit {E : En} (hE : EOk E) {o : Nat} {M0 : Mem} (hM : TwS o M0) {p1 : Int32} {S : TS} {r : Int32} (h : tw_isDigit p1 S = some r) : CM E yX7_isDigit cX7_isDigit 2 (some .boolean) rm_tw_isDigit [rf E o, .int p1] (tw o S M0) (some (.int r)) (tw o S M0) := by
  unfold tw_isDigit at h
  refine CM_intro (own := RX7) rfl (by decide) (Nat.le_of_ble_eq_true rfl) rfl (fun G hG => ?_)
  obtain ⟨Q, eQ⟩ : ∃ Q, Q = QM E G (some (.int r)) (tw o S M0) 0 0 := ⟨_, rfl⟩
  show V E G (tw o S M0) 0 0 2 0 [(0, rf E o), (1, .int p1)] [] (QM E G (some (.int r)) (tw o S M0) 0 0)
  rw [← eQ]
  refine V_iload_n hG 1 rfl dX7_isDigit_0 ?_
  refine V_aload_n hG 0 rfl dX7_isDigit_1 ?_
  refine g7_172 hM hG dX7_isDigit_2 ?_
  obtain ⟨t_1, hj_3, h⟩ := bd_of h
  have J_2 : V E G (tw o S M0) 0 0 2 35 [(0, rf E o), (1, .int p1)] [.int t_1] Q := by
    obtain ⟨g_4, h⟩ := gd_of h
    cases h
    subst eQ
    exact V_zret hG g_4 dX7_isDigit_35
  refine V_icmp_ge hG 34 dX7_isDigit_5 (by decide) (fun c_5 => ?_) (fun c_5 => ?_)
  · have hj_3 := if_t c_5 hj_3
    refine V_iconst hG 0 rfl dX7_isDigit_34 ?_
    cases hj_3
    exact J_2
  · have hj_3 := if_f c_5 hj_3
    refine V_aload_n hG 0 rfl dX7_isDigit_8 ?_
    refine g7_7 hM hG dX7_isDigit_9 ?_
    refine V_iload_n hG 1 rfl dX7_isDigit_12 ?_
    obtain ⟨g_6, hj_3⟩ := gd_of hj_3
    refine T_iaload hM hG (by decide) g_6 dX7_isDigit_13 ?_
    refine V_bipush hG 48 (by decide) dX7_isDigit_14 ?_
    refine V_icmp_lt hG 34 dX7_isDigit_16 (by decide) (fun c_7 => ?_) (fun c_7 => ?_)
    · have hj_3 := if_t c_7 hj_3
      refine V_iconst hG 0 rfl dX7_isDigit_34 ?_
      cases hj_3
      exact J_2
    · have hj_3 := if_f c_7 hj_3
      refine V_aload_n hG 0 rfl dX7_isDigit_19 ?_
      refine g7_7 hM hG dX7_isDigit_20 ?_
      refine V_iload_n hG 1 rfl dX7_isDigit_23 ?_
      obtain ⟨g_8, hj_3⟩ := gd_of hj_3
      refine T_iaload hM hG (by decide) g_8 dX7_isDigit_24 ?_
      refine V_bipush hG 57 (by decide) dX7_isDigit_25 ?_
      refine V_icmp_gt hG 34 dX7_isDigit_27 (by decide) (fun c_9 => ?_) (fun c_9 => ?_)
      · have hj_3 := if_t c_9 hj_3
        refine V_iconst hG 0 rfl dX7_isDigit_34 ?_
        cases hj_3
        exact J_2
      · have hj_3 := if_f c_9 hj_3
        refine V_iconst hG 1 rfl dX7_isDigit_30 ?_
        refine V_goto hG 35 dX7_isDigit_31 (by decide) ?_
        cases hj_3
        exact J_2

def tw_isSmall (p1 : Int32) (S : TS) : Option (Int32) :=
bd (if tI S 0 6 ≤ p1 then (
some 0)
else (
gd (inb p1 (lenA 1)) (
if tI S 1 (Int32.toNatClampNeg p1) < 97 then (
some 0)
else (
gd (inb p1 (lenA 1)) (
if 122 < tI S 1 (Int32.toNatClampNeg p1) then (
some 0)
else (
some 1))))) : Option (Int32)) fun (t_1 : Int32) =>
gd (t_1 = 0 ∨ t_1 = 1) (
some t_1)
def rm_tw_isSmall : Room := { frames := 0, cells := 0, slots := 0, locals := 0 }
theorem ok_tw_isSmall {E : En} (hE : EOk E) {o : Nat} {M0 : Mem} (hM : TwS o M0) {p1 : Int32} {S : TS} {r : Int32} (h : tw_isSmall p1 S = some r) : CM E yX7_isSmall cX7_isSmall 2 (some .boolean) rm_tw_isSmall [rf E o, .int p1] (tw o S M0) (some (.int r)) (tw o S M0) := by
  unfold tw_isSmall at h
  refine CM_intro (own := RX7) rfl (by decide) (Nat.le_of_ble_eq_true rfl) rfl (fun G hG => ?_)
  obtain ⟨Q, eQ⟩ : ∃ Q, Q = QM E G (some (.int r)) (tw o S M0) 0 0 := ⟨_, rfl⟩
  show V E G (tw o S M0) 0 0 2 0 [(0, rf E o), (1, .int p1)] [] (QM E G (some (.int r)) (tw o S M0) 0 0)
  rw [← eQ]
  refine V_iload_n hG 1 rfl dX7_isSmall_0 ?_
  refine V_aload_n hG 0 rfl dX7_isSmall_1 ?_
  refine g7_172 hM hG dX7_isSmall_2 ?_
  obtain ⟨t_1, hj_3, h⟩ := bd_of h
  have J_2 : V E G (tw o S M0) 0 0 2 35 [(0, rf E o), (1, .int p1)] [.int t_1] Q := by
    obtain ⟨g_4, h⟩ := gd_of h
    cases h
    subst eQ
    exact V_zret hG g_4 dX7_isSmall_35
  refine V_icmp_ge hG 34 dX7_isSmall_5 (by decide) (fun c_5 => ?_) (fun c_5 => ?_)
  · have hj_3 := if_t c_5 hj_3
    refine V_iconst hG 0 rfl dX7_isSmall_34 ?_
    cases hj_3
    exact J_2
  · have hj_3 := if_f c_5 hj_3
    refine V_aload_n hG 0 rfl dX7_isSmall_8 ?_
    refine g7_7 hM hG dX7_isSmall_9 ?_
    refine V_iload_n hG 1 rfl dX7_isSmall_12 ?_
    obtain ⟨g_6, hj_3⟩ := gd_of hj_3
    refine T_iaload hM hG (by decide) g_6 dX7_isSmall_13 ?_
    refine V_bipush hG 97 (by decide) dX7_isSmall_14 ?_
    refine V_icmp_lt hG 34 dX7_isSmall_16 (by decide) (fun c_7 => ?_) (fun c_7 => ?_)
    · have hj_3 := if_t c_7 hj_3
      refine V_iconst hG 0 rfl dX7_isSmall_34 ?_
      cases hj_3
      exact J_2
    · have hj_3 := if_f c_7 hj_3
      refine V_aload_n hG 0 rfl dX7_isSmall_19 ?_
      refine g7_7 hM hG dX7_isSmall_20 ?_
      refine V_iload_n hG 1 rfl dX7_isSmall_23 ?_
      obtain ⟨g_8, hj_3⟩ := gd_of hj_3
      refine T_iaload hM hG (by decide) g_8 dX7_isSmall_24 ?_
      refine V_bipush hG 122 (by decide) dX7_isSmall_25 ?_
      refine V_icmp_gt hG 34 dX7_isSmall_27 (by decide) (fun c_9 => ?_) (fun c_9 => ?_)
      · have hj_3 := if_t c_9 hj_3
        refine V_iconst hG 0 rfl dX7_isSmall_34 ?_
        cases hj_3
        exact J_2
      · have hj_3 := if_f c_9 hj_3
        refine V_iconst hG 1 rfl dX7_isSmall_30 ?_
        refine V_goto hG 35 dX7_isSmall_31 (by decide) ?_
        cases hj_3
        exact J_2

def tw_packed_b1 (N : Nat) (p1 : Int32) (p2 : Int32) (S : TS) (x4_6 : Int32) (x3_7 : Int32) : Option ((Int32 × Int32) ⊕ (Int32 × Int32)) :=
if p1 + 6 ≤ x4_6 then (
some (.inl (x4_6, x3_7)))
else (
bd (if p2 ≤ x4_6 then (
some 0)
else (
gd (inb x4_6 (lenA 1)) (
some ((tI S 1 (Int32.toNatClampNeg x4_6)) - 96))) : Option (Int32)) fun (t_14 : Int32) =>
be ((x3_7 <<< (5 &&& 31)) ||| t_14) fun (x3_17 : Int32) =>
be (x4_6 + 1) fun (x4_18 : Int32) =>
some (.inr (x4_18, x3_17)))
def tw_packed (N : Nat) (p1 : Int32) (p2 : Int32) (S : TS) : Option (Int32) :=
bd2 (lp N (fun s_12 : Int32 × Int32 => tw_packed_b1 N p1 p2 S s_12.1 s_12.2) (p1, 0)) fun (x4_8 : Int32) (x3_9 : Int32) =>
some x3_9
def rm_tw_packed : Room := { frames := 0, cells := 0, slots := 0, locals := 0 }
theorem ok_tw_packed {E : En} (hE : EOk E) {o : Nat} {M0 : Mem} (hM : TwS o M0) {N : Nat} {p1 : Int32} {p2 : Int32} {S : TS} {r : Int32} (h : tw_packed N p1 p2 S = some r) : CM E yX7_packed cX7_packed 5 (some .int) rm_tw_packed [rf E o, .int p1, .int p2] (tw o S M0) (some (.int r)) (tw o S M0) := by
  unfold tw_packed at h
  refine CM_intro (own := RX7) rfl (by decide) (Nat.le_of_ble_eq_true rfl) rfl (fun G hG => ?_)
  obtain ⟨Q, eQ⟩ : ∃ Q, Q = QM E G (some (.int r)) (tw o S M0) 0 0 := ⟨_, rfl⟩
  show V E G (tw o S M0) 0 0 5 0 [(0, rf E o), (1, .int p1), (2, .int p2)] [] (QM E G (some (.int r)) (tw o S M0) 0 0)
  rw [← eQ]
  refine V_iconst hG 0 rfl dX7_packed_0 ?_
  refine V_istore_n hG rfl [(3, .int 0), (0, rf E o), (1, .int p1), (2, .int p2)] dX7_packed_1 (Nat.le_of_ble_eq_true rfl) rfl ?_
  refine V_iload_n hG 2 rfl dX7_packed_2 ?_
  refine V_istore hG [(4, .int p1), (3, .int 0), (0, rf E o), (1, .int p1), (2, .int p2)] dX7_packed_3 (Nat.le_of_ble_eq_true rfl) rfl ?_
  obtain ⟨x4_8, x3_9, hL_10, h⟩ := bd2_of h
  have J_5 : ∀ q_11 : Int32 × Int32, q_11 = (x4_8, x3_9) → V E G (tw o S M0) 0 0 5 45 [(4, .int q_11.1), (3, .int q_11.2), (0, rf E o), (1, .int p1), (2, .int p2)] [] Q := by
    intro q_11 e9
    subst q_11
    show V E G (tw o S M0) 0 0 5 45 [(4, .int x4_8), (3, .int x3_9), (0, rf E o), (1, .int p1), (2, .int p2)] [] Q
    refine V_iload_n hG 1 rfl dX7_packed_45 ?_
    cases h
    subst eQ
    exact V_iret hG dX7_packed_46
  refine lp_walk (W := fun s_12 : Int32 × Int32 => V E G (tw o S M0) 0 0 5 5 [(4, .int s_12.1), (3, .int s_12.2), (0, rf E o), (1, .int p1), (2, .int p2)] [] Q) ?_ N (p1, 0) hL_10
  intro s_12 b_1 hb_2 hk_3 hx_4
  obtain ⟨x4_6, x3_7⟩ := s_12
  have hb_2 : tw_packed_b1 N p1 p2 S x4_6 x3_7 = some b_1 := hb_2
  unfold tw_packed_b1 at hb_2
  show V E G (tw o S M0) 0 0 5 5 [(4, .int x4_6), (3, .int x3_7), (0, rf E o), (1, .int p1), (2, .int p2)] [] Q
  refine V_iload hG 0 rfl dX7_packed_5 ?_
  refine V_iload_n hG 3 rfl dX7_packed_7 ?_
  refine V_bipush hG 6 (by decide) dX7_packed_8 ?_
  refine V_iadd hG dX7_packed_10 ?_
  refine V_icmp_ge hG 45 dX7_packed_11 (by decide) (fun c_13 => ?_) (fun c_13 => ?_)
  · have hb_2 := if_t c_13 hb_2
    cases hb_2
    exact J_5 _ (hx_4 _ rfl)
  · have hb_2 := if_f c_13 hb_2
    refine V_iload_n hG 1 rfl dX7_packed_14 ?_
    refine V_iconst hG 5 rfl dX7_packed_15 ?_
    refine V_ishl hG dX7_packed_16 ?_
    refine V_iload hG 0 rfl dX7_packed_17 ?_
    refine V_iload_n hG 4 rfl dX7_packed_19 ?_
    obtain ⟨t_14, hj_16, hb_2⟩ := bd_of hb_2
    have J_15 : V E G (tw o S M0) 0 0 5 37 [(4, .int x4_6), (3, .int x3_7), (0, rf E o), (1, .int p1), (2, .int p2)] [.int t_14, .int (x3_7 <<< (5 &&& 31))] Q := by
      refine V_ior hG dX7_packed_37 ?_
      obtain ⟨x3_17, ex3_17, hb_2⟩ := be_of hb_2
      refine V_topi ex3_17 ?_
      refine V_istore_n hG rfl [(3, .int x3_17), (4, .int x4_6), (0, rf E o), (1, .int p1), (2, .int p2)] dX7_packed_38 (Nat.le_of_ble_eq_true rfl) rfl ?_
      obtain ⟨x4_18, ex4_18, hb_2⟩ := be_of hb_2
      refine V_iinc hG 1 x4_18 rfl (by rw [ex4_18]; rfl) [(4, .int x4_18), (3, .int x3_17), (0, rf E o), (1, .int p1), (2, .int p2)] dX7_packed_39 (Nat.le_of_ble_eq_true rfl) rfl ?_
      refine V_goto hG 5 dX7_packed_42 (by decide) ?_
      cases hb_2
      exact hk_3 _ rfl
    refine V_icmp_ge hG 36 dX7_packed_20 (by decide) (fun c_19 => ?_) (fun c_19 => ?_)
    · have hj_16 := if_t c_19 hj_16
      refine V_iconst hG 0 rfl dX7_packed_36 ?_
      cases hj_16
      exact J_15
    · have hj_16 := if_f c_19 hj_16
      refine V_aload_n hG 2 rfl dX7_packed_23 ?_
      refine g7_7 hM hG dX7_packed_24 ?_
      refine V_iload hG 0 rfl dX7_packed_27 ?_
      obtain ⟨g_20, hj_16⟩ := gd_of hj_16
      refine T_iaload hM hG (by decide) g_20 dX7_packed_29 ?_
      refine V_bipush hG 96 (by decide) dX7_packed_30 ?_
      refine V_isub hG dX7_packed_32 ?_
      refine V_goto hG 37 dX7_packed_33 (by decide) ?_
      cases hj_16
      exact J_15

def tw_signToken  (S : TS) : Option (TS) :=
gd (inb (tI S 0 7) (lenA 1)) (
be (tsI S 0 9 (tI S 1 (Int32.toNatClampNeg (tI S 0 7)))) fun S_2 =>
be (tsI S_2 0 7 ((tI S_2 0 7) + 1)) fun S_3 =>
bd2 (if tI S_3 0 9 = 60 then (
bd (if tI S_3 0 6 ≤ tI S_3 0 7 then (
some 0)
else (
gd (inb (tI S_3 0 7) (lenA 1)) (
some (tI S_3 1 (Int32.toNatClampNeg (tI S_3 0 7))))) : Option (Int32)) fun (t_9 : Int32) =>
be (if tI S_3 0 9 = 61 then (
0)
else (
if t_9 = 61 then (
1)
else (
0)) : Int32) fun (y_16 : Int32) =>
be (if tI S_3 0 9 = 60 then (
if t_9 = 62 then (
1)
else (
0))
else (
0) : Int32) fun (y_21 : Int32) =>
bd (if y_16 = 0 then (
if y_21 = 0 then (
some S_3)
else (
be (tsI S_3 0 7 ((tI S_3 0 7) + 1)) fun S_38 =>
some S_38))
else (
be (tsI S_3 0 7 ((tI S_3 0 7) + 1)) fun S_36 =>
some S_36) : Option (TS)) fun (S_22 : TS) =>
be (tsI S_22 0 8 5) fun S_25 =>
be (if tI S_25 0 9 = 61 then (
2)
else (
if tI S_25 0 9 = 60 then (
if y_16 = 0 then (
if y_21 = 0 then (
0)
else (
3))
else (
1))
else (
if y_16 = 0 then (
5)
else (
4))) : Int32) fun (y_33 : Int32) =>
be (tsI S_25 0 9 y_33) fun S_34 =>
some (t_9, S_34))
else (
if tI S_3 0 9 = 62 then (
bd (if tI S_3 0 6 ≤ tI S_3 0 7 then (
some 0)
else (
gd (inb (tI S_3 0 7) (lenA 1)) (
some (tI S_3 1 (Int32.toNatClampNeg (tI S_3 0 7))))) : Option (Int32)) fun (t_42 : Int32) =>
be (if tI S_3 0 9 = 61 then (
0)
else (
if t_42 = 61 then (
1)
else (
0)) : Int32) fun (y_49 : Int32) =>
be (if tI S_3 0 9 = 60 then (
if t_42 = 62 then (
1)
else (
0))
else (
0) : Int32) fun (y_54 : Int32) =>
bd (if y_49 = 0 then (
if y_54 = 0 then (
some S_3)
else (
be (tsI S_3 0 7 ((tI S_3 0 7) + 1)) fun S_71 =>
some S_71))
else (
be (tsI S_3 0 7 ((tI S_3 0 7) + 1)) fun S_69 =>
some S_69) : Option (TS)) fun (S_55 : TS) =>
be (tsI S_55 0 8 5) fun S_58 =>
be (if tI S_58 0 9 = 61 then (
2)
else (
if tI S_58 0 9 = 60 then (
if y_49 = 0 then (
if y_54 = 0 then (
0)
else (
3))
else (
1))
else (
if y_49 = 0 then (
5)
else (
4))) : Int32) fun (y_66 : Int32) =>
be (tsI S_58 0 9 y_66) fun S_67 =>
some (t_42, S_67))
else (
if tI S_3 0 9 = 61 then (
bd (if tI S_3 0 6 ≤ tI S_3 0 7 then (
some 0)
else (
gd (inb (tI S_3 0 7) (lenA 1)) (
some (tI S_3 1 (Int32.toNatClampNeg (tI S_3 0 7))))) : Option (Int32)) fun (t_91 : Int32) =>
be (if tI S_3 0 9 = 61 then (
0)
else (
if t_91 = 61 then (
1)
else (
0)) : Int32) fun (y_98 : Int32) =>
be (if tI S_3 0 9 = 60 then (
if t_91 = 62 then (
1)
else (
0))
else (
0) : Int32) fun (y_103 : Int32) =>
bd (if y_98 = 0 then (
if y_103 = 0 then (
some S_3)
else (
be (tsI S_3 0 7 ((tI S_3 0 7) + 1)) fun S_120 =>
some S_120))
else (
be (tsI S_3 0 7 ((tI S_3 0 7) + 1)) fun S_118 =>
some S_118) : Option (TS)) fun (S_104 : TS) =>
be (tsI S_104 0 8 5) fun S_107 =>
be (if tI S_107 0 9 = 61 then (
2)
else (
if tI S_107 0 9 = 60 then (
if y_98 = 0 then (
if y_103 = 0 then (
0)
else (
3))
else (
1))
else (
if y_98 = 0 then (
5)
else (
4))) : Int32) fun (y_115 : Int32) =>
be (tsI S_107 0 9 y_115) fun S_116 =>
some (t_91, S_116))
else (
be (if tI S_3 0 9 = 59 then (
1)
else (
if tI S_3 0 9 = 40 then (
1)
else (
if tI S_3 0 9 = 41 then (
1)
else (
if tI S_3 0 9 = 43 then (
1)
else (
if tI S_3 0 9 = 45 then (
1)
else (
if tI S_3 0 9 = 42 then (
1)
else (
if tI S_3 0 9 = 47 then (
1)
else (
if tI S_3 0 9 = 37 then (
1)
else (
0)))))))) : Int32) fun (y_85 : Int32) =>
be (if y_85 = 0 then (
6)
else (
4) : Int32) fun (y_89 : Int32) =>
be (tsI S_3 0 8 y_89) fun S_90 =>
some (y_85, S_90)))) : Option (Int32 × TS)) fun (x1_4 : Int32) (S_5 : TS) =>
some S_5)
def rm_tw_signToken : Room := { frames := 0, cells := 0, slots := 0, locals := 0 }
theorem ok_tw_signToken {E : En} (hE : EOk E) {o : Nat} {M0 : Mem} (hM : TwS o M0)  {S : TS}  {S' : TS} (h : tw_signToken  S = some S') : CM E yX7_signToken cX7_signToken 4 none rm_tw_signToken [rf E o] (tw o S M0) none (tw o S' M0) := by
  unfold tw_signToken at h
  refine CM_intro (own := RX7) rfl (by decide) (Nat.le_of_ble_eq_true rfl) rfl (fun G hG => ?_)
  obtain ⟨Q, eQ⟩ : ∃ Q, Q = QM E G none (tw o S' M0) 0 0 := ⟨_, rfl⟩
  show V E G (tw o S M0) 0 0 4 0 [(0, rf E o)] [] (QM E G none (tw o S' M0) 0 0)
  rw [← eQ]
  refine V_aload_n hG 0 rfl dX7_signToken_0 ?_
  refine V_aload_n hG 0 rfl dX7_signToken_1 ?_
  refine g7_7 hM hG dX7_signToken_2 ?_
  refine V_aload_n hG 0 rfl dX7_signToken_5 ?_
  refine g7_175 hM hG dX7_signToken_6 ?_
  obtain ⟨g_1, h⟩ := gd_of h
  refine T_iaload hM hG (by decide) g_1 dX7_signToken_9 ?_
  obtain ⟨S_2, eS_2, h⟩ := be_of h
  refine p7_189 hM hG eS_2 dX7_signToken_10 ?_
  refine V_aload_n hG 0 rfl dX7_signToken_13 ?_
  refine V_dup hG rfl dX7_signToken_14 ?_
  refine g7_175 hM hG dX7_signToken_15 ?_
  refine V_iconst hG 1 rfl dX7_signToken_18 ?_
  refine V_iadd hG dX7_signToken_19 ?_
  obtain ⟨S_3, eS_3, h⟩ := be_of h
  refine p7_175 hM hG eS_3 dX7_signToken_20 ?_
  refine V_aload_n hG 0 rfl dX7_signToken_23 ?_
  refine g7_189 hM hG dX7_signToken_24 ?_
  refine V_bipush hG 60 (by decide) dX7_signToken_27 ?_
  obtain ⟨x1_4, S_5, hj_7, h⟩ := bd2_of h
  have J_6 : V E G (tw o S_5 M0) 0 0 4 290 [(1, .int x1_4), (0, rf E o)] [] Q := by
    cases h
    subst eQ
    exact V_vret hG dX7_signToken_290
  refine V_icmp_eq hG 50 dX7_signToken_29 (by decide) (fun c_8 => ?_) (fun c_8 => ?_)
  · have hj_7 := if_t c_8 hj_7
    refine V_aload_n hG 0 rfl dX7_signToken_50 ?_
    refine g7_175 hM hG dX7_signToken_51 ?_
    refine V_aload_n hG 0 rfl dX7_signToken_54 ?_
    refine g7_172 hM hG dX7_signToken_55 ?_
    obtain ⟨t_9, hj_11, hj_7⟩ := bd_of hj_7
    have J_10 : V E G (tw o S_3 M0) 0 0 4 74 [(0, rf E o)] [.int t_9] Q := by
      refine V_istore_n hG rfl [(1, .int t_9), (0, rf E o)] dX7_signToken_74 (Nat.le_of_ble_eq_true rfl) rfl ?_
      refine V_aload_n hG 1 rfl dX7_signToken_75 ?_
      refine g7_189 hM hG dX7_signToken_76 ?_
      refine V_bipush hG 61 (by decide) dX7_signToken_79 ?_
      obtain ⟨t_12, et_12, hj_7⟩ := be_of hj_7
      have J_13 : ∀ y_16 : Int32, y_16 = t_12 → V E G (tw o S_3 M0) 0 0 4 95 [(1, .int t_9), (0, rf E o)] [.int y_16] Q := by
        intro y_16 ey
        subst ey
        refine V_istore_n hG rfl [(2, .int y_16), (1, .int t_9), (0, rf E o)] dX7_signToken_95 (Nat.le_of_ble_eq_true rfl) rfl ?_
        refine V_aload_n hG 2 rfl dX7_signToken_96 ?_
        refine g7_189 hM hG dX7_signToken_97 ?_
        refine V_bipush hG 60 (by decide) dX7_signToken_100 ?_
        obtain ⟨t_17, et_17, hj_7⟩ := be_of hj_7
        have J_18 : ∀ y_21 : Int32, y_21 = t_17 → V E G (tw o S_3 M0) 0 0 4 116 [(2, .int y_16), (1, .int t_9), (0, rf E o)] [.int y_21] Q := by
          intro y_21 ey
          subst ey
          refine V_istore_n hG rfl [(3, .int y_21), (2, .int y_16), (1, .int t_9), (0, rf E o)] dX7_signToken_116 (Nat.le_of_ble_eq_true rfl) rfl ?_
          refine V_iload_n hG 1 rfl dX7_signToken_117 ?_
          obtain ⟨S_22, hj_24, hj_7⟩ := bd_of hj_7
          have J_23 : V E G (tw o S_22 M0) 0 0 4 135 [(3, .int y_21), (2, .int y_16), (1, .int t_9), (0, rf E o)] [] Q := by
            refine V_aload_n hG 3 rfl dX7_signToken_135 ?_
            refine V_iconst hG 5 rfl dX7_signToken_136 ?_
            obtain ⟨S_25, eS_25, hj_7⟩ := be_of hj_7
            refine p7_178 hM hG eS_25 dX7_signToken_137 ?_
            refine V_aload_n hG 3 rfl dX7_signToken_140 ?_
            refine V_aload_n hG 3 rfl dX7_signToken_141 ?_
            refine g7_189 hM hG dX7_signToken_142 ?_
            refine V_bipush hG 61 (by decide) dX7_signToken_145 ?_
            obtain ⟨t_26, et_26, hj_7⟩ := be_of hj_7
            have J_27 : ∀ y_33 : Int32, y_33 = t_26 → V E G (tw o S_25 M0) 0 0 4 192 [(3, .int y_21), (2, .int y_16), (1, .int t_9), (0, rf E o)] [.int y_33, rf E o] Q := by
              intro y_33 ey
              subst ey
              obtain ⟨S_34, eS_34, hj_7⟩ := be_of hj_7
              refine p7_189 hM hG eS_34 dX7_signToken_192 ?_
              refine V_goto hG 290 dX7_signToken_195 (by decide) ?_
              cases hj_7
              exact V_lv [2, 3] rfl (J_6)
            refine V_icmp_ne hG 154 dX7_signToken_147 (by decide) (fun c_28 => ?_) (fun c_28 => ?_)
            · refine V_aload_n hG 3 rfl dX7_signToken_154 ?_
              refine g7_189 hM hG dX7_signToken_155 ?_
              refine V_bipush hG 60 (by decide) dX7_signToken_158 ?_
              refine V_icmp_ne hG 183 dX7_signToken_160 (by decide) (fun c_29 => ?_) (fun c_29 => ?_)
              · refine V_iload_n hG 1 rfl dX7_signToken_183 ?_
                refine V_if_eq hG 191 dX7_signToken_184 (by decide) (fun c_30 => ?_) (fun c_30 => ?_)
                · refine V_iconst hG 5 rfl dX7_signToken_191 ?_
                  exact J_27 _ (by rw [et_26, if_neg c_28, if_neg c_29, if_pos c_30])
                · refine V_iconst hG 4 rfl dX7_signToken_187 ?_
                  refine V_goto hG 192 dX7_signToken_188 (by decide) ?_
                  exact J_27 _ (by rw [et_26, if_neg c_28, if_neg c_29, if_neg c_30])
              · refine V_iload_n hG 1 rfl dX7_signToken_163 ?_
                refine V_if_eq hG 171 dX7_signToken_164 (by decide) (fun c_31 => ?_) (fun c_31 => ?_)
                · refine V_iload_n hG 0 rfl dX7_signToken_171 ?_
                  refine V_if_eq hG 179 dX7_signToken_172 (by decide) (fun c_32 => ?_) (fun c_32 => ?_)
                  · refine V_iconst hG 0 rfl dX7_signToken_179 ?_
                    refine V_goto hG 192 dX7_signToken_180 (by decide) ?_
                    exact J_27 _ (by rw [et_26, if_neg c_28, if_pos c_29, if_pos c_31, if_pos c_32])
                  · refine V_iconst hG 3 rfl dX7_signToken_175 ?_
                    refine V_goto hG 192 dX7_signToken_176 (by decide) ?_
                    exact J_27 _ (by rw [et_26, if_neg c_28, if_pos c_29, if_pos c_31, if_neg c_32])
                · refine V_iconst hG 1 rfl dX7_signToken_167 ?_
                  refine V_goto hG 192 dX7_signToken_168 (by decide) ?_
                  exact J_27 _ (by rw [et_26, if_neg c_28, if_pos c_29, if_neg c_31])
            · refine V_iconst hG 2 rfl dX7_signToken_150 ?_
              refine V_goto hG 192 dX7_signToken_151 (by decide) ?_
              exact J_27 _ (by rw [et_26, if_pos c_28])
          refine V_if_ne hG 125 dX7_signToken_118 (by decide) (fun c_35 => ?_) (fun c_35 => ?_)
          · have hj_24 := if_f c_35 hj_24
            refine V_aload_n hG 3 rfl dX7_signToken_125 ?_
            refine V_dup hG rfl dX7_signToken_126 ?_
            refine g7_175 hM hG dX7_signToken_127 ?_
            refine V_iconst hG 1 rfl dX7_signToken_130 ?_
            refine V_iadd hG dX7_signToken_131 ?_
            obtain ⟨S_36, eS_36, hj_24⟩ := be_of hj_24
            refine p7_175 hM hG eS_36 dX7_signToken_132 ?_
            cases hj_24
            exact J_23
          · have hj_24 := if_t c_35 hj_24
            refine V_iload_n hG 0 rfl dX7_signToken_121 ?_
            refine V_if_eq hG 135 dX7_signToken_122 (by decide) (fun c_37 => ?_) (fun c_37 => ?_)
            · have hj_24 := if_t c_37 hj_24
              cases hj_24
              exact J_23
            · have hj_24 := if_f c_37 hj_24
              refine V_aload_n hG 3 rfl dX7_signToken_125 ?_
              refine V_dup hG rfl dX7_signToken_126 ?_
              refine g7_175 hM hG dX7_signToken_127 ?_
              refine V_iconst hG 1 rfl dX7_signToken_130 ?_
              refine V_iadd hG dX7_signToken_131 ?_
              obtain ⟨S_38, eS_38, hj_24⟩ := be_of hj_24
              refine p7_175 hM hG eS_38 dX7_signToken_132 ?_
              cases hj_24
              exact J_23
        refine V_icmp_ne hG 115 dX7_signToken_102 (by decide) (fun c_19 => ?_) (fun c_19 => ?_)
        · refine V_iconst hG 0 rfl dX7_signToken_115 ?_
          exact J_18 _ (by rw [et_17, if_neg c_19])
        · refine V_iload_n hG 1 rfl dX7_signToken_105 ?_
          refine V_bipush hG 62 (by decide) dX7_signToken_106 ?_
          refine V_icmp_ne hG 115 dX7_signToken_108 (by decide) (fun c_20 => ?_) (fun c_20 => ?_)
          · refine V_iconst hG 0 rfl dX7_signToken_115 ?_
            exact J_18 _ (by rw [et_17, if_pos c_19, if_neg c_20])
          · refine V_iconst hG 1 rfl dX7_signToken_111 ?_
            refine V_goto hG 116 dX7_signToken_112 (by decide) ?_
            exact J_18 _ (by rw [et_17, if_pos c_19, if_pos c_20])
      refine V_icmp_eq hG 94 dX7_signToken_81 (by decide) (fun c_14 => ?_) (fun c_14 => ?_)
      · refine V_iconst hG 0 rfl dX7_signToken_94 ?_
        exact J_13 _ (by rw [et_12, if_pos c_14])
      · refine V_iload_n hG 0 rfl dX7_signToken_84 ?_
        refine V_bipush hG 61 (by decide) dX7_signToken_85 ?_
        refine V_icmp_ne hG 94 dX7_signToken_87 (by decide) (fun c_15 => ?_) (fun c_15 => ?_)
        · refine V_iconst hG 0 rfl dX7_signToken_94 ?_
          exact J_13 _ (by rw [et_12, if_neg c_14, if_neg c_15])
        · refine V_iconst hG 1 rfl dX7_signToken_90 ?_
          refine V_goto hG 95 dX7_signToken_91 (by decide) ?_
          exact J_13 _ (by rw [et_12, if_neg c_14, if_pos c_15])
    refine V_icmp_ge hG 73 dX7_signToken_58 (by decide) (fun c_39 => ?_) (fun c_39 => ?_)
    · have hj_11 := if_t c_39 hj_11
      refine V_iconst hG 0 rfl dX7_signToken_73 ?_
      cases hj_11
      exact J_10
    · have hj_11 := if_f c_39 hj_11
      refine V_aload_n hG 0 rfl dX7_signToken_61 ?_
      refine g7_7 hM hG dX7_signToken_62 ?_
      refine V_aload_n hG 0 rfl dX7_signToken_65 ?_
      refine g7_175 hM hG dX7_signToken_66 ?_
      obtain ⟨g_40, hj_11⟩ := gd_of hj_11
      refine T_iaload hM hG (by decide) g_40 dX7_signToken_69 ?_
      refine V_goto hG 74 dX7_signToken_70 (by decide) ?_
      cases hj_11
      exact J_10
  · have hj_7 := if_f c_8 hj_7
    refine V_aload_n hG 0 rfl dX7_signToken_32 ?_
    refine g7_189 hM hG dX7_signToken_33 ?_
    refine V_bipush hG 62 (by decide) dX7_signToken_36 ?_
    refine V_icmp_eq hG 50 dX7_signToken_38 (by decide) (fun c_41 => ?_) (fun c_41 => ?_)
    · have hj_7 := if_t c_41 hj_7
      refine V_aload_n hG 0 rfl dX7_signToken_50 ?_
      refine g7_175 hM hG dX7_signToken_51 ?_
      refine V_aload_n hG 0 rfl dX7_signToken_54 ?_
      refine g7_172 hM hG dX7_signToken_55 ?_
      obtain ⟨t_42, hj_44, hj_7⟩ := bd_of hj_7
      have J_43 : V E G (tw o S_3 M0) 0 0 4 74 [(0, rf E o)] [.int t_42] Q := by
        refine V_istore_n hG rfl [(1, .int t_42), (0, rf E o)] dX7_signToken_74 (Nat.le_of_ble_eq_true rfl) rfl ?_
        refine V_aload_n hG 1 rfl dX7_signToken_75 ?_
        refine g7_189 hM hG dX7_signToken_76 ?_
        refine V_bipush hG 61 (by decide) dX7_signToken_79 ?_
        obtain ⟨t_45, et_45, hj_7⟩ := be_of hj_7
        have J_46 : ∀ y_49 : Int32, y_49 = t_45 → V E G (tw o S_3 M0) 0 0 4 95 [(1, .int t_42), (0, rf E o)] [.int y_49] Q := by
          intro y_49 ey
          subst ey
          refine V_istore_n hG rfl [(2, .int y_49), (1, .int t_42), (0, rf E o)] dX7_signToken_95 (Nat.le_of_ble_eq_true rfl) rfl ?_
          refine V_aload_n hG 2 rfl dX7_signToken_96 ?_
          refine g7_189 hM hG dX7_signToken_97 ?_
          refine V_bipush hG 60 (by decide) dX7_signToken_100 ?_
          obtain ⟨t_50, et_50, hj_7⟩ := be_of hj_7
          have J_51 : ∀ y_54 : Int32, y_54 = t_50 → V E G (tw o S_3 M0) 0 0 4 116 [(2, .int y_49), (1, .int t_42), (0, rf E o)] [.int y_54] Q := by
            intro y_54 ey
            subst ey
            refine V_istore_n hG rfl [(3, .int y_54), (2, .int y_49), (1, .int t_42), (0, rf E o)] dX7_signToken_116 (Nat.le_of_ble_eq_true rfl) rfl ?_
            refine V_iload_n hG 1 rfl dX7_signToken_117 ?_
            obtain ⟨S_55, hj_57, hj_7⟩ := bd_of hj_7
            have J_56 : V E G (tw o S_55 M0) 0 0 4 135 [(3, .int y_54), (2, .int y_49), (1, .int t_42), (0, rf E o)] [] Q := by
              refine V_aload_n hG 3 rfl dX7_signToken_135 ?_
              refine V_iconst hG 5 rfl dX7_signToken_136 ?_
              obtain ⟨S_58, eS_58, hj_7⟩ := be_of hj_7
              refine p7_178 hM hG eS_58 dX7_signToken_137 ?_
              refine V_aload_n hG 3 rfl dX7_signToken_140 ?_
              refine V_aload_n hG 3 rfl dX7_signToken_141 ?_
              refine g7_189 hM hG dX7_signToken_142 ?_
              refine V_bipush hG 61 (by decide) dX7_signToken_145 ?_
              obtain ⟨t_59, et_59, hj_7⟩ := be_of hj_7
              have J_60 : ∀ y_66 : Int32, y_66 = t_59 → V E G (tw o S_58 M0) 0 0 4 192 [(3, .int y_54), (2, .int y_49), (1, .int t_42), (0, rf E o)] [.int y_66, rf E o] Q := by
                intro y_66 ey
                subst ey
                obtain ⟨S_67, eS_67, hj_7⟩ := be_of hj_7
                refine p7_189 hM hG eS_67 dX7_signToken_192 ?_
                refine V_goto hG 290 dX7_signToken_195 (by decide) ?_
                cases hj_7
                exact V_lv [2, 3] rfl (J_6)
              refine V_icmp_ne hG 154 dX7_signToken_147 (by decide) (fun c_61 => ?_) (fun c_61 => ?_)
              · refine V_aload_n hG 3 rfl dX7_signToken_154 ?_
                refine g7_189 hM hG dX7_signToken_155 ?_
                refine V_bipush hG 60 (by decide) dX7_signToken_158 ?_
                refine V_icmp_ne hG 183 dX7_signToken_160 (by decide) (fun c_62 => ?_) (fun c_62 => ?_)
                · refine V_iload_n hG 1 rfl dX7_signToken_183 ?_
                  refine V_if_eq hG 191 dX7_signToken_184 (by decide) (fun c_63 => ?_) (fun c_63 => ?_)
                  · refine V_iconst hG 5 rfl dX7_signToken_191 ?_
                    exact J_60 _ (by rw [et_59, if_neg c_61, if_neg c_62, if_pos c_63])
                  · refine V_iconst hG 4 rfl dX7_signToken_187 ?_
                    refine V_goto hG 192 dX7_signToken_188 (by decide) ?_
                    exact J_60 _ (by rw [et_59, if_neg c_61, if_neg c_62, if_neg c_63])
                · refine V_iload_n hG 1 rfl dX7_signToken_163 ?_
                  refine V_if_eq hG 171 dX7_signToken_164 (by decide) (fun c_64 => ?_) (fun c_64 => ?_)
                  · refine V_iload_n hG 0 rfl dX7_signToken_171 ?_
                    refine V_if_eq hG 179 dX7_signToken_172 (by decide) (fun c_65 => ?_) (fun c_65 => ?_)
                    · refine V_iconst hG 0 rfl dX7_signToken_179 ?_
                      refine V_goto hG 192 dX7_signToken_180 (by decide) ?_
                      exact J_60 _ (by rw [et_59, if_neg c_61, if_pos c_62, if_pos c_64, if_pos c_65])
                    · refine V_iconst hG 3 rfl dX7_signToken_175 ?_
                      refine V_goto hG 192 dX7_signToken_176 (by decide) ?_
                      exact J_60 _ (by rw [et_59, if_neg c_61, if_pos c_62, if_pos c_64, if_neg c_65])
                  · refine V_iconst hG 1 rfl dX7_signToken_167 ?_
                    refine V_goto hG 192 dX7_signToken_168 (by decide) ?_
                    exact J_60 _ (by rw [et_59, if_neg c_61, if_pos c_62, if_neg c_64])
              · refine V_iconst hG 2 rfl dX7_signToken_150 ?_
                refine V_goto hG 192 dX7_signToken_151 (by decide) ?_
                exact J_60 _ (by rw [et_59, if_pos c_61])
            refine V_if_ne hG 125 dX7_signToken_118 (by decide) (fun c_68 => ?_) (fun c_68 => ?_)
            · have hj_57 := if_f c_68 hj_57
              refine V_aload_n hG 3 rfl dX7_signToken_125 ?_
              refine V_dup hG rfl dX7_signToken_126 ?_
              refine g7_175 hM hG dX7_signToken_127 ?_
              refine V_iconst hG 1 rfl dX7_signToken_130 ?_
              refine V_iadd hG dX7_signToken_131 ?_
              obtain ⟨S_69, eS_69, hj_57⟩ := be_of hj_57
              refine p7_175 hM hG eS_69 dX7_signToken_132 ?_
              cases hj_57
              exact J_56
            · have hj_57 := if_t c_68 hj_57
              refine V_iload_n hG 0 rfl dX7_signToken_121 ?_
              refine V_if_eq hG 135 dX7_signToken_122 (by decide) (fun c_70 => ?_) (fun c_70 => ?_)
              · have hj_57 := if_t c_70 hj_57
                cases hj_57
                exact J_56
              · have hj_57 := if_f c_70 hj_57
                refine V_aload_n hG 3 rfl dX7_signToken_125 ?_
                refine V_dup hG rfl dX7_signToken_126 ?_
                refine g7_175 hM hG dX7_signToken_127 ?_
                refine V_iconst hG 1 rfl dX7_signToken_130 ?_
                refine V_iadd hG dX7_signToken_131 ?_
                obtain ⟨S_71, eS_71, hj_57⟩ := be_of hj_57
                refine p7_175 hM hG eS_71 dX7_signToken_132 ?_
                cases hj_57
                exact J_56
          refine V_icmp_ne hG 115 dX7_signToken_102 (by decide) (fun c_52 => ?_) (fun c_52 => ?_)
          · refine V_iconst hG 0 rfl dX7_signToken_115 ?_
            exact J_51 _ (by rw [et_50, if_neg c_52])
          · refine V_iload_n hG 1 rfl dX7_signToken_105 ?_
            refine V_bipush hG 62 (by decide) dX7_signToken_106 ?_
            refine V_icmp_ne hG 115 dX7_signToken_108 (by decide) (fun c_53 => ?_) (fun c_53 => ?_)
            · refine V_iconst hG 0 rfl dX7_signToken_115 ?_
              exact J_51 _ (by rw [et_50, if_pos c_52, if_neg c_53])
            · refine V_iconst hG 1 rfl dX7_signToken_111 ?_
              refine V_goto hG 116 dX7_signToken_112 (by decide) ?_
              exact J_51 _ (by rw [et_50, if_pos c_52, if_pos c_53])
        refine V_icmp_eq hG 94 dX7_signToken_81 (by decide) (fun c_47 => ?_) (fun c_47 => ?_)
        · refine V_iconst hG 0 rfl dX7_signToken_94 ?_
          exact J_46 _ (by rw [et_45, if_pos c_47])
        · refine V_iload_n hG 0 rfl dX7_signToken_84 ?_
          refine V_bipush hG 61 (by decide) dX7_signToken_85 ?_
          refine V_icmp_ne hG 94 dX7_signToken_87 (by decide) (fun c_48 => ?_) (fun c_48 => ?_)
          · refine V_iconst hG 0 rfl dX7_signToken_94 ?_
            exact J_46 _ (by rw [et_45, if_neg c_47, if_neg c_48])
          · refine V_iconst hG 1 rfl dX7_signToken_90 ?_
            refine V_goto hG 95 dX7_signToken_91 (by decide) ?_
            exact J_46 _ (by rw [et_45, if_neg c_47, if_pos c_48])
      refine V_icmp_ge hG 73 dX7_signToken_58 (by decide) (fun c_72 => ?_) (fun c_72 => ?_)
      · have hj_44 := if_t c_72 hj_44
        refine V_iconst hG 0 rfl dX7_signToken_73 ?_
        cases hj_44
        exact J_43
      · have hj_44 := if_f c_72 hj_44
        refine V_aload_n hG 0 rfl dX7_signToken_61 ?_
        refine g7_7 hM hG dX7_signToken_62 ?_
        refine V_aload_n hG 0 rfl dX7_signToken_65 ?_
        refine g7_175 hM hG dX7_signToken_66 ?_
        obtain ⟨g_73, hj_44⟩ := gd_of hj_44
        refine T_iaload hM hG (by decide) g_73 dX7_signToken_69 ?_
        refine V_goto hG 74 dX7_signToken_70 (by decide) ?_
        cases hj_44
        exact J_43
    · have hj_7 := if_f c_41 hj_7
      refine V_aload_n hG 0 rfl dX7_signToken_41 ?_
      refine g7_189 hM hG dX7_signToken_42 ?_
      refine V_bipush hG 61 (by decide) dX7_signToken_45 ?_
      refine V_icmp_ne hG 198 dX7_signToken_47 (by decide) (fun c_74 => ?_) (fun c_74 => ?_)
      · have hj_7 := if_f c_74 hj_7
        refine V_aload_n hG 0 rfl dX7_signToken_198 ?_
        refine g7_189 hM hG dX7_signToken_199 ?_
        refine V_bipush hG 59 (by decide) dX7_signToken_202 ?_
        obtain ⟨t_75, et_75, hj_7⟩ := be_of hj_7
        have J_76 : ∀ y_85 : Int32, y_85 = t_75 → V E G (tw o S_3 M0) 0 0 4 275 [(0, rf E o)] [.int y_85] Q := by
          intro y_85 ey
          subst ey
          refine V_istore_n hG rfl [(1, .int y_85), (0, rf E o)] dX7_signToken_275 (Nat.le_of_ble_eq_true rfl) rfl ?_
          refine V_aload_n hG 1 rfl dX7_signToken_276 ?_
          refine V_iload_n hG 0 rfl dX7_signToken_277 ?_
          obtain ⟨t_86, et_86, hj_7⟩ := be_of hj_7
          have J_87 : ∀ y_89 : Int32, y_89 = t_86 → V E G (tw o S_3 M0) 0 0 4 287 [(1, .int y_85), (0, rf E o)] [.int y_89, rf E o] Q := by
            intro y_89 ey
            subst ey
            obtain ⟨S_90, eS_90, hj_7⟩ := be_of hj_7
            refine p7_178 hM hG eS_90 dX7_signToken_287 ?_
            cases hj_7
            exact J_6
          refine V_if_eq hG 285 dX7_signToken_278 (by decide) (fun c_88 => ?_) (fun c_88 => ?_)
          · refine V_bipush hG 6 (by decide) dX7_signToken_285 ?_
            exact J_87 _ (by rw [et_86, if_pos c_88])
          · refine V_iconst hG 4 rfl dX7_signToken_281 ?_
            refine V_goto hG 287 dX7_signToken_282 (by decide) ?_
            exact J_87 _ (by rw [et_86, if_neg c_88])
        refine V_icmp_eq hG 270 dX7_signToken_204 (by decide) (fun c_77 => ?_) (fun c_77 => ?_)
        · refine V_iconst hG 1 rfl dX7_signToken_270 ?_
          refine V_goto hG 275 dX7_signToken_271 (by decide) ?_
          exact J_76 _ (by rw [et_75, if_pos c_77])
        · refine V_aload_n hG 0 rfl dX7_signToken_207 ?_
          refine g7_189 hM hG dX7_signToken_208 ?_
          refine V_bipush hG 40 (by decide) dX7_signToken_211 ?_
          refine V_icmp_eq hG 270 dX7_signToken_213 (by decide) (fun c_78 => ?_) (fun c_78 => ?_)
          · refine V_iconst hG 1 rfl dX7_signToken_270 ?_
            refine V_goto hG 275 dX7_signToken_271 (by decide) ?_
            exact J_76 _ (by rw [et_75, if_neg c_77, if_pos c_78])
          · refine V_aload_n hG 0 rfl dX7_signToken_216 ?_
            refine g7_189 hM hG dX7_signToken_217 ?_
            refine V_bipush hG 41 (by decide) dX7_signToken_220 ?_
            refine V_icmp_eq hG 270 dX7_signToken_222 (by decide) (fun c_79 => ?_) (fun c_79 => ?_)
            · refine V_iconst hG 1 rfl dX7_signToken_270 ?_
              refine V_goto hG 275 dX7_signToken_271 (by decide) ?_
              exact J_76 _ (by rw [et_75, if_neg c_77, if_neg c_78, if_pos c_79])
            · refine V_aload_n hG 0 rfl dX7_signToken_225 ?_
              refine g7_189 hM hG dX7_signToken_226 ?_
              refine V_bipush hG 43 (by decide) dX7_signToken_229 ?_
              refine V_icmp_eq hG 270 dX7_signToken_231 (by decide) (fun c_80 => ?_) (fun c_80 => ?_)
              · refine V_iconst hG 1 rfl dX7_signToken_270 ?_
                refine V_goto hG 275 dX7_signToken_271 (by decide) ?_
                exact J_76 _ (by rw [et_75, if_neg c_77, if_neg c_78, if_neg c_79, if_pos c_80])
              · refine V_aload_n hG 0 rfl dX7_signToken_234 ?_
                refine g7_189 hM hG dX7_signToken_235 ?_
                refine V_bipush hG 45 (by decide) dX7_signToken_238 ?_
                refine V_icmp_eq hG 270 dX7_signToken_240 (by decide) (fun c_81 => ?_) (fun c_81 => ?_)
                · refine V_iconst hG 1 rfl dX7_signToken_270 ?_
                  refine V_goto hG 275 dX7_signToken_271 (by decide) ?_
                  exact J_76 _ (by rw [et_75, if_neg c_77, if_neg c_78, if_neg c_79, if_neg c_80, if_pos c_81])
                · refine V_aload_n hG 0 rfl dX7_signToken_243 ?_
                  refine g7_189 hM hG dX7_signToken_244 ?_
                  refine V_bipush hG 42 (by decide) dX7_signToken_247 ?_
                  refine V_icmp_eq hG 270 dX7_signToken_249 (by decide) (fun c_82 => ?_) (fun c_82 => ?_)
                  · refine V_iconst hG 1 rfl dX7_signToken_270 ?_
                    refine V_goto hG 275 dX7_signToken_271 (by decide) ?_
                    exact J_76 _ (by rw [et_75, if_neg c_77, if_neg c_78, if_neg c_79, if_neg c_80, if_neg c_81, if_pos c_82])
                  · refine V_aload_n hG 0 rfl dX7_signToken_252 ?_
                    refine g7_189 hM hG dX7_signToken_253 ?_
                    refine V_bipush hG 47 (by decide) dX7_signToken_256 ?_
                    refine V_icmp_eq hG 270 dX7_signToken_258 (by decide) (fun c_83 => ?_) (fun c_83 => ?_)
                    · refine V_iconst hG 1 rfl dX7_signToken_270 ?_
                      refine V_goto hG 275 dX7_signToken_271 (by decide) ?_
                      exact J_76 _ (by rw [et_75, if_neg c_77, if_neg c_78, if_neg c_79, if_neg c_80, if_neg c_81, if_neg c_82, if_pos c_83])
                    · refine V_aload_n hG 0 rfl dX7_signToken_261 ?_
                      refine g7_189 hM hG dX7_signToken_262 ?_
                      refine V_bipush hG 37 (by decide) dX7_signToken_265 ?_
                      refine V_icmp_ne hG 274 dX7_signToken_267 (by decide) (fun c_84 => ?_) (fun c_84 => ?_)
                      · refine V_iconst hG 0 rfl dX7_signToken_274 ?_
                        exact J_76 _ (by rw [et_75, if_neg c_77, if_neg c_78, if_neg c_79, if_neg c_80, if_neg c_81, if_neg c_82, if_neg c_83, if_neg c_84])
                      · refine V_iconst hG 1 rfl dX7_signToken_270 ?_
                        refine V_goto hG 275 dX7_signToken_271 (by decide) ?_
                        exact J_76 _ (by rw [et_75, if_neg c_77, if_neg c_78, if_neg c_79, if_neg c_80, if_neg c_81, if_neg c_82, if_neg c_83, if_pos c_84])
      · have hj_7 := if_t c_74 hj_7
        refine V_aload_n hG 0 rfl dX7_signToken_50 ?_
        refine g7_175 hM hG dX7_signToken_51 ?_
        refine V_aload_n hG 0 rfl dX7_signToken_54 ?_
        refine g7_172 hM hG dX7_signToken_55 ?_
        obtain ⟨t_91, hj_93, hj_7⟩ := bd_of hj_7
        have J_92 : V E G (tw o S_3 M0) 0 0 4 74 [(0, rf E o)] [.int t_91] Q := by
          refine V_istore_n hG rfl [(1, .int t_91), (0, rf E o)] dX7_signToken_74 (Nat.le_of_ble_eq_true rfl) rfl ?_
          refine V_aload_n hG 1 rfl dX7_signToken_75 ?_
          refine g7_189 hM hG dX7_signToken_76 ?_
          refine V_bipush hG 61 (by decide) dX7_signToken_79 ?_
          obtain ⟨t_94, et_94, hj_7⟩ := be_of hj_7
          have J_95 : ∀ y_98 : Int32, y_98 = t_94 → V E G (tw o S_3 M0) 0 0 4 95 [(1, .int t_91), (0, rf E o)] [.int y_98] Q := by
            intro y_98 ey
            subst ey
            refine V_istore_n hG rfl [(2, .int y_98), (1, .int t_91), (0, rf E o)] dX7_signToken_95 (Nat.le_of_ble_eq_true rfl) rfl ?_
            refine V_aload_n hG 2 rfl dX7_signToken_96 ?_
            refine g7_189 hM hG dX7_signToken_97 ?_
            refine V_bipush hG 60 (by decide) dX7_signToken_100 ?_
            obtain ⟨t_99, et_99, hj_7⟩ := be_of hj_7
            have J_100 : ∀ y_103 : Int32, y_103 = t_99 → V E G (tw o S_3 M0) 0 0 4 116 [(2, .int y_98), (1, .int t_91), (0, rf E o)] [.int y_103] Q := by
              intro y_103 ey
              subst ey
              refine V_istore_n hG rfl [(3, .int y_103), (2, .int y_98), (1, .int t_91), (0, rf E o)] dX7_signToken_116 (Nat.le_of_ble_eq_true rfl) rfl ?_
              refine V_iload_n hG 1 rfl dX7_signToken_117 ?_
              obtain ⟨S_104, hj_106, hj_7⟩ := bd_of hj_7
              have J_105 : V E G (tw o S_104 M0) 0 0 4 135 [(3, .int y_103), (2, .int y_98), (1, .int t_91), (0, rf E o)] [] Q := by
                refine V_aload_n hG 3 rfl dX7_signToken_135 ?_
                refine V_iconst hG 5 rfl dX7_signToken_136 ?_
                obtain ⟨S_107, eS_107, hj_7⟩ := be_of hj_7
                refine p7_178 hM hG eS_107 dX7_signToken_137 ?_
                refine V_aload_n hG 3 rfl dX7_signToken_140 ?_
                refine V_aload_n hG 3 rfl dX7_signToken_141 ?_
                refine g7_189 hM hG dX7_signToken_142 ?_
                refine V_bipush hG 61 (by decide) dX7_signToken_145 ?_
                obtain ⟨t_108, et_108, hj_7⟩ := be_of hj_7
                have J_109 : ∀ y_115 : Int32, y_115 = t_108 → V E G (tw o S_107 M0) 0 0 4 192 [(3, .int y_103), (2, .int y_98), (1, .int t_91), (0, rf E o)] [.int y_115, rf E o] Q := by
                  intro y_115 ey
                  subst ey
                  obtain ⟨S_116, eS_116, hj_7⟩ := be_of hj_7
                  refine p7_189 hM hG eS_116 dX7_signToken_192 ?_
                  refine V_goto hG 290 dX7_signToken_195 (by decide) ?_
                  cases hj_7
                  exact V_lv [2, 3] rfl (J_6)
                refine V_icmp_ne hG 154 dX7_signToken_147 (by decide) (fun c_110 => ?_) (fun c_110 => ?_)
                · refine V_aload_n hG 3 rfl dX7_signToken_154 ?_
                  refine g7_189 hM hG dX7_signToken_155 ?_
                  refine V_bipush hG 60 (by decide) dX7_signToken_158 ?_
                  refine V_icmp_ne hG 183 dX7_signToken_160 (by decide) (fun c_111 => ?_) (fun c_111 => ?_)
                  · refine V_iload_n hG 1 rfl dX7_signToken_183 ?_
                    refine V_if_eq hG 191 dX7_signToken_184 (by decide) (fun c_112 => ?_) (fun c_112 => ?_)
                    · refine V_iconst hG 5 rfl dX7_signToken_191 ?_
                      exact J_109 _ (by rw [et_108, if_neg c_110, if_neg c_111, if_pos c_112])
                    · refine V_iconst hG 4 rfl dX7_signToken_187 ?_
                      refine V_goto hG 192 dX7_signToken_188 (by decide) ?_
                      exact J_109 _ (by rw [et_108, if_neg c_110, if_neg c_111, if_neg c_112])
                  · refine V_iload_n hG 1 rfl dX7_signToken_163 ?_
                    refine V_if_eq hG 171 dX7_signToken_164 (by decide) (fun c_113 => ?_) (fun c_113 => ?_)
                    · refine V_iload_n hG 0 rfl dX7_signToken_171 ?_
                      refine V_if_eq hG 179 dX7_signToken_172 (by decide) (fun c_114 => ?_) (fun c_114 => ?_)
                      · refine V_iconst hG 0 rfl dX7_signToken_179 ?_
                        refine V_goto hG 192 dX7_signToken_180 (by decide) ?_
                        exact J_109 _ (by rw [et_108, if_neg c_110, if_pos c_111, if_pos c_113, if_pos c_114])
                      · refine V_iconst hG 3 rfl dX7_signToken_175 ?_
                        refine V_goto hG 192 dX7_signToken_176 (by decide) ?_
                        exact J_109 _ (by rw [et_108, if_neg c_110, if_pos c_111, if_pos c_113, if_neg c_114])
                    · refine V_iconst hG 1 rfl dX7_signToken_167 ?_
                      refine V_goto hG 192 dX7_signToken_168 (by decide) ?_
                      exact J_109 _ (by rw [et_108, if_neg c_110, if_pos c_111, if_neg c_113])
                · refine V_iconst hG 2 rfl dX7_signToken_150 ?_
                  refine V_goto hG 192 dX7_signToken_151 (by decide) ?_
                  exact J_109 _ (by rw [et_108, if_pos c_110])
              refine V_if_ne hG 125 dX7_signToken_118 (by decide) (fun c_117 => ?_) (fun c_117 => ?_)
              · have hj_106 := if_f c_117 hj_106
                refine V_aload_n hG 3 rfl dX7_signToken_125 ?_
                refine V_dup hG rfl dX7_signToken_126 ?_
                refine g7_175 hM hG dX7_signToken_127 ?_
                refine V_iconst hG 1 rfl dX7_signToken_130 ?_
                refine V_iadd hG dX7_signToken_131 ?_
                obtain ⟨S_118, eS_118, hj_106⟩ := be_of hj_106
                refine p7_175 hM hG eS_118 dX7_signToken_132 ?_
                cases hj_106
                exact J_105
              · have hj_106 := if_t c_117 hj_106
                refine V_iload_n hG 0 rfl dX7_signToken_121 ?_
                refine V_if_eq hG 135 dX7_signToken_122 (by decide) (fun c_119 => ?_) (fun c_119 => ?_)
                · have hj_106 := if_t c_119 hj_106
                  cases hj_106
                  exact J_105
                · have hj_106 := if_f c_119 hj_106
                  refine V_aload_n hG 3 rfl dX7_signToken_125 ?_
                  refine V_dup hG rfl dX7_signToken_126 ?_
                  refine g7_175 hM hG dX7_signToken_127 ?_
                  refine V_iconst hG 1 rfl dX7_signToken_130 ?_
                  refine V_iadd hG dX7_signToken_131 ?_
                  obtain ⟨S_120, eS_120, hj_106⟩ := be_of hj_106
                  refine p7_175 hM hG eS_120 dX7_signToken_132 ?_
                  cases hj_106
                  exact J_105
            refine V_icmp_ne hG 115 dX7_signToken_102 (by decide) (fun c_101 => ?_) (fun c_101 => ?_)
            · refine V_iconst hG 0 rfl dX7_signToken_115 ?_
              exact J_100 _ (by rw [et_99, if_neg c_101])
            · refine V_iload_n hG 1 rfl dX7_signToken_105 ?_
              refine V_bipush hG 62 (by decide) dX7_signToken_106 ?_
              refine V_icmp_ne hG 115 dX7_signToken_108 (by decide) (fun c_102 => ?_) (fun c_102 => ?_)
              · refine V_iconst hG 0 rfl dX7_signToken_115 ?_
                exact J_100 _ (by rw [et_99, if_pos c_101, if_neg c_102])
              · refine V_iconst hG 1 rfl dX7_signToken_111 ?_
                refine V_goto hG 116 dX7_signToken_112 (by decide) ?_
                exact J_100 _ (by rw [et_99, if_pos c_101, if_pos c_102])
          refine V_icmp_eq hG 94 dX7_signToken_81 (by decide) (fun c_96 => ?_) (fun c_96 => ?_)
          · refine V_iconst hG 0 rfl dX7_signToken_94 ?_
            exact J_95 _ (by rw [et_94, if_pos c_96])
          · refine V_iload_n hG 0 rfl dX7_signToken_84 ?_
            refine V_bipush hG 61 (by decide) dX7_signToken_85 ?_
            refine V_icmp_ne hG 94 dX7_signToken_87 (by decide) (fun c_97 => ?_) (fun c_97 => ?_)
            · refine V_iconst hG 0 rfl dX7_signToken_94 ?_
              exact J_95 _ (by rw [et_94, if_neg c_96, if_neg c_97])
            · refine V_iconst hG 1 rfl dX7_signToken_90 ?_
              refine V_goto hG 95 dX7_signToken_91 (by decide) ?_
              exact J_95 _ (by rw [et_94, if_neg c_96, if_pos c_97])
        refine V_icmp_ge hG 73 dX7_signToken_58 (by decide) (fun c_121 => ?_) (fun c_121 => ?_)
        · have hj_93 := if_t c_121 hj_93
          refine V_iconst hG 0 rfl dX7_signToken_73 ?_
          cases hj_93
          exact J_92
        · have hj_93 := if_f c_121 hj_93
          refine V_aload_n hG 0 rfl dX7_signToken_61 ?_
          refine g7_7 hM hG dX7_signToken_62 ?_
          refine V_aload_n hG 0 rfl dX7_signToken_65 ?_
          refine g7_175 hM hG dX7_signToken_66 ?_
          obtain ⟨g_122, hj_93⟩ := gd_of hj_93
          refine T_iaload hM hG (by decide) g_122 dX7_signToken_69 ?_
          refine V_goto hG 74 dX7_signToken_70 (by decide) ?_
          cases hj_93
          exact J_92
