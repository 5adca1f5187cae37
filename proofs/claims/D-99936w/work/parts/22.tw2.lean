set_option maxRecDepth 100000
set_option maxHeartbeats 4000000
def tw_take_b1 (N : Nat) (p1 : Nat) (p2 : Int32) (x3_6 : Int32) (S_7 : TS) : Option ((Int32 × TS) ⊕ (Int32 × TS)) :=
if 6 ≤ x3_6 then (
some (.inl (x3_6, S_7)))
else (
gd (tyA p1 = 0) (
gd (inb (p2 + x3_6) (lenA p1)) (
gd (inb x3_6 (lenA 27)) (
be (tsI S_7 27 (Int32.toNatClampNeg x3_6) (tI S_7 p1 (Int32.toNatClampNeg (p2 + x3_6)))) fun S_17 =>
gd (tyA p1 = 0) (
gd (inb ((p2 + 6) + x3_6) (lenA p1)) (
gd (inb x3_6 (lenA 29)) (
be (tsI S_17 29 (Int32.toNatClampNeg x3_6) (tI S_17 p1 (Int32.toNatClampNeg ((p2 + 6) + x3_6)))) fun S_21 =>
gd (tyA p1 = 0) (
gd (inb ((p2 + 12) + x3_6) (lenA p1)) (
gd (inb x3_6 (lenA 33)) (
be (tsI S_21 33 (Int32.toNatClampNeg x3_6) (tI S_21 p1 (Int32.toNatClampNeg ((p2 + 12) + x3_6)))) fun S_25 =>
be (x3_6 + 1) fun (x3_26 : Int32) =>
some (.inr (x3_26, S_25))))))))))))
def tw_take (N : Nat) (p1 : Nat) (p2 : Int32) (S : TS) : Option (TS) :=
bd2 (lp N (fun s_12 : Int32 × TS => tw_take_b1 N p1 p2 s_12.1 s_12.2) (0, S)) fun (x3_8 : Int32) (S_9 : TS) =>
some S_9
def rm_tw_take : Room := { frames := 0, cells := 0, slots := 0, locals := 0 }
theorem ok_tw_take {E : En} (hE : EOk E) {o : Nat} {M0 : Mem} (hM : TwS o M0) {N : Nat} {p1 : Nat} {p2 : Int32} {S : TS}  {S' : TS} (h : tw_take N p1 p2 S = some S') : CM E yX7_take cX7_take 4 none rm_tw_take [rf E o, rf E ((o + p1)), .int p2] (tw o S M0) none (tw o S' M0) := by
  unfold tw_take at h
  refine CM_intro (own := RX7) rfl (by decide) (Nat.le_of_ble_eq_true rfl) rfl (fun G hG => ?_)
  obtain ⟨Q, eQ⟩ : ∃ Q, Q = QM E G none (tw o S' M0) 0 0 := ⟨_, rfl⟩
  show V E G (tw o S M0) 0 0 4 0 [(0, rf E o), (1, rf E ((o + p1))), (2, .int p2)] [] (QM E G none (tw o S' M0) 0 0)
  rw [← eQ]
  refine V_iconst hG 0 rfl dX7_take_0 ?_
  refine V_istore_n hG rfl [(3, .int 0), (0, rf E o), (1, rf E ((o + p1))), (2, .int p2)] dX7_take_1 (Nat.le_of_ble_eq_true rfl) rfl ?_
  obtain ⟨x3_8, S_9, hL_10, h⟩ := bd2_of h
  have J_5 : ∀ q_11 : Int32 × TS, q_11 = (x3_8, S_9) → V E G (tw o q_11.2 M0) 0 0 4 53 [(3, .int q_11.1), (0, rf E o), (1, rf E ((o + p1))), (2, .int p2)] [] Q := by
    intro q_11 e9
    subst q_11
    show V E G (tw o S_9 M0) 0 0 4 53 [(3, .int x3_8), (0, rf E o), (1, rf E ((o + p1))), (2, .int p2)] [] Q
    cases h
    subst eQ
    exact V_vret hG dX7_take_53
  refine lp_walk (W := fun s_12 : Int32 × TS => V E G (tw o s_12.2 M0) 0 0 4 2 [(3, .int s_12.1), (0, rf E o), (1, rf E ((o + p1))), (2, .int p2)] [] Q) ?_ N (0, S) hL_10
  intro s_12 b_1 hb_2 hk_3 hx_4
  obtain ⟨x3_6, S_7⟩ := s_12
  have hb_2 : tw_take_b1 N p1 p2 x3_6 S_7 = some b_1 := hb_2
  unfold tw_take_b1 at hb_2
  show V E G (tw o S_7 M0) 0 0 4 2 [(3, .int x3_6), (0, rf E o), (1, rf E ((o + p1))), (2, .int p2)] [] Q
  refine V_iload_n hG 0 rfl dX7_take_2 ?_
  refine V_bipush hG 6 (by decide) dX7_take_3 ?_
  refine V_icmp_ge hG 53 dX7_take_5 (by decide) (fun c_13 => ?_) (fun c_13 => ?_)
  · have hb_2 := if_t c_13 hb_2
    cases hb_2
    exact J_5 _ (hx_4 _ rfl)
  · have hb_2 := if_f c_13 hb_2
    refine V_aload_n hG 1 rfl dX7_take_8 ?_
    refine g7_94 hM hG dX7_take_9 ?_
    refine V_iload_n hG 0 rfl dX7_take_12 ?_
    refine V_aload_n hG 2 rfl dX7_take_13 ?_
    refine V_iload_n hG 3 rfl dX7_take_14 ?_
    refine V_iload_n hG 0 rfl dX7_take_15 ?_
    refine V_iadd hG dX7_take_16 ?_
    obtain ⟨g_14, hb_2⟩ := gd_of hb_2
    obtain ⟨g_15, hb_2⟩ := gd_of hb_2
    refine T_iaload hM hG g_14 g_15 dX7_take_17 ?_
    obtain ⟨g_16, hb_2⟩ := gd_of hb_2
    obtain ⟨S_17, eS_17, hb_2⟩ := be_of hb_2
    refine T_iastore hM hG eS_17 (by decide) g_16 dX7_take_18 ?_
    refine V_aload_n hG 1 rfl dX7_take_19 ?_
    refine g7_100 hM hG dX7_take_20 ?_
    refine V_iload_n hG 0 rfl dX7_take_23 ?_
    refine V_aload_n hG 2 rfl dX7_take_24 ?_
    refine V_iload_n hG 3 rfl dX7_take_25 ?_
    refine V_bipush hG 6 (by decide) dX7_take_26 ?_
    refine V_iadd hG dX7_take_28 ?_
    refine V_iload_n hG 0 rfl dX7_take_29 ?_
    refine V_iadd hG dX7_take_30 ?_
    obtain ⟨g_18, hb_2⟩ := gd_of hb_2
    obtain ⟨g_19, hb_2⟩ := gd_of hb_2
    refine T_iaload hM hG g_18 g_19 dX7_take_31 ?_
    obtain ⟨g_20, hb_2⟩ := gd_of hb_2
    obtain ⟨S_21, eS_21, hb_2⟩ := be_of hb_2
    refine T_iastore hM hG eS_21 (by decide) g_20 dX7_take_32 ?_
    refine V_aload_n hG 1 rfl dX7_take_33 ?_
    refine g7_112 hM hG dX7_take_34 ?_
    refine V_iload_n hG 0 rfl dX7_take_37 ?_
    refine V_aload_n hG 2 rfl dX7_take_38 ?_
    refine V_iload_n hG 3 rfl dX7_take_39 ?_
    refine V_bipush hG 12 (by decide) dX7_take_40 ?_
    refine V_iadd hG dX7_take_42 ?_
    refine V_iload_n hG 0 rfl dX7_take_43 ?_
    refine V_iadd hG dX7_take_44 ?_
    obtain ⟨g_22, hb_2⟩ := gd_of hb_2
    obtain ⟨g_23, hb_2⟩ := gd_of hb_2
    refine T_iaload hM hG g_22 g_23 dX7_take_45 ?_
    obtain ⟨g_24, hb_2⟩ := gd_of hb_2
    obtain ⟨S_25, eS_25, hb_2⟩ := be_of hb_2
    refine T_iastore hM hG eS_25 (by decide) g_24 dX7_take_46 ?_
    obtain ⟨x3_26, ex3_26, hb_2⟩ := be_of hb_2
    refine V_iinc hG 0 x3_26 rfl (by rw [ex3_26]; rfl) [(3, .int x3_26), (0, rf E o), (1, rf E ((o + p1))), (2, .int p2)] dX7_take_47 (Nat.le_of_ble_eq_true rfl) rfl ?_
    refine V_goto hG 2 dX7_take_50 (by decide) ?_
    cases hb_2
    exact hk_3 _ rfl

def tw_back_b1 (N : Nat) (x1_10 : Int32) (S_11 : TS) : Option ((Int32 × TS) ⊕ (Int32 × TS)) :=
if 6 ≤ x1_10 then (
some (.inl (x1_10, S_11)))
else (
gd (inb x1_10 (lenA 45)) (
gd (inb x1_10 (lenA 28)) (
be (tsI S_11 28 (Int32.toNatClampNeg x1_10) (tI S_11 45 (Int32.toNatClampNeg x1_10))) fun S_28 =>
gd (inb (6 + x1_10) (lenA 45)) (
gd (inb x1_10 (lenA 30)) (
be (tsI S_28 30 (Int32.toNatClampNeg x1_10) (tI S_28 45 (Int32.toNatClampNeg (6 + x1_10)))) fun S_31 =>
gd (inb (12 + x1_10) (lenA 45)) (
be (if tI S_31 45 (Int32.toNatClampNeg (12 + x1_10)) = 1 then (
1)
else (
0) : Int32) fun (y_36 : Int32) =>
gd (inb x1_10 (lenA 31)) (
gd (y_36 = 0 ∨ y_36 = 1) (
be (tsI S_31 31 (Int32.toNatClampNeg x1_10) y_36) fun S_39 =>
gd (inb (18 + x1_10) (lenA 45)) (
gd (inb x1_10 (lenA 32)) (
be (tsI S_39 32 (Int32.toNatClampNeg x1_10) (tI S_39 45 (Int32.toNatClampNeg (18 + x1_10)))) fun S_42 =>
be (x1_10 + 1) fun (x1_43 : Int32) =>
some (.inr (x1_43, S_42))))))))))))
def tw_back (N : Nat)  (S : TS) : Option (Int32 × TS) :=
be (tsI S 0 2 0) fun S_1 =>
if tI S_1 0 80 = 0 then (
some ((-1), S_1))
else (
bd (tw_take N 44 0 S_1) fun S_4 =>
bd2 (lp N (fun s_24 : Int32 × TS => tw_back_b1 N s_24.1 s_24.2) (0, S_4)) fun (x1_12 : Int32) (S_13 : TS) =>
be (tsI S_13 34 (Int32.toNatClampNeg 0) (tI S_13 45 (Int32.toNatClampNeg 24))) fun S_16 =>
be (tsI S_16 35 (Int32.toNatClampNeg 0) (tI S_16 45 (Int32.toNatClampNeg 25))) fun S_17 =>
be (tsI S_17 36 (Int32.toNatClampNeg 0) (tI S_17 45 (Int32.toNatClampNeg 26))) fun S_18 =>
be (tsI S_18 37 (Int32.toNatClampNeg 0) (tI S_18 45 (Int32.toNatClampNeg 27))) fun S_19 =>
be (tsI S_19 38 (Int32.toNatClampNeg 0) (tI S_19 45 (Int32.toNatClampNeg 28))) fun S_20 =>
be (tsI S_20 39 (Int32.toNatClampNeg 0) (tI S_20 45 (Int32.toNatClampNeg 29))) fun S_21 =>
be (tsL S_21 0 67 (tL S_21 0 83)) fun S_22 =>
be (tsI S_22 0 78 0) fun S_23 =>
some (tI S_23 37 (Int32.toNatClampNeg 0), S_23))
def rm_tw_back : Room := { frames := 1, cells := 0, slots := 0, locals := 23 }
theorem ok_tw_back {E : En} (hE : EOk E) {o : Nat} {M0 : Mem} (hM : TwS o M0) {N : Nat}  {S : TS} {r : Int32} {S' : TS} (h : tw_back N  S = some (r, S')) : CM E yX7_back cX7_back 2 (some .int) rm_tw_back [rf E o] (tw o S M0) (some (.int r)) (tw o S' M0) := by
  unfold tw_back at h
  refine CM_intro (own := RX7) rfl (by decide) (Nat.le_of_ble_eq_true rfl) rfl (fun G hG => ?_)
  obtain ⟨Q, eQ⟩ : ∃ Q, Q = QM E G (some (.int r)) (tw o S' M0) 0 0 := ⟨_, rfl⟩
  show V E G (tw o S M0) 0 0 2 0 [(0, rf E o)] [] (QM E G (some (.int r)) (tw o S' M0) 0 0)
  rw [← eQ]
  refine V_aload_n hG 0 rfl dX7_back_0 ?_
  refine V_iconst hG 0 rfl dX7_back_1 ?_
  obtain ⟨S_1, eS_1, h⟩ := be_of h
  refine p7_160 hM hG eS_1 dX7_back_2 ?_
  refine V_aload_n hG 0 rfl dX7_back_5 ?_
  refine g7_383 hM hG dX7_back_6 ?_
  refine V_if_ne hG 14 dX7_back_9 (by decide) (fun c_2 => ?_) (fun c_2 => ?_)
  · have h := if_f c_2 h
    refine V_aload_n hG 0 rfl dX7_back_14 ?_
    refine V_aload_n hG 0 rfl dX7_back_15 ?_
    refine g7_148 hM hG dX7_back_16 ?_
    refine V_iconst hG 0 rfl dX7_back_19 ?_
    obtain ⟨S_4, hc_3, h⟩ := bd_of h
    refine V_callV0 hE hG (As := [rf E ((o + 44)), .int 0]) (rest := []) (ok_tw_take hE hM hc_3) hM.1 (by decide) rfl hw7_523 hd_tw_take ⟨Nat.le_of_ble_eq_true rfl, Nat.le_of_ble_eq_true rfl⟩ rfl rfl (Nat.le_of_ble_eq_true rfl) rfl rfl dX7_back_20 ?_
    refine V_iconst hG 0 rfl dX7_back_23 ?_
    refine V_istore_n hG rfl [(1, .int 0), (0, rf E o)] dX7_back_24 (Nat.le_of_ble_eq_true rfl) rfl ?_
    obtain ⟨x1_12, S_13, hL_14, h⟩ := bd2_of h
    have J_9 : ∀ q_15 : Int32 × TS, q_15 = (x1_12, S_13) → V E G (tw o q_15.2 M0) 0 0 2 103 [(1, .int q_15.1), (0, rf E o)] [] Q := by
      intro q_15 e9
      subst q_15
      show V E G (tw o S_13 M0) 0 0 2 103 [(1, .int x1_12), (0, rf E o)] [] Q
      refine V_aload_n hG 1 rfl dX7_back_103 ?_
      refine g7_115 hM hG dX7_back_104 ?_
      refine V_iconst hG 0 rfl dX7_back_107 ?_
      refine V_aload_n hG 1 rfl dX7_back_108 ?_
      refine g7_151 hM hG dX7_back_109 ?_
      refine V_bipush hG 24 (by decide) dX7_back_112 ?_
      refine T_iaload hM hG (by decide) (by decide) dX7_back_114 ?_
      obtain ⟨S_16, eS_16, h⟩ := be_of h
      refine T_iastore hM hG eS_16 (by decide) (by decide) dX7_back_115 ?_
      refine V_aload_n hG 1 rfl dX7_back_116 ?_
      refine g7_118 hM hG dX7_back_117 ?_
      refine V_iconst hG 0 rfl dX7_back_120 ?_
      refine V_aload_n hG 1 rfl dX7_back_121 ?_
      refine g7_151 hM hG dX7_back_122 ?_
      refine V_bipush hG 25 (by decide) dX7_back_125 ?_
      refine T_iaload hM hG (by decide) (by decide) dX7_back_127 ?_
      obtain ⟨S_17, eS_17, h⟩ := be_of h
      refine T_iastore hM hG eS_17 (by decide) (by decide) dX7_back_128 ?_
      refine V_aload_n hG 1 rfl dX7_back_129 ?_
      refine g7_121 hM hG dX7_back_130 ?_
      refine V_iconst hG 0 rfl dX7_back_133 ?_
      refine V_aload_n hG 1 rfl dX7_back_134 ?_
      refine g7_151 hM hG dX7_back_135 ?_
      refine V_bipush hG 26 (by decide) dX7_back_138 ?_
      refine T_iaload hM hG (by decide) (by decide) dX7_back_140 ?_
      obtain ⟨S_18, eS_18, h⟩ := be_of h
      refine T_iastore hM hG eS_18 (by decide) (by decide) dX7_back_141 ?_
      refine V_aload_n hG 1 rfl dX7_back_142 ?_
      refine g7_124 hM hG dX7_back_143 ?_
      refine V_iconst hG 0 rfl dX7_back_146 ?_
      refine V_aload_n hG 1 rfl dX7_back_147 ?_
      refine g7_151 hM hG dX7_back_148 ?_
      refine V_bipush hG 27 (by decide) dX7_back_151 ?_
      refine T_iaload hM hG (by decide) (by decide) dX7_back_153 ?_
      obtain ⟨S_19, eS_19, h⟩ := be_of h
      refine T_iastore hM hG eS_19 (by decide) (by decide) dX7_back_154 ?_
      refine V_aload_n hG 1 rfl dX7_back_155 ?_
      refine g7_127 hM hG dX7_back_156 ?_
      refine V_iconst hG 0 rfl dX7_back_159 ?_
      refine V_aload_n hG 1 rfl dX7_back_160 ?_
      refine g7_151 hM hG dX7_back_161 ?_
      refine V_bipush hG 28 (by decide) dX7_back_164 ?_
      refine T_iaload hM hG (by decide) (by decide) dX7_back_166 ?_
      obtain ⟨S_20, eS_20, h⟩ := be_of h
      refine T_iastore hM hG eS_20 (by decide) (by decide) dX7_back_167 ?_
      refine V_aload_n hG 1 rfl dX7_back_168 ?_
      refine g7_130 hM hG dX7_back_169 ?_
      refine V_iconst hG 0 rfl dX7_back_172 ?_
      refine V_aload_n hG 1 rfl dX7_back_173 ?_
      refine g7_151 hM hG dX7_back_174 ?_
      refine V_bipush hG 29 (by decide) dX7_back_177 ?_
      refine T_iaload hM hG (by decide) (by decide) dX7_back_179 ?_
      obtain ⟨S_21, eS_21, h⟩ := be_of h
      refine T_iastore hM hG eS_21 (by decide) (by decide) dX7_back_180 ?_
      refine V_aload_n hG 1 rfl dX7_back_181 ?_
      refine V_aload_n hG 1 rfl dX7_back_182 ?_
      refine g7_526 hM hG dX7_back_183 ?_
      obtain ⟨S_22, eS_22, h⟩ := be_of h
      refine p7_370 hM hG eS_22 dX7_back_186 ?_
      refine V_aload_n hG 1 rfl dX7_back_189 ?_
      refine V_iconst hG 0 rfl dX7_back_190 ?_
      obtain ⟨S_23, eS_23, h⟩ := be_of h
      refine p7_380 hM hG eS_23 dX7_back_191 ?_
      refine V_aload_n hG 1 rfl dX7_back_194 ?_
      refine g7_124 hM hG dX7_back_195 ?_
      refine V_iconst hG 0 rfl dX7_back_198 ?_
      refine T_iaload hM hG (by decide) (by decide) dX7_back_199 ?_
      cases h
      subst eQ
      exact V_iret hG dX7_back_200
    refine lp_walk (W := fun s_24 : Int32 × TS => V E G (tw o s_24.2 M0) 0 0 2 25 [(1, .int s_24.1), (0, rf E o)] [] Q) ?_ N (0, S_4) hL_14
    intro s_24 b_5 hb_6 hk_7 hx_8
    obtain ⟨x1_10, S_11⟩ := s_24
    have hb_6 : tw_back_b1 N x1_10 S_11 = some b_5 := hb_6
    unfold tw_back_b1 at hb_6
    show V E G (tw o S_11 M0) 0 0 2 25 [(1, .int x1_10), (0, rf E o)] [] Q
    refine V_iload_n hG 0 rfl dX7_back_25 ?_
    refine V_bipush hG 6 (by decide) dX7_back_26 ?_
    refine V_icmp_ge hG 103 dX7_back_28 (by decide) (fun c_25 => ?_) (fun c_25 => ?_)
    · have hb_6 := if_t c_25 hb_6
      cases hb_6
      exact J_9 _ (hx_8 _ rfl)
    · have hb_6 := if_f c_25 hb_6
      refine V_aload_n hG 1 rfl dX7_back_31 ?_
      refine g7_97 hM hG dX7_back_32 ?_
      refine V_iload_n hG 0 rfl dX7_back_35 ?_
      refine V_aload_n hG 1 rfl dX7_back_36 ?_
      refine g7_151 hM hG dX7_back_37 ?_
      refine V_iload_n hG 0 rfl dX7_back_40 ?_
      obtain ⟨g_26, hb_6⟩ := gd_of hb_6
      refine T_iaload hM hG (by decide) g_26 dX7_back_41 ?_
      obtain ⟨g_27, hb_6⟩ := gd_of hb_6
      obtain ⟨S_28, eS_28, hb_6⟩ := be_of hb_6
      refine T_iastore hM hG eS_28 (by decide) g_27 dX7_back_42 ?_
      refine V_aload_n hG 1 rfl dX7_back_43 ?_
      refine g7_103 hM hG dX7_back_44 ?_
      refine V_iload_n hG 0 rfl dX7_back_47 ?_
      refine V_aload_n hG 1 rfl dX7_back_48 ?_
      refine g7_151 hM hG dX7_back_49 ?_
      refine V_bipush hG 6 (by decide) dX7_back_52 ?_
      refine V_iload_n hG 0 rfl dX7_back_54 ?_
      refine V_iadd hG dX7_back_55 ?_
      obtain ⟨g_29, hb_6⟩ := gd_of hb_6
      refine T_iaload hM hG (by decide) g_29 dX7_back_56 ?_
      obtain ⟨g_30, hb_6⟩ := gd_of hb_6
      obtain ⟨S_31, eS_31, hb_6⟩ := be_of hb_6
      refine T_iastore hM hG eS_31 (by decide) g_30 dX7_back_57 ?_
      refine V_aload_n hG 1 rfl dX7_back_58 ?_
      refine g7_106 hM hG dX7_back_59 ?_
      refine V_iload_n hG 0 rfl dX7_back_62 ?_
      refine V_aload_n hG 1 rfl dX7_back_63 ?_
      refine g7_151 hM hG dX7_back_64 ?_
      refine V_bipush hG 12 (by decide) dX7_back_67 ?_
      refine V_iload_n hG 0 rfl dX7_back_69 ?_
      refine V_iadd hG dX7_back_70 ?_
      obtain ⟨g_32, hb_6⟩ := gd_of hb_6
      refine T_iaload hM hG (by decide) g_32 dX7_back_71 ?_
      refine V_iconst hG 1 rfl dX7_back_72 ?_
      obtain ⟨t_33, et_33, hb_6⟩ := be_of hb_6
      have J_34 : ∀ y_36 : Int32, y_36 = t_33 → V E G (tw o S_31 M0) 0 0 2 81 [(1, .int x1_10), (0, rf E o)] [.int y_36, .int x1_10, rf E ((o + 31))] Q := by
        intro y_36 ey
        subst ey
        obtain ⟨g_37, hb_6⟩ := gd_of hb_6
        obtain ⟨g_38, hb_6⟩ := gd_of hb_6
        obtain ⟨S_39, eS_39, hb_6⟩ := be_of hb_6
        refine T_zastore hM hG eS_39 g_38 (by decide) g_37 dX7_back_81 ?_
        refine V_aload_n hG 1 rfl dX7_back_82 ?_
        refine g7_109 hM hG dX7_back_83 ?_
        refine V_iload_n hG 0 rfl dX7_back_86 ?_
        refine V_aload_n hG 1 rfl dX7_back_87 ?_
        refine g7_151 hM hG dX7_back_88 ?_
        refine V_bipush hG 18 (by decide) dX7_back_91 ?_
        refine V_iload_n hG 0 rfl dX7_back_93 ?_
        refine V_iadd hG dX7_back_94 ?_
        obtain ⟨g_40, hb_6⟩ := gd_of hb_6
        refine T_iaload hM hG (by decide) g_40 dX7_back_95 ?_
        obtain ⟨g_41, hb_6⟩ := gd_of hb_6
        obtain ⟨S_42, eS_42, hb_6⟩ := be_of hb_6
        refine T_iastore hM hG eS_42 (by decide) g_41 dX7_back_96 ?_
        obtain ⟨x1_43, ex1_43, hb_6⟩ := be_of hb_6
        refine V_iinc hG 0 x1_43 rfl (by rw [ex1_43]; rfl) [(1, .int x1_43), (0, rf E o)] dX7_back_97 (Nat.le_of_ble_eq_true rfl) rfl ?_
        refine V_goto hG 25 dX7_back_100 (by decide) ?_
        cases hb_6
        exact hk_7 _ rfl
      refine V_icmp_ne hG 80 dX7_back_73 (by decide) (fun c_35 => ?_) (fun c_35 => ?_)
      · refine V_iconst hG 0 rfl dX7_back_80 ?_
        exact J_34 _ (by rw [et_33, if_neg c_35])
      · refine V_iconst hG 1 rfl dX7_back_76 ?_
        refine V_goto hG 81 dX7_back_77 (by decide) ?_
        exact J_34 _ (by rw [et_33, if_pos c_35])
  · have h := if_t c_2 h
    refine V_iconst hG (-1) rfl dX7_back_12 ?_
    cases h
    subst eQ
    exact V_iret hG dX7_back_13

def tw_begin (N : Nat)  (S : TS) : Option (TS) :=
bd (tw_atFirst N 0 S) fun S_2 =>
be (tsL S_2 0 67 (Int32.toInt64 (tI S_2 4 (Int32.toNatClampNeg 1)))) fun S_3 =>
bd (tw_plainTried S_3) fun S_5 =>
be (tsI S_5 0 74 0) fun S_6 =>
be (tsI S_6 0 75 (-1)) fun S_7 =>
be (tsI S_7 0 78 0) fun S_8 =>
be (tsI S_8 0 80 0) fun S_9 =>
some S_9
def rm_tw_begin : Room := { frames := 1, cells := 0, slots := 0, locals := 22 }
theorem ok_tw_begin {E : En} (hE : EOk E) {o : Nat} {M0 : Mem} (hM : TwS o M0) {N : Nat}  {S : TS}  {S' : TS} (h : tw_begin N  S = some S') : CM E yX7_begin cX7_begin 1 none rm_tw_begin [rf E o] (tw o S M0) none (tw o S' M0) := by
  unfold tw_begin at h
  refine CM_intro (own := RX7) rfl (by decide) (Nat.le_of_ble_eq_true rfl) rfl (fun G hG => ?_)
  obtain ⟨Q, eQ⟩ : ∃ Q, Q = QM E G none (tw o S' M0) 0 0 := ⟨_, rfl⟩
  show V E G (tw o S M0) 0 0 1 0 [(0, rf E o)] [] (QM E G none (tw o S' M0) 0 0)
  rw [← eQ]
  refine V_aload_n hG 0 rfl dX7_begin_0 ?_
  refine V_iconst hG 0 rfl dX7_begin_1 ?_
  obtain ⟨S_2, hc_1, h⟩ := bd_of h
  refine V_callV0 hE hG (As := [.int 0]) (rest := []) (ok_tw_atFirst hE hM hc_1) hM.1 (by decide) rfl hw7_367 hd_tw_atFirst ⟨Nat.le_of_ble_eq_true rfl, Nat.le_of_ble_eq_true rfl⟩ rfl rfl (Nat.le_of_ble_eq_true rfl) rfl rfl dX7_begin_2 ?_
  refine V_aload_n hG 0 rfl dX7_begin_5 ?_
  refine V_aload_n hG 0 rfl dX7_begin_6 ?_
  refine g7_24 hM hG dX7_begin_7 ?_
  refine V_iconst hG 1 rfl dX7_begin_10 ?_
  refine T_iaload hM hG (by decide) (by decide) dX7_begin_11 ?_
  refine V_i2l hG dX7_begin_12 ?_
  obtain ⟨S_3, eS_3, h⟩ := be_of h
  refine p7_370 hM hG eS_3 dX7_begin_13 ?_
  refine V_aload_n hG 0 rfl dX7_begin_16 ?_
  obtain ⟨S_5, hc_4, h⟩ := bd_of h
  refine V_callV0 hE hG (As := []) (rest := []) (ok_tw_plainTried hE hM hc_4) hM.1 (by decide) rfl hw7_374 hd_tw_plainTried ⟨Nat.le_of_ble_eq_true rfl, Nat.le_of_ble_eq_true rfl⟩ rfl rfl (Nat.le_of_ble_eq_true rfl) rfl rfl dX7_begin_17 ?_
  refine V_aload_n hG 0 rfl dX7_begin_20 ?_
  refine V_iconst hG 0 rfl dX7_begin_21 ?_
  obtain ⟨S_6, eS_6, h⟩ := be_of h
  refine p7_377 hM hG eS_6 dX7_begin_22 ?_
  refine V_aload_n hG 0 rfl dX7_begin_25 ?_
  refine V_iconst hG (-1) rfl dX7_begin_26 ?_
  obtain ⟨S_7, eS_7, h⟩ := be_of h
  refine p7_136 hM hG eS_7 dX7_begin_27 ?_
  refine V_aload_n hG 0 rfl dX7_begin_30 ?_
  refine V_iconst hG 0 rfl dX7_begin_31 ?_
  obtain ⟨S_8, eS_8, h⟩ := be_of h
  refine p7_380 hM hG eS_8 dX7_begin_32 ?_
  refine V_aload_n hG 0 rfl dX7_begin_35 ?_
  refine V_iconst hG 0 rfl dX7_begin_36 ?_
  obtain ⟨S_9, eS_9, h⟩ := be_of h
  refine p7_383 hM hG eS_9 (Or.inl rfl) dX7_begin_37 ?_
  cases h
  subst eQ
  exact V_vret hG dX7_begin_40

def tw_dropHeld  (S : TS) : Option (Int32 × TS) :=
be (tsI S 0 46 ((tI S 0 46) - 1)) fun S_1 =>
gd (inb (tI S_1 0 46) (lenA 24)) (
some (tI S_1 24 (Int32.toNatClampNeg (tI S_1 0 46)), S_1))
def rm_tw_dropHeld : Room := { frames := 0, cells := 0, slots := 0, locals := 0 }
theorem ok_tw_dropHeld {E : En} (hE : EOk E) {o : Nat} {M0 : Mem} (hM : TwS o M0)  {S : TS} {r : Int32} {S' : TS} (h : tw_dropHeld  S = some (r, S')) : CM E yX7_dropHeld cX7_dropHeld 1 (some .int) rm_tw_dropHeld [rf E o] (tw o S M0) (some (.int r)) (tw o S' M0) := by
  unfold tw_dropHeld at h
  refine CM_intro (own := RX7) rfl (by decide) (Nat.le_of_ble_eq_true rfl) rfl (fun G hG => ?_)
  obtain ⟨Q, eQ⟩ : ∃ Q, Q = QM E G (some (.int r)) (tw o S' M0) 0 0 := ⟨_, rfl⟩
  show V E G (tw o S M0) 0 0 1 0 [(0, rf E o)] [] (QM E G (some (.int r)) (tw o S' M0) 0 0)
  rw [← eQ]
  refine V_aload_n hG 0 rfl dX7_dropHeld_0 ?_
  refine V_dup hG rfl dX7_dropHeld_1 ?_
  refine g7_298 hM hG dX7_dropHeld_2 ?_
  refine V_iconst hG 1 rfl dX7_dropHeld_5 ?_
  refine V_isub hG dX7_dropHeld_6 ?_
  obtain ⟨S_1, eS_1, h⟩ := be_of h
  refine p7_298 hM hG eS_1 dX7_dropHeld_7 ?_
  refine V_aload_n hG 0 rfl dX7_dropHeld_10 ?_
  refine g7_84 hM hG dX7_dropHeld_11 ?_
  refine V_aload_n hG 0 rfl dX7_dropHeld_14 ?_
  refine g7_298 hM hG dX7_dropHeld_15 ?_
  obtain ⟨g_2, h⟩ := gd_of h
  refine T_iaload hM hG (by decide) g_2 dX7_dropHeld_18 ?_
  cases h
  subst eQ
  exact V_iret hG dX7_dropHeld_19

def tw_grown (p1 : Int32) (p2 : Int32) (p3 : Int32) (S : TS) : Option (TS) :=
gd (inb (64 + (tI S 0 22)) (lenA 20)) (
be (tsI S 20 (Int32.toNatClampNeg (64 + (tI S 0 22))) p1) fun S_2 =>
gd (inb (64 + (tI S_2 0 22)) (lenA 21)) (
be (tsI S_2 21 (Int32.toNatClampNeg (64 + (tI S_2 0 22))) p2) fun S_4 =>
gd (inb (64 + (tI S_4 0 22)) (lenA 22)) (
be (tsI S_4 22 (Int32.toNatClampNeg (64 + (tI S_4 0 22))) p3) fun S_6 =>
gd (inb (tI S_6 0 46) (lenA 24)) (
be (tsI S_6 24 (Int32.toNatClampNeg (tI S_6 0 46)) (tI S_6 0 22)) fun S_8 =>
be (tsI S_8 0 46 ((tI S_8 0 46) + 1)) fun S_9 =>
be (tsI S_9 0 22 ((tI S_9 0 22) + 1)) fun S_10 =>
some S_10))))
def rm_tw_grown : Room := { frames := 0, cells := 0, slots := 0, locals := 0 }
theorem ok_tw_grown {E : En} (hE : EOk E) {o : Nat} {M0 : Mem} (hM : TwS o M0) {p1 : Int32} {p2 : Int32} {p3 : Int32} {S : TS}  {S' : TS} (h : tw_grown p1 p2 p3 S = some S') : CM E yX7_grown cX7_grown 4 none rm_tw_grown [rf E o, .int p1, .int p2, .int p3] (tw o S M0) none (tw o S' M0) := by
  unfold tw_grown at h
  refine CM_intro (own := RX7) rfl (by decide) (Nat.le_of_ble_eq_true rfl) rfl (fun G hG => ?_)
  obtain ⟨Q, eQ⟩ : ∃ Q, Q = QM E G none (tw o S' M0) 0 0 := ⟨_, rfl⟩
  show V E G (tw o S M0) 0 0 4 0 [(0, rf E o), (1, .int p1), (2, .int p2), (3, .int p3)] [] (QM E G none (tw o S' M0) 0 0)
  rw [← eQ]
  refine V_aload_n hG 0 rfl dX7_grown_0 ?_
  refine g7_72 hM hG dX7_grown_1 ?_
  refine V_bipush hG 64 (by decide) dX7_grown_4 ?_
  refine V_aload_n hG 0 rfl dX7_grown_6 ?_
  refine g7_237 hM hG dX7_grown_7 ?_
  refine V_iadd hG dX7_grown_10 ?_
  refine V_iload_n hG 1 rfl dX7_grown_11 ?_
  obtain ⟨g_1, h⟩ := gd_of h
  obtain ⟨S_2, eS_2, h⟩ := be_of h
  refine T_iastore hM hG eS_2 (by decide) g_1 dX7_grown_12 ?_
  refine V_aload_n hG 0 rfl dX7_grown_13 ?_
  refine g7_75 hM hG dX7_grown_14 ?_
  refine V_bipush hG 64 (by decide) dX7_grown_17 ?_
  refine V_aload_n hG 0 rfl dX7_grown_19 ?_
  refine g7_237 hM hG dX7_grown_20 ?_
  refine V_iadd hG dX7_grown_23 ?_
  refine V_iload_n hG 2 rfl dX7_grown_24 ?_
  obtain ⟨g_3, h⟩ := gd_of h
  obtain ⟨S_4, eS_4, h⟩ := be_of h
  refine T_iastore hM hG eS_4 (by decide) g_3 dX7_grown_25 ?_
  refine V_aload_n hG 0 rfl dX7_grown_26 ?_
  refine g7_78 hM hG dX7_grown_27 ?_
  refine V_bipush hG 64 (by decide) dX7_grown_30 ?_
  refine V_aload_n hG 0 rfl dX7_grown_32 ?_
  refine g7_237 hM hG dX7_grown_33 ?_
  refine V_iadd hG dX7_grown_36 ?_
  refine V_iload_n hG 3 rfl dX7_grown_37 ?_
  obtain ⟨g_5, h⟩ := gd_of h
  obtain ⟨S_6, eS_6, h⟩ := be_of h
  refine T_iastore hM hG eS_6 (by decide) g_5 dX7_grown_38 ?_
  refine V_aload_n hG 0 rfl dX7_grown_39 ?_
  refine g7_84 hM hG dX7_grown_40 ?_
  refine V_aload_n hG 0 rfl dX7_grown_43 ?_
  refine g7_298 hM hG dX7_grown_44 ?_
  refine V_aload_n hG 0 rfl dX7_grown_47 ?_
  refine g7_237 hM hG dX7_grown_48 ?_
  obtain ⟨g_7, h⟩ := gd_of h
  obtain ⟨S_8, eS_8, h⟩ := be_of h
  refine T_iastore hM hG eS_8 (by decide) g_7 dX7_grown_51 ?_
  refine V_aload_n hG 0 rfl dX7_grown_52 ?_
  refine V_dup hG rfl dX7_grown_53 ?_
  refine g7_298 hM hG dX7_grown_54 ?_
  refine V_iconst hG 1 rfl dX7_grown_57 ?_
  refine V_iadd hG dX7_grown_58 ?_
  obtain ⟨S_9, eS_9, h⟩ := be_of h
  refine p7_298 hM hG eS_9 dX7_grown_59 ?_
  refine V_aload_n hG 0 rfl dX7_grown_62 ?_
  refine V_dup hG rfl dX7_grown_63 ?_
  refine g7_237 hM hG dX7_grown_64 ?_
  refine V_iconst hG 1 rfl dX7_grown_67 ?_
  refine V_iadd hG dX7_grown_68 ?_
  obtain ⟨S_10, eS_10, h⟩ := be_of h
  refine p7_237 hM hG eS_10 dX7_grown_69 ?_
  cases h
  subst eQ
  exact V_vret hG dX7_grown_72

def tw_rank (p0 : Int32) (S : TS) : Option (Int32) :=
be (if p0 < 13 then (
if p0 < 11 then (
if p0 < 5 then (
if p0 = 2 then (
3)
else (
if p0 = 3 then (
2)
else (
if p0 = 4 then (
1)
else (
0))))
else (
4))
else (
5))
else (
6) : Int32) fun (y_9 : Int32) =>
some y_9
def rm_tw_rank : Room := { frames := 0, cells := 0, slots := 0, locals := 0 }
theorem ok_tw_rank {E : En} (hE : EOk E) {o : Nat} {M0 : Mem} (hM : TwS o M0) {p0 : Int32} {S : TS} {r : Int32} (h : tw_rank p0 S = some r) : CM E yX7_rank cX7_rank 1 (some .int) rm_tw_rank [.int p0] (tw o S M0) (some (.int r)) (tw o S M0) := by
  unfold tw_rank at h
  refine CM_intro (own := RX7) rfl (by decide) (Nat.le_of_ble_eq_true rfl) rfl (fun G hG => ?_)
  obtain ⟨Q, eQ⟩ : ∃ Q, Q = QM E G (some (.int r)) (tw o S M0) 0 0 := ⟨_, rfl⟩
  show V E G (tw o S M0) 0 0 1 0 [(0, .int p0)] [] (QM E G (some (.int r)) (tw o S M0) 0 0)
  rw [← eQ]
  refine V_iload_n hG 0 rfl dX7_rank_0 ?_
  refine V_bipush hG 13 (by decide) dX7_rank_1 ?_
  obtain ⟨t_1, et_1, h⟩ := be_of h
  have J_2 : ∀ y_9 : Int32, y_9 = t_1 → V E G (tw o S M0) 0 0 1 58 [(0, .int p0)] [.int y_9] Q := by
    intro y_9 ey
    subst ey
    cases h
    subst eQ
    exact V_iret hG dX7_rank_58
  refine V_icmp_lt hG 11 dX7_rank_3 (by decide) (fun c_3 => ?_) (fun c_3 => ?_)
  · refine V_iload_n hG 0 rfl dX7_rank_11 ?_
    refine V_bipush hG 11 (by decide) dX7_rank_12 ?_
    refine V_icmp_lt hG 21 dX7_rank_14 (by decide) (fun c_4 => ?_) (fun c_4 => ?_)
    · refine V_iload_n hG 0 rfl dX7_rank_21 ?_
      refine V_iconst hG 5 rfl dX7_rank_22 ?_
      refine V_icmp_lt hG 30 dX7_rank_23 (by decide) (fun c_5 => ?_) (fun c_5 => ?_)
      · refine V_iload_n hG 0 rfl dX7_rank_30 ?_
        refine V_iconst hG 2 rfl dX7_rank_31 ?_
        refine V_icmp_ne hG 39 dX7_rank_32 (by decide) (fun c_6 => ?_) (fun c_6 => ?_)
        · refine V_iload_n hG 0 rfl dX7_rank_39 ?_
          refine V_iconst hG 3 rfl dX7_rank_40 ?_
          refine V_icmp_ne hG 48 dX7_rank_41 (by decide) (fun c_7 => ?_) (fun c_7 => ?_)
          · refine V_iload_n hG 0 rfl dX7_rank_48 ?_
            refine V_iconst hG 4 rfl dX7_rank_49 ?_
            refine V_icmp_ne hG 57 dX7_rank_50 (by decide) (fun c_8 => ?_) (fun c_8 => ?_)
            · refine V_iconst hG 0 rfl dX7_rank_57 ?_
              exact J_2 _ (by rw [et_1, if_pos c_3, if_pos c_4, if_pos c_5, if_neg c_6, if_neg c_7, if_neg c_8])
            · refine V_iconst hG 1 rfl dX7_rank_53 ?_
              refine V_goto hG 58 dX7_rank_54 (by decide) ?_
              exact J_2 _ (by rw [et_1, if_pos c_3, if_pos c_4, if_pos c_5, if_neg c_6, if_neg c_7, if_pos c_8])
          · refine V_iconst hG 2 rfl dX7_rank_44 ?_
            refine V_goto hG 58 dX7_rank_45 (by decide) ?_
            exact J_2 _ (by rw [et_1, if_pos c_3, if_pos c_4, if_pos c_5, if_neg c_6, if_pos c_7])
        · refine V_iconst hG 3 rfl dX7_rank_35 ?_
          refine V_goto hG 58 dX7_rank_36 (by decide) ?_
          exact J_2 _ (by rw [et_1, if_pos c_3, if_pos c_4, if_pos c_5, if_pos c_6])
      · refine V_iconst hG 4 rfl dX7_rank_26 ?_
        refine V_goto hG 58 dX7_rank_27 (by decide) ?_
        exact J_2 _ (by rw [et_1, if_pos c_3, if_pos c_4, if_neg c_5])
    · refine V_iconst hG 5 rfl dX7_rank_17 ?_
      refine V_goto hG 58 dX7_rank_18 (by decide) ?_
      exact J_2 _ (by rw [et_1, if_pos c_3, if_neg c_4])
  · refine V_bipush hG 6 (by decide) dX7_rank_6 ?_
    refine V_goto hG 58 dX7_rank_8 (by decide) ?_
    exact J_2 _ (by rw [et_1, if_neg c_3])

def tw_bind_b1 (N : Nat) (p1 : Int32) (S_6 : TS) : Option ((TS) ⊕ (TS)) :=
if tI S_6 0 45 ≤ 0 then (
some (.inl S_6))
else (
gd (inb ((tI S_6 0 45) - 1) (lenA 23)) (
bd (tw_rank (tI S_6 23 (Int32.toNatClampNeg ((tI S_6 0 45) - 1))) S_6) fun r_14 =>
if r_14 < p1 then (
some (.inl S_6))
else (
be (tsI S_6 0 45 ((tI S_6 0 45) - 1)) fun S_16 =>
gd (inb (tI S_16 0 45) (lenA 23)) (
be (tI S_16 23 (Int32.toNatClampNeg (tI S_16 0 45))) fun (x2_18 : Int32) =>
bd2 (if x2_18 = 2 then (
some ((-1), S_16))
else (
bd2 (tw_dropHeld S_16) fun r_31 S_30 =>
some (r_31, S_30)) : Option (Int32 × TS)) fun (t_19 : Int32) (S_20 : TS) =>
bd2 (tw_dropHeld S_20) fun r_25 S_24 =>
bd (tw_grown x2_18 r_25 t_19 S_24) fun S_27 =>
some (.inr S_27)))))
def tw_bind (N : Nat) (p1 : Int32) (S : TS) : Option (TS) :=
bd (lp N (fun s_10 : TS => tw_bind_b1 N p1 s_10) S) fun (S_7 : TS) =>
some S_7
def rm_tw_bind : Room := { frames := 1, cells := 0, slots := 0, locals := 23 }
theorem ok_tw_bind {E : En} (hE : EOk E) {o : Nat} {M0 : Mem} (hM : TwS o M0) {N : Nat} {p1 : Int32} {S : TS}  {S' : TS} (h : tw_bind N p1 S = some S') : CM E yX7_bind cX7_bind 5 none rm_tw_bind [rf E o, .int p1] (tw o S M0) none (tw o S' M0) := by
  unfold tw_bind at h
  refine CM_intro (own := RX7) rfl (by decide) (Nat.le_of_ble_eq_true rfl) rfl (fun G hG => ?_)
  obtain ⟨Q, eQ⟩ : ∃ Q, Q = QM E G none (tw o S' M0) 0 0 := ⟨_, rfl⟩
  show V E G (tw o S M0) 0 0 5 0 [(0, rf E o), (1, .int p1)] [] (QM E G none (tw o S' M0) 0 0)
  rw [← eQ]
  obtain ⟨S_7, hL_8, h⟩ := bd_of h
  have J_5 : ∀ q_9 : TS, q_9 = S_7 → V E G (tw o q_9 M0) 0 0 5 76 [(0, rf E o), (1, .int p1)] [] Q := by
    intro q_9 e9
    subst q_9
    show V E G (tw o S_7 M0) 0 0 5 76 [(0, rf E o), (1, .int p1)] [] Q
    cases h
    subst eQ
    exact V_vret hG dX7_bind_76
  refine lp_walk (W := fun s_10 : TS => V E G (tw o s_10 M0) 0 0 5 0 [(0, rf E o), (1, .int p1)] [] Q) ?_ N S hL_8
  intro s_10 b_1 hb_2 hk_3 hx_4
  obtain ⟨S_6, rfl⟩ : ∃ z, z = s_10 := ⟨_, rfl⟩
  have hb_2 : tw_bind_b1 N p1 S_6 = some b_1 := hb_2
  unfold tw_bind_b1 at hb_2
  show V E G (tw o S_6 M0) 0 0 5 0 [(0, rf E o), (1, .int p1)] [] Q
  refine V_aload_n hG 0 rfl dX7_bind_0 ?_
  refine g7_301 hM hG dX7_bind_1 ?_
  refine V_if_le hG 76 dX7_bind_4 (by decide) (fun c_11 => ?_) (fun c_11 => ?_)
  · have hb_2 := if_t c_11 hb_2
    cases hb_2
    exact J_5 _ (hx_4 _ rfl)
  · have hb_2 := if_f c_11 hb_2
    refine V_aload_n hG 0 rfl dX7_bind_7 ?_
    refine g7_81 hM hG dX7_bind_8 ?_
    refine V_aload_n hG 0 rfl dX7_bind_11 ?_
    refine g7_301 hM hG dX7_bind_12 ?_
    refine V_iconst hG 1 rfl dX7_bind_15 ?_
    refine V_isub hG dX7_bind_16 ?_
    obtain ⟨g_12, hb_2⟩ := gd_of hb_2
    refine T_iaload hM hG (by decide) g_12 dX7_bind_17 ?_
    obtain ⟨r_14, hc_13, hb_2⟩ := bd_of hb_2
    refine V_callS0 hE hG (As := [.int (tI S_6 23 (Int32.toNatClampNeg ((tI S_6 0 45) - 1)))]) (rest := []) (ok_tw_rank hE hM hc_13) hw7_304 hd_tw_rank ⟨Nat.le_of_ble_eq_true rfl, Nat.le_of_ble_eq_true rfl⟩ rfl rfl (Nat.le_of_ble_eq_true rfl) rfl rfl dX7_bind_18 ?_
    refine V_iload_n hG 1 rfl dX7_bind_21 ?_
    refine V_icmp_lt hG 76 dX7_bind_22 (by decide) (fun c_15 => ?_) (fun c_15 => ?_)
    · have hb_2 := if_t c_15 hb_2
      cases hb_2
      exact J_5 _ (hx_4 _ rfl)
    · have hb_2 := if_f c_15 hb_2
      refine V_aload_n hG 0 rfl dX7_bind_25 ?_
      refine V_dup hG rfl dX7_bind_26 ?_
      refine g7_301 hM hG dX7_bind_27 ?_
      refine V_iconst hG 1 rfl dX7_bind_30 ?_
      refine V_isub hG dX7_bind_31 ?_
      obtain ⟨S_16, eS_16, hb_2⟩ := be_of hb_2
      refine p7_301 hM hG eS_16 dX7_bind_32 ?_
      refine V_aload_n hG 0 rfl dX7_bind_35 ?_
      refine g7_81 hM hG dX7_bind_36 ?_
      refine V_aload_n hG 0 rfl dX7_bind_39 ?_
      refine g7_301 hM hG dX7_bind_40 ?_
      obtain ⟨g_17, hb_2⟩ := gd_of hb_2
      refine T_iaload hM hG (by decide) g_17 dX7_bind_43 ?_
      obtain ⟨x2_18, ex2_18, hb_2⟩ := be_of hb_2
      refine V_topi ex2_18 ?_
      refine V_istore_n hG rfl [(2, .int x2_18), (0, rf E o), (1, .int p1)] dX7_bind_44 (Nat.le_of_ble_eq_true rfl) rfl ?_
      refine V_iload_n hG 0 rfl dX7_bind_45 ?_
      refine V_iconst hG 2 rfl dX7_bind_46 ?_
      obtain ⟨t_19, S_20, hj_22, hb_2⟩ := bd2_of hb_2
      have J_21 : V E G (tw o S_20 M0) 0 0 5 58 [(2, .int x2_18), (0, rf E o), (1, .int p1)] [.int t_19] Q := by
        refine V_istore_n hG rfl [(3, .int t_19), (2, .int x2_18), (0, rf E o), (1, .int p1)] dX7_bind_58 (Nat.le_of_ble_eq_true rfl) rfl ?_
        refine V_aload_n hG 2 rfl dX7_bind_59 ?_
        obtain ⟨r_25, S_24, hc_23, hb_2⟩ := bd2_of hb_2
        refine V_callV0 hE hG (As := []) (rest := []) (ok_tw_dropHeld hE hM hc_23) hM.1 (by decide) rfl hw7_308 hd_tw_dropHeld ⟨Nat.le_of_ble_eq_true rfl, Nat.le_of_ble_eq_true rfl⟩ rfl rfl (Nat.le_of_ble_eq_true rfl) rfl rfl dX7_bind_60 ?_
        refine V_istore hG [(4, .int r_25), (3, .int t_19), (2, .int x2_18), (0, rf E o), (1, .int p1)] dX7_bind_63 (Nat.le_of_ble_eq_true rfl) rfl ?_
        refine V_aload_n hG 3 rfl dX7_bind_65 ?_
        refine V_iload_n hG 2 rfl dX7_bind_66 ?_
        refine V_iload hG 0 rfl dX7_bind_67 ?_
        refine V_iload_n hG 1 rfl dX7_bind_69 ?_
        obtain ⟨S_27, hc_26, hb_2⟩ := bd_of hb_2
        refine V_callV0 hE hG (As := [.int x2_18, .int r_25, .int t_19]) (rest := []) (ok_tw_grown hE hM hc_26) hM.1 (by decide) rfl hw7_312 hd_tw_grown ⟨Nat.le_of_ble_eq_true rfl, Nat.le_of_ble_eq_true rfl⟩ rfl rfl (Nat.le_of_ble_eq_true rfl) rfl rfl dX7_bind_70 ?_
        refine V_goto hG 0 dX7_bind_73 (by decide) ?_
        cases hb_2
        exact V_lv [3, 4] rfl (hk_3 _ rfl)
      refine V_icmp_ne hG 54 dX7_bind_47 (by decide) (fun c_28 => ?_) (fun c_28 => ?_)
      · have hj_22 := if_f c_28 hj_22
        refine V_aload_n hG 1 rfl dX7_bind_54 ?_
        obtain ⟨r_31, S_30, hc_29, hj_22⟩ := bd2_of hj_22
        refine V_callV0 hE hG (As := []) (rest := []) (ok_tw_dropHeld hE hM hc_29) hM.1 (by decide) rfl hw7_308 hd_tw_dropHeld ⟨Nat.le_of_ble_eq_true rfl, Nat.le_of_ble_eq_true rfl⟩ rfl rfl (Nat.le_of_ble_eq_true rfl) rfl rfl dX7_bind_55 ?_
        cases hj_22
        exact J_21
      · have hj_22 := if_t c_28 hj_22
        refine V_iconst hG (-1) rfl dX7_bind_50 ?_
        refine V_goto hG 58 dX7_bind_51 (by decide) ?_
        cases hj_22
        exact J_21

def tw_chance_b1 (N : Nat) (x5_12 : Int64) (p1 : Int32) (p2 : Int32) (p3 : Int32) (p4 : Int32) (x8_19 : Int32) (x7_20 : Int32) (S_21 : TS) : Option ((Int32 × Int32 × TS) ⊕ (Int32 × Int32 × TS)) :=
if 10 ≤ x8_19 then (
some (.inl (x8_19, x7_20, S_21)))
else (
bd (tw_layTried N S_21) fun S_32 =>
be (tsI S_32 0 69 1) fun S_33 =>
bd (tw_goMany N p2 S_33) fun S_35 =>
gd (inb (6 + p3) (lenA 33)) (
be (if tI S_35 33 (Int32.toNatClampNeg (6 + p3)) < p4 then (
0)
else (
1) : Int32) fun (y_40 : Int32) =>
be (x7_20 + y_40) fun (x7_41 : Int32) =>
be (x8_19 + 1) fun (x8_42 : Int32) =>
some (.inr (x8_42, x7_41, S_35))))
def tw_chance (N : Nat) (p1 : Int32) (p2 : Int32) (p3 : Int32) (p4 : Int32) (S : TS) : Option (Int32 × TS) :=
be (tsI S 0 2 0) fun S_1 =>
if p1 < 0 then (
some ((-1), S_1))
else (
bd (tw_isIn p2 1 99 S_1) fun r_4 =>
if r_4 = 0 then (
some ((-1), S_1))
else (
bd (tw_isTrough p3 S_1) fun r_7 =>
if r_7 = 0 then (
some ((-1), S_1))
else (
bd (tw_isIn p4 0 99 S_1) fun r_10 =>
if r_10 = 0 then (
some ((-1), S_1))
else (
be (tL S_1 0 67) fun (x5_12 : Int64) =>
be (tsL S_1 0 67 (Int32.toInt64 p1)) fun S_13 =>
bd3 (lp N (fun s_29 : Int32 × Int32 × TS => tw_chance_b1 N x5_12 p1 p2 p3 p4 s_29.1 s_29.2.1 s_29.2.2) (0, 0, S_13)) fun (x8_22 : Int32) (x7_23 : Int32) (S_24 : TS) =>
be (tsI S_24 0 69 0) fun S_27 =>
be (tsL S_27 0 67 x5_12) fun S_28 =>
some (x7_23, S_28)))))
def rm_tw_chance : Room := { frames := 7, cells := 0, slots := 0, locals := 169 }
theorem ok_tw_chance {E : En} (hE : EOk E) {o : Nat} {M0 : Mem} (hM : TwS o M0) {N : Nat} {p1 : Int32} {p2 : Int32} {p3 : Int32} {p4 : Int32} {S : TS} {r : Int32} {S' : TS} (h : tw_chance N p1 p2 p3 p4 S = some (r, S')) : CM E yX7_chance cX7_chance 9 (some .int) rm_tw_chance [rf E o, .int p1, .int p2, .int p3, .int p4] (tw o S M0) (some (.int r)) (tw o S' M0) := by
  unfold tw_chance at h
  refine CM_intro (own := RX7) rfl (by decide) (Nat.le_of_ble_eq_true rfl) rfl (fun G hG => ?_)
  obtain ⟨Q, eQ⟩ : ∃ Q, Q = QM E G (some (.int r)) (tw o S' M0) 0 0 := ⟨_, rfl⟩
  show V E G (tw o S M0) 0 0 9 0 [(0, rf E o), (1, .int p1), (2, .int p2), (3, .int p3), (4, .int p4)] [] (QM E G (some (.int r)) (tw o S' M0) 0 0)
  rw [← eQ]
  refine V_aload_n hG 0 rfl dX7_chance_0 ?_
  refine V_iconst hG 0 rfl dX7_chance_1 ?_
  obtain ⟨S_1, eS_1, h⟩ := be_of h
  refine p7_160 hM hG eS_1 dX7_chance_2 ?_
  refine V_iload_n hG 1 rfl dX7_chance_5 ?_
  refine V_if_lt hG 38 dX7_chance_6 (by decide) (fun c_2 => ?_) (fun c_2 => ?_)
  · have h := if_t c_2 h
    refine V_iconst hG (-1) rfl dX7_chance_38 ?_
    cases h
    subst eQ
    exact V_iret hG dX7_chance_39
  · have h := if_f c_2 h
    refine V_iload_n hG 2 rfl dX7_chance_9 ?_
    refine V_iconst hG 1 rfl dX7_chance_10 ?_
    refine V_bipush hG 99 (by decide) dX7_chance_11 ?_
    obtain ⟨r_4, hc_3, h⟩ := bd_of h
    refine V_callS0 hE hG (As := [.int p2, .int 1, .int 99]) (rest := []) (ok_tw_isIn hE hM hc_3) hw7_205 hd_tw_isIn ⟨Nat.le_of_ble_eq_true rfl, Nat.le_of_ble_eq_true rfl⟩ rfl rfl (Nat.le_of_ble_eq_true rfl) rfl rfl dX7_chance_13 ?_
    refine V_if_eq hG 38 dX7_chance_16 (by decide) (fun c_5 => ?_) (fun c_5 => ?_)
    · have h := if_t c_5 h
      refine V_iconst hG (-1) rfl dX7_chance_38 ?_
      cases h
      subst eQ
      exact V_iret hG dX7_chance_39
    · have h := if_f c_5 h
      refine V_aload_n hG 0 rfl dX7_chance_19 ?_
      refine V_iload_n hG 3 rfl dX7_chance_20 ?_
      obtain ⟨r_7, hc_6, h⟩ := bd_of h
      refine V_callV0 hE hG (As := [.int p3]) (rest := []) (ok_tw_isTrough hE hM hc_6) hM.1 (by decide) rfl hw7_465 hd_tw_isTrough ⟨Nat.le_of_ble_eq_true rfl, Nat.le_of_ble_eq_true rfl⟩ rfl rfl (Nat.le_of_ble_eq_true rfl) rfl rfl dX7_chance_21 ?_
      refine V_if_eq hG 38 dX7_chance_24 (by decide) (fun c_8 => ?_) (fun c_8 => ?_)
      · have h := if_t c_8 h
        refine V_iconst hG (-1) rfl dX7_chance_38 ?_
        cases h
        subst eQ
        exact V_iret hG dX7_chance_39
      · have h := if_f c_8 h
        refine V_iload hG 4 rfl dX7_chance_27 ?_
        refine V_iconst hG 0 rfl dX7_chance_29 ?_
        refine V_bipush hG 99 (by decide) dX7_chance_30 ?_
        obtain ⟨r_10, hc_9, h⟩ := bd_of h
        refine V_callS0 hE hG (As := [.int p4, .int 0, .int 99]) (rest := []) (ok_tw_isIn hE hM hc_9) hw7_205 hd_tw_isIn ⟨Nat.le_of_ble_eq_true rfl, Nat.le_of_ble_eq_true rfl⟩ rfl rfl (Nat.le_of_ble_eq_true rfl) rfl rfl dX7_chance_32 ?_
        refine V_if_ne hG 40 dX7_chance_35 (by decide) (fun c_11 => ?_) (fun c_11 => ?_)
        · have h := if_f c_11 h
          refine V_aload_n hG 0 rfl dX7_chance_40 ?_
          refine g7_370 hM hG dX7_chance_41 ?_
          obtain ⟨x5_12, ex5_12, h⟩ := be_of h
          refine V_topl ex5_12 ?_
          refine V_lstore hG [(5, .long x5_12), (0, rf E o), (1, .int p1), (2, .int p2), (3, .int p3), (4, .int p4)] dX7_chance_44 (Nat.le_of_ble_eq_true rfl) rfl ?_
          refine V_aload_n hG 1 rfl dX7_chance_46 ?_
          refine V_iload_n hG 2 rfl dX7_chance_47 ?_
          refine V_i2l hG dX7_chance_48 ?_
          obtain ⟨S_13, eS_13, h⟩ := be_of h
          refine p7_370 hM hG eS_13 dX7_chance_49 ?_
          refine V_iconst hG 0 rfl dX7_chance_52 ?_
          refine V_istore hG [(7, .int 0), (5, .long x5_12), (0, rf E o), (1, .int p1), (2, .int p2), (3, .int p3), (4, .int p4)] dX7_chance_53 (Nat.le_of_ble_eq_true rfl) rfl ?_
          refine V_iconst hG 0 rfl dX7_chance_55 ?_
          refine V_istore hG [(8, .int 0), (7, .int 0), (5, .long x5_12), (0, rf E o), (1, .int p1), (2, .int p2), (3, .int p3), (4, .int p4)] dX7_chance_56 (Nat.le_of_ble_eq_true rfl) rfl ?_
          obtain ⟨x8_22, x7_23, S_24, hL_25, h⟩ := bd3_of h
          have J_18 : ∀ q_26 : Int32 × Int32 × TS, q_26 = (x8_22, x7_23, S_24) → V E G (tw o q_26.2.2 M0) 0 0 9 109 [(8, .int q_26.1), (7, .int q_26.2.1), (5, .long x5_12), (0, rf E o), (1, .int p1), (2, .int p2), (3, .int p3), (4, .int p4)] [] Q := by
            intro q_26 e9
            subst q_26
            show V E G (tw o S_24 M0) 0 0 9 109 [(8, .int x8_22), (7, .int x7_23), (5, .long x5_12), (0, rf E o), (1, .int p1), (2, .int p2), (3, .int p3), (4, .int p4)] [] Q
            refine V_aload_n hG 3 rfl dX7_chance_109 ?_
            refine V_iconst hG 0 rfl dX7_chance_110 ?_
            obtain ⟨S_27, eS_27, h⟩ := be_of h
            refine p7_386 hM hG eS_27 (Or.inl rfl) dX7_chance_111 ?_
            refine V_aload_n hG 3 rfl dX7_chance_114 ?_
            refine V_lload hG 2 rfl dX7_chance_115 ?_
            obtain ⟨S_28, eS_28, h⟩ := be_of h
            refine p7_370 hM hG eS_28 dX7_chance_117 ?_
            refine V_iload hG 1 rfl dX7_chance_120 ?_
            cases h
            subst eQ
            exact V_iret hG dX7_chance_122
          refine lp_walk (W := fun s_29 : Int32 × Int32 × TS => V E G (tw o s_29.2.2 M0) 0 0 9 58 [(8, .int s_29.1), (7, .int s_29.2.1), (5, .long x5_12), (0, rf E o), (1, .int p1), (2, .int p2), (3, .int p3), (4, .int p4)] [] Q) ?_ N (0, 0, S_13) hL_25
          intro s_29 b_14 hb_15 hk_16 hx_17
          obtain ⟨x8_19, x7_20, S_21⟩ := s_29
          have hb_15 : tw_chance_b1 N x5_12 p1 p2 p3 p4 x8_19 x7_20 S_21 = some b_14 := hb_15
          unfold tw_chance_b1 at hb_15
          show V E G (tw o S_21 M0) 0 0 9 58 [(8, .int x8_19), (7, .int x7_20), (5, .long x5_12), (0, rf E o), (1, .int p1), (2, .int p2), (3, .int p3), (4, .int p4)] [] Q
          refine V_iload hG 0 rfl dX7_chance_58 ?_
          refine V_bipush hG 10 (by decide) dX7_chance_60 ?_
          refine V_icmp_ge hG 109 dX7_chance_62 (by decide) (fun c_30 => ?_) (fun c_30 => ?_)
          · have hb_15 := if_t c_30 hb_15
            cases hb_15
            exact J_18 _ (hx_17 _ rfl)
          · have hb_15 := if_f c_30 hb_15
            refine V_aload_n hG 3 rfl dX7_chance_65 ?_
            obtain ⟨S_32, hc_31, hb_15⟩ := bd_of hb_15
            refine V_callV0 hE hG (As := []) (rest := []) (ok_tw_layTried hE hM hc_31) hM.1 (by decide) rfl hw7_473 hd_tw_layTried ⟨Nat.le_of_ble_eq_true rfl, Nat.le_of_ble_eq_true rfl⟩ rfl rfl (Nat.le_of_ble_eq_true rfl) rfl rfl dX7_chance_66 ?_
            refine V_aload_n hG 3 rfl dX7_chance_69 ?_
            refine V_iconst hG 1 rfl dX7_chance_70 ?_
            obtain ⟨S_33, eS_33, hb_15⟩ := be_of hb_15
            refine p7_386 hM hG eS_33 (Or.inr rfl) dX7_chance_71 ?_
            refine V_aload_n hG 3 rfl dX7_chance_74 ?_
            refine V_iload_n hG 5 rfl dX7_chance_75 ?_
            obtain ⟨S_35, hc_34, hb_15⟩ := bd_of hb_15
            refine V_callV0 hE hG (As := [.int p2]) (rest := []) (ok_tw_goMany hE hM hc_34) hM.1 (by decide) rfl hw7_476 hd_tw_goMany ⟨Nat.le_of_ble_eq_true rfl, Nat.le_of_ble_eq_true rfl⟩ rfl rfl (Nat.le_of_ble_eq_true rfl) rfl rfl dX7_chance_76 ?_
            refine V_iload hG 1 rfl dX7_chance_79 ?_
            refine V_aload_n hG 3 rfl dX7_chance_81 ?_
            refine g7_112 hM hG dX7_chance_82 ?_
            refine V_bipush hG 6 (by decide) dX7_chance_85 ?_
            refine V_iload_n hG 6 rfl dX7_chance_87 ?_
            refine V_iadd hG dX7_chance_88 ?_
            obtain ⟨g_36, hb_15⟩ := gd_of hb_15
            refine T_iaload hM hG (by decide) g_36 dX7_chance_89 ?_
            refine V_iload hG 7 rfl dX7_chance_90 ?_
            obtain ⟨t_37, et_37, hb_15⟩ := be_of hb_15
            have J_38 : ∀ y_40 : Int32, y_40 = t_37 → V E G (tw o S_35 M0) 0 0 9 100 [(8, .int x8_19), (7, .int x7_20), (5, .long x5_12), (0, rf E o), (1, .int p1), (2, .int p2), (3, .int p3), (4, .int p4)] [.int y_40, .int x7_20] Q := by
              intro y_40 ey
              subst ey
              refine V_iadd hG dX7_chance_100 ?_
              obtain ⟨x7_41, ex7_41, hb_15⟩ := be_of hb_15
              refine V_topi ex7_41 ?_
              refine V_istore hG [(7, .int x7_41), (8, .int x8_19), (5, .long x5_12), (0, rf E o), (1, .int p1), (2, .int p2), (3, .int p3), (4, .int p4)] dX7_chance_101 (Nat.le_of_ble_eq_true rfl) rfl ?_
              obtain ⟨x8_42, ex8_42, hb_15⟩ := be_of hb_15
              refine V_iinc hG 1 x8_42 rfl (by rw [ex8_42]; rfl) [(8, .int x8_42), (7, .int x7_41), (5, .long x5_12), (0, rf E o), (1, .int p1), (2, .int p2), (3, .int p3), (4, .int p4)] dX7_chance_103 (Nat.le_of_ble_eq_true rfl) rfl ?_
              refine V_goto hG 58 dX7_chance_106 (by decide) ?_
              cases hb_15
              exact hk_16 _ rfl
            refine V_icmp_lt hG 99 dX7_chance_92 (by decide) (fun c_39 => ?_) (fun c_39 => ?_)
            · refine V_iconst hG 0 rfl dX7_chance_99 ?_
              exact J_38 _ (by rw [et_37, if_pos c_39])
            · refine V_iconst hG 1 rfl dX7_chance_95 ?_
              refine V_goto hG 100 dX7_chance_96 (by decide) ?_
              exact J_38 _ (by rw [et_37, if_neg c_39])
        · have h := if_t c_11 h
          refine V_iconst hG (-1) rfl dX7_chance_38 ?_
          cases h
          subst eQ
          exact V_iret hG dX7_chance_39

def tw_copies_b1 (N : Nat) (p0 : Nat) (p1 : Int32) (x2_6 : Int32) (S_7 : TS) : Option ((Int32 × TS) ⊕ (Int32 × TS)) :=
if p1 ≤ x2_6 then (
some (.inl (x2_6, S_7)))
else (
gd (tyA p0 = 0) (
gd (inb (p1 + x2_6) (lenA p0)) (
gd (tyA p0 = 0) (
gd (inb x2_6 (lenA p0)) (
be (tsI S_7 p0 (Int32.toNatClampNeg x2_6) (tI S_7 p0 (Int32.toNatClampNeg (p1 + x2_6)))) fun S_18 =>
be (x2_6 + 1) fun (x2_19 : Int32) =>
some (.inr (x2_19, S_18)))))))
def tw_copies (N : Nat) (p0 : Nat) (p1 : Int32) (S : TS) : Option (TS) :=
bd2 (lp N (fun s_12 : Int32 × TS => tw_copies_b1 N p0 p1 s_12.1 s_12.2) (0, S)) fun (x2_8 : Int32) (S_9 : TS) =>
some S_9
def rm_tw_copies : Room := { frames := 0, cells := 0, slots := 0, locals := 0 }
theorem ok_tw_copies {E : En} (hE : EOk E) {o : Nat} {M0 : Mem} (hM : TwS o M0) {N : Nat} {p0 : Nat} {p1 : Int32} {S : TS}  {S' : TS} (h : tw_copies N p0 p1 S = some S') : CM E yX7_copies cX7_copies 3 none rm_tw_copies [rf E ((o + p0)), .int p1] (tw o S M0) none (tw o S' M0) := by
  unfold tw_copies at h
  refine CM_intro (own := RX7) rfl (by decide) (Nat.le_of_ble_eq_true rfl) rfl (fun G hG => ?_)
  obtain ⟨Q, eQ⟩ : ∃ Q, Q = QM E G none (tw o S' M0) 0 0 := ⟨_, rfl⟩
  show V E G (tw o S M0) 0 0 3 0 [(0, rf E ((o + p0))), (1, .int p1)] [] (QM E G none (tw o S' M0) 0 0)
  rw [← eQ]
  refine V_iconst hG 0 rfl dX7_copies_0 ?_
  refine V_istore_n hG rfl [(2, .int 0), (0, rf E ((o + p0))), (1, .int p1)] dX7_copies_1 (Nat.le_of_ble_eq_true rfl) rfl ?_
  obtain ⟨x2_8, S_9, hL_10, h⟩ := bd2_of h
  have J_5 : ∀ q_11 : Int32 × TS, q_11 = (x2_8, S_9) → V E G (tw o q_11.2 M0) 0 0 3 21 [(2, .int q_11.1), (0, rf E ((o + p0))), (1, .int p1)] [] Q := by
    intro q_11 e9
    subst q_11
    show V E G (tw o S_9 M0) 0 0 3 21 [(2, .int x2_8), (0, rf E ((o + p0))), (1, .int p1)] [] Q
    cases h
    subst eQ
    exact V_vret hG dX7_copies_21
  refine lp_walk (W := fun s_12 : Int32 × TS => V E G (tw o s_12.2 M0) 0 0 3 2 [(2, .int s_12.1), (0, rf E ((o + p0))), (1, .int p1)] [] Q) ?_ N (0, S) hL_10
  intro s_12 b_1 hb_2 hk_3 hx_4
  obtain ⟨x2_6, S_7⟩ := s_12
  have hb_2 : tw_copies_b1 N p0 p1 x2_6 S_7 = some b_1 := hb_2
  unfold tw_copies_b1 at hb_2
  show V E G (tw o S_7 M0) 0 0 3 2 [(2, .int x2_6), (0, rf E ((o + p0))), (1, .int p1)] [] Q
  refine V_iload_n hG 0 rfl dX7_copies_2 ?_
  refine V_iload_n hG 2 rfl dX7_copies_3 ?_
  refine V_icmp_ge hG 21 dX7_copies_4 (by decide) (fun c_13 => ?_) (fun c_13 => ?_)
  · have hb_2 := if_t c_13 hb_2
    cases hb_2
    exact J_5 _ (hx_4 _ rfl)
  · have hb_2 := if_f c_13 hb_2
    refine V_aload_n hG 1 rfl dX7_copies_7 ?_
    refine V_iload_n hG 0 rfl dX7_copies_8 ?_
    refine V_aload_n hG 1 rfl dX7_copies_9 ?_
    refine V_iload_n hG 2 rfl dX7_copies_10 ?_
    refine V_iload_n hG 0 rfl dX7_copies_11 ?_
    refine V_iadd hG dX7_copies_12 ?_
    obtain ⟨g_14, hb_2⟩ := gd_of hb_2
    obtain ⟨g_15, hb_2⟩ := gd_of hb_2
    refine T_iaload hM hG g_14 g_15 dX7_copies_13 ?_
    obtain ⟨g_16, hb_2⟩ := gd_of hb_2
    obtain ⟨g_17, hb_2⟩ := gd_of hb_2
    obtain ⟨S_18, eS_18, hb_2⟩ := be_of hb_2
    refine T_iastore hM hG eS_18 g_16 g_17 dX7_copies_14 ?_
    obtain ⟨x2_19, ex2_19, hb_2⟩ := be_of hb_2
    refine V_iinc hG 0 x2_19 rfl (by rw [ex2_19]; rfl) [(2, .int x2_19), (0, rf E ((o + p0))), (1, .int p1)] dX7_copies_15 (Nat.le_of_ble_eq_true rfl) rfl ?_
    refine V_goto hG 2 dX7_copies_18 (by decide) ?_
    cases hb_2
    exact hk_3 _ rfl

def tw_knownBy  (S : TS) : Option (Int32) :=
be (if 0 ≤ tI S 0 75 then (
tI S 0 75)
else (
tI S 0 74) : Int32) fun (y_4 : Int32) =>
some y_4
def rm_tw_knownBy : Room := { frames := 0, cells := 0, slots := 0, locals := 0 }
theorem ok_tw_knownBy {E : En} (hE : EOk E) {o : Nat} {M0 : Mem} (hM : TwS o M0)  {S : TS} {r : Int32} (h : tw_knownBy  S = some r) : CM E yX7_knownBy cX7_knownBy 1 (some .int) rm_tw_knownBy [rf E o] (tw o S M0) (some (.int r)) (tw o S M0) := by
  unfold tw_knownBy at h
  refine CM_intro (own := RX7) rfl (by decide) (Nat.le_of_ble_eq_true rfl) rfl (fun G hG => ?_)
  obtain ⟨Q, eQ⟩ : ∃ Q, Q = QM E G (some (.int r)) (tw o S M0) 0 0 := ⟨_, rfl⟩
  show V E G (tw o S M0) 0 0 1 0 [(0, rf E o)] [] (QM E G (some (.int r)) (tw o S M0) 0 0)
  rw [← eQ]
  refine V_aload_n hG 0 rfl dX7_knownBy_0 ?_
  refine g7_136 hM hG dX7_knownBy_1 ?_
  obtain ⟨t_1, et_1, h⟩ := be_of h
  have J_2 : ∀ y_4 : Int32, y_4 = t_1 → V E G (tw o S M0) 0 0 1 18 [(0, rf E o)] [.int y_4] Q := by
    intro y_4 ey
    subst ey
    cases h
    subst eQ
    exact V_iret hG dX7_knownBy_18
  refine V_if_ge hG 14 dX7_knownBy_4 (by decide) (fun c_3 => ?_) (fun c_3 => ?_)
  · refine V_aload_n hG 0 rfl dX7_knownBy_14 ?_
    refine g7_136 hM hG dX7_knownBy_15 ?_
    exact J_2 _ (by rw [et_1, if_pos c_3])
  · refine V_aload_n hG 0 rfl dX7_knownBy_7 ?_
    refine g7_377 hM hG dX7_knownBy_8 ?_
    refine V_goto hG 18 dX7_knownBy_11 (by decide) ?_
    exact J_2 _ (by rw [et_1, if_neg c_3])

def tw_count_b1 (N : Nat) (p1 : Int32) (S_1 : TS) (x3_19 : Int32) (x2_20 : Int32) : Option ((Int32 × Int32) ⊕ (Int32 × Int32)) :=
if tI S_1 0 12 ≤ x3_19 then (
some (.inl (x3_19, x2_20)))
else (
gd (inb x3_19 (lenA 33)) (
be (x2_20 + (tI S_1 33 (Int32.toNatClampNeg x3_19))) fun (x2_28 : Int32) =>
be (x3_19 + 1) fun (x3_29 : Int32) =>
some (.inr (x3_29, x2_28))))
def tw_count (N : Nat) (p1 : Int32) (S : TS) : Option (Int32 × TS) :=
be (tsI S 0 2 0) fun S_1 =>
if p1 = 0 then (
some (tI S_1 0 12, S_1))
else (
if p1 = 1 then (
some (tI S_1 0 13, S_1))
else (
if p1 = 2 then (
some (tI S_1 0 14, S_1))
else (
if p1 = 3 then (
some (tI S_1 0 15, S_1))
else (
if p1 = 4 then (
some (tI S_1 0 16, S_1))
else (
if p1 = 5 then (
some (tI S_1 37 (Int32.toNatClampNeg 0), S_1))
else (
if p1 = 6 then (
some (tI S_1 34 (Int32.toNatClampNeg 0), S_1))
else (
if p1 = 7 then (
some (tI S_1 35 (Int32.toNatClampNeg 0), S_1))
else (
if p1 = 8 then (
bd (tw_onMany N 0 S_1) fun r_12 =>
some (r_12, S_1))
else (
if p1 = 9 then (
bd2 (lp N (fun s_25 : Int32 × Int32 => tw_count_b1 N p1 S_1 s_25.1 s_25.2) (0, 0)) fun (x3_21 : Int32) (x2_22 : Int32) =>
some (x2_22, S_1))
else (
if p1 = 10 then (
some (tI S_1 36 (Int32.toNatClampNeg 0), S_1))
else (
if p1 = 11 then (
some (tI S_1 0 74, S_1))
else (
if p1 = 12 then (
bd (tw_knownBy S_1) fun r_34 =>
some (r_34, S_1))
else (
if p1 = 13 then (
some (tI S_1 0 78, S_1))
else (
some ((-1), S_1)))))))))))))))
def rm_tw_count : Room := { frames := 1, cells := 0, slots := 0, locals := 23 }
theorem ok_tw_count {E : En} (hE : EOk E) {o : Nat} {M0 : Mem} (hM : TwS o M0) {N : Nat} {p1 : Int32} {S : TS} {r : Int32} {S' : TS} (h : tw_count N p1 S = some (r, S')) : CM E yX7_count cX7_count 4 (some .int) rm_tw_count [rf E o, .int p1] (tw o S M0) (some (.int r)) (tw o S' M0) := by
  unfold tw_count at h
  refine CM_intro (own := RX7) rfl (by decide) (Nat.le_of_ble_eq_true rfl) rfl (fun G hG => ?_)
  obtain ⟨Q, eQ⟩ : ∃ Q, Q = QM E G (some (.int r)) (tw o S' M0) 0 0 := ⟨_, rfl⟩
  show V E G (tw o S M0) 0 0 4 0 [(0, rf E o), (1, .int p1)] [] (QM E G (some (.int r)) (tw o S' M0) 0 0)
  rw [← eQ]
  refine V_aload_n hG 0 rfl dX7_count_0 ?_
  refine V_iconst hG 0 rfl dX7_count_1 ?_
  obtain ⟨S_1, eS_1, h⟩ := be_of h
  refine p7_160 hM hG eS_1 dX7_count_2 ?_
  refine V_iconst hG 0 rfl dX7_count_5 ?_
  refine V_istore_n hG rfl [(2, .int 0), (0, rf E o), (1, .int p1)] dX7_count_6 (Nat.le_of_ble_eq_true rfl) rfl ?_
  refine V_iload_n hG 2 rfl dX7_count_7 ?_
  by_cases c_2 : p1 = 0
  · have h := if_t c_2 h
    refine V_tableIn hG 80 dX7_count_8 (by rw [c_2]; decide) (by rw [c_2]; decide) (by rw [c_2]; rfl) (by decide) ?_
    refine V_aload_n hG 1 rfl dX7_count_80 ?_
    refine g7_243 hM hG dX7_count_81 ?_
    cases h
    subst eQ
    exact V_iret hG dX7_count_84
  have h := if_f c_2 h
  by_cases c_3 : p1 = 1
  · have h := if_t c_3 h
    refine V_tableIn hG 85 dX7_count_8 (by rw [c_3]; decide) (by rw [c_3]; decide) (by rw [c_3]; rfl) (by decide) ?_
    refine V_aload_n hG 1 rfl dX7_count_85 ?_
    refine g7_246 hM hG dX7_count_86 ?_
    cases h
    subst eQ
    exact V_iret hG dX7_count_89
  have h := if_f c_3 h
  by_cases c_4 : p1 = 2
  · have h := if_t c_4 h
    refine V_tableIn hG 90 dX7_count_8 (by rw [c_4]; decide) (by rw [c_4]; decide) (by rw [c_4]; rfl) (by decide) ?_
    refine V_aload_n hG 1 rfl dX7_count_90 ?_
    refine g7_249 hM hG dX7_count_91 ?_
    cases h
    subst eQ
    exact V_iret hG dX7_count_94
  have h := if_f c_4 h
  by_cases c_5 : p1 = 3
  · have h := if_t c_5 h
    refine V_tableIn hG 95 dX7_count_8 (by rw [c_5]; decide) (by rw [c_5]; decide) (by rw [c_5]; rfl) (by decide) ?_
    refine V_aload_n hG 1 rfl dX7_count_95 ?_
    refine g7_252 hM hG dX7_count_96 ?_
    cases h
    subst eQ
    exact V_iret hG dX7_count_99
  have h := if_f c_5 h
  by_cases c_6 : p1 = 4
  · have h := if_t c_6 h
    refine V_tableIn hG 100 dX7_count_8 (by rw [c_6]; decide) (by rw [c_6]; decide) (by rw [c_6]; rfl) (by decide) ?_
    refine V_aload_n hG 1 rfl dX7_count_100 ?_
    refine g7_255 hM hG dX7_count_101 ?_
    cases h
    subst eQ
    exact V_iret hG dX7_count_104
  have h := if_f c_6 h
  by_cases c_7 : p1 = 5
  · have h := if_t c_7 h
    refine V_tableIn hG 105 dX7_count_8 (by rw [c_7]; decide) (by rw [c_7]; decide) (by rw [c_7]; rfl) (by decide) ?_
    refine V_aload_n hG 1 rfl dX7_count_105 ?_
    refine g7_124 hM hG dX7_count_106 ?_
    refine V_iconst hG 0 rfl dX7_count_109 ?_
    refine T_iaload hM hG (by decide) (by decide) dX7_count_110 ?_
    cases h
    subst eQ
    exact V_iret hG dX7_count_111
  have h := if_f c_7 h
  by_cases c_8 : p1 = 6
  · have h := if_t c_8 h
    refine V_tableIn hG 112 dX7_count_8 (by rw [c_8]; decide) (by rw [c_8]; decide) (by rw [c_8]; rfl) (by decide) ?_
    refine V_aload_n hG 1 rfl dX7_count_112 ?_
    refine g7_115 hM hG dX7_count_113 ?_
    refine V_iconst hG 0 rfl dX7_count_116 ?_
    refine T_iaload hM hG (by decide) (by decide) dX7_count_117 ?_
    cases h
    subst eQ
    exact V_iret hG dX7_count_118
  have h := if_f c_8 h
  by_cases c_9 : p1 = 7
  · have h := if_t c_9 h
    refine V_tableIn hG 119 dX7_count_8 (by rw [c_9]; decide) (by rw [c_9]; decide) (by rw [c_9]; rfl) (by decide) ?_
    refine V_aload_n hG 1 rfl dX7_count_119 ?_
    refine g7_118 hM hG dX7_count_120 ?_
    refine V_iconst hG 0 rfl dX7_count_123 ?_
    refine T_iaload hM hG (by decide) (by decide) dX7_count_124 ?_
    cases h
    subst eQ
    exact V_iret hG dX7_count_125
  have h := if_f c_9 h
  by_cases c_10 : p1 = 8
  · have h := if_t c_10 h
    refine V_tableIn hG 126 dX7_count_8 (by rw [c_10]; decide) (by rw [c_10]; decide) (by rw [c_10]; rfl) (by decide) ?_
    refine V_aload_n hG 1 rfl dX7_count_126 ?_
    refine V_iconst hG 0 rfl dX7_count_127 ?_
    obtain ⟨r_12, hc_11, h⟩ := bd_of h
    refine V_callV0 hE hG (As := [.int 0]) (rest := []) (ok_tw_onMany hE hM hc_11) hM.1 (by decide) rfl hw7_479 hd_tw_onMany ⟨Nat.le_of_ble_eq_true rfl, Nat.le_of_ble_eq_true rfl⟩ rfl rfl (Nat.le_of_ble_eq_true rfl) rfl rfl dX7_count_128 ?_
    cases h
    subst eQ
    exact V_iret hG dX7_count_131
  have h := if_f c_10 h
  by_cases c_13 : p1 = 9
  · have h := if_t c_13 h
    refine V_tableIn hG 132 dX7_count_8 (by rw [c_13]; decide) (by rw [c_13]; decide) (by rw [c_13]; rfl) (by decide) ?_
    refine V_iconst hG 0 rfl dX7_count_132 ?_
    refine V_istore_n hG rfl [(3, .int 0), (2, .int 0), (0, rf E o), (1, .int p1)] dX7_count_133 (Nat.le_of_ble_eq_true rfl) rfl ?_
    obtain ⟨x3_21, x2_22, hL_23, h⟩ := bd2_of h
    have J_18 : ∀ q_24 : Int32 × Int32, q_24 = (x3_21, x2_22) → V E G (tw o S_1 M0) 0 0 4 157 [(3, .int q_24.1), (2, .int q_24.2), (0, rf E o), (1, .int p1)] [] Q := by
      intro q_24 e9
      subst q_24
      show V E G (tw o S_1 M0) 0 0 4 157 [(3, .int x3_21), (2, .int x2_22), (0, rf E o), (1, .int p1)] [] Q
      refine V_iload_n hG 1 rfl dX7_count_157 ?_
      cases h
      subst eQ
      exact V_iret hG dX7_count_158
    refine lp_walk (W := fun s_25 : Int32 × Int32 => V E G (tw o S_1 M0) 0 0 4 134 [(3, .int s_25.1), (2, .int s_25.2), (0, rf E o), (1, .int p1)] [] Q) ?_ N (0, 0) hL_23
    intro s_25 b_14 hb_15 hk_16 hx_17
    obtain ⟨x3_19, x2_20⟩ := s_25
    have hb_15 : tw_count_b1 N p1 S_1 x3_19 x2_20 = some b_14 := hb_15
    unfold tw_count_b1 at hb_15
    show V E G (tw o S_1 M0) 0 0 4 134 [(3, .int x3_19), (2, .int x2_20), (0, rf E o), (1, .int p1)] [] Q
    refine V_iload_n hG 0 rfl dX7_count_134 ?_
    refine V_aload_n hG 2 rfl dX7_count_135 ?_
    refine g7_243 hM hG dX7_count_136 ?_
    refine V_icmp_ge hG 157 dX7_count_139 (by decide) (fun c_26 => ?_) (fun c_26 => ?_)
    · have hb_15 := if_t c_26 hb_15
      cases hb_15
      exact J_18 _ (hx_17 _ rfl)
    · have hb_15 := if_f c_26 hb_15
      refine V_iload_n hG 1 rfl dX7_count_142 ?_
      refine V_aload_n hG 2 rfl dX7_count_143 ?_
      refine g7_112 hM hG dX7_count_144 ?_
      refine V_iload_n hG 0 rfl dX7_count_147 ?_
      obtain ⟨g_27, hb_15⟩ := gd_of hb_15
      refine T_iaload hM hG (by decide) g_27 dX7_count_148 ?_
      refine V_iadd hG dX7_count_149 ?_
      obtain ⟨x2_28, ex2_28, hb_15⟩ := be_of hb_15
      refine V_topi ex2_28 ?_
      refine V_istore_n hG rfl [(2, .int x2_28), (3, .int x3_19), (0, rf E o), (1, .int p1)] dX7_count_150 (Nat.le_of_ble_eq_true rfl) rfl ?_
      obtain ⟨x3_29, ex3_29, hb_15⟩ := be_of hb_15
      refine V_iinc hG 1 x3_29 rfl (by rw [ex3_29]; rfl) [(3, .int x3_29), (2, .int x2_28), (0, rf E o), (1, .int p1)] dX7_count_151 (Nat.le_of_ble_eq_true rfl) rfl ?_
      refine V_goto hG 134 dX7_count_154 (by decide) ?_
      cases hb_15
      exact hk_16 _ rfl
  have h := if_f c_13 h
  by_cases c_30 : p1 = 10
  · have h := if_t c_30 h
    refine V_tableIn hG 159 dX7_count_8 (by rw [c_30]; decide) (by rw [c_30]; decide) (by rw [c_30]; rfl) (by decide) ?_
    refine V_aload_n hG 1 rfl dX7_count_159 ?_
    refine g7_121 hM hG dX7_count_160 ?_
    refine V_iconst hG 0 rfl dX7_count_163 ?_
    refine T_iaload hM hG (by decide) (by decide) dX7_count_164 ?_
    cases h
    subst eQ
    exact V_iret hG dX7_count_165
  have h := if_f c_30 h
  by_cases c_31 : p1 = 11
  · have h := if_t c_31 h
    refine V_tableIn hG 166 dX7_count_8 (by rw [c_31]; decide) (by rw [c_31]; decide) (by rw [c_31]; rfl) (by decide) ?_
    refine V_aload_n hG 1 rfl dX7_count_166 ?_
    refine g7_377 hM hG dX7_count_167 ?_
    cases h
    subst eQ
    exact V_iret hG dX7_count_170
  have h := if_f c_31 h
  by_cases c_32 : p1 = 12
  · have h := if_t c_32 h
    refine V_tableIn hG 171 dX7_count_8 (by rw [c_32]; decide) (by rw [c_32]; decide) (by rw [c_32]; rfl) (by decide) ?_
    refine V_aload_n hG 1 rfl dX7_count_171 ?_
    obtain ⟨r_34, hc_33, h⟩ := bd_of h
    refine V_callV0 hE hG (As := []) (rest := []) (ok_tw_knownBy hE hM hc_33) hM.1 (by decide) rfl hw7_511 hd_tw_knownBy ⟨Nat.le_of_ble_eq_true rfl, Nat.le_of_ble_eq_true rfl⟩ rfl rfl (Nat.le_of_ble_eq_true rfl) rfl rfl dX7_count_172 ?_
    cases h
    subst eQ
    exact V_iret hG dX7_count_175
  have h := if_f c_32 h
  by_cases c_35 : p1 = 13
  · have h := if_t c_35 h
    refine V_tableIn hG 176 dX7_count_8 (by rw [c_35]; decide) (by rw [c_35]; decide) (by rw [c_35]; rfl) (by decide) ?_
    refine V_aload_n hG 1 rfl dX7_count_176 ?_
    refine g7_380 hM hG dX7_count_177 ?_
    cases h
    subst eQ
    exact V_iret hG dX7_count_180
  have h := if_f c_35 h
  refine V_tableOut hG 181 dX7_count_8 (by have := lv_neT c_2 (show Int32.toInt 0 = 0 from rfl); have := lv_neT c_3 (show Int32.toInt 1 = 1 from rfl); have := lv_neT c_4 (show Int32.toInt 2 = 2 from rfl); have := lv_neT c_5 (show Int32.toInt 3 = 3 from rfl); have := lv_neT c_6 (show Int32.toInt 4 = 4 from rfl); have := lv_neT c_7 (show Int32.toInt 5 = 5 from rfl); have := lv_neT c_8 (show Int32.toInt 6 = 6 from rfl); have := lv_neT c_9 (show Int32.toInt 7 = 7 from rfl); have := lv_neT c_10 (show Int32.toInt 8 = 8 from rfl); have := lv_neT c_13 (show Int32.toInt 9 = 9 from rfl); have := lv_neT c_30 (show Int32.toInt 10 = 10 from rfl); have := lv_neT c_31 (show Int32.toInt 11 = 11 from rfl); have := lv_neT c_32 (show Int32.toInt 12 = 12 from rfl); have := lv_neT c_35 (show Int32.toInt 13 = 13 from rfl); omega) (by decide) ?_
  refine V_iconst hG (-1) rfl dX7_count_181 ?_
  cases h
  subst eQ
  exact V_iret hG dX7_count_182

def tw_isOf (p0 : Int32) (p1 : Int32) (S : TS) : Option (Int32) :=
be (if (p0 >>> (p1 &&& 31)) &&& 1 = 1 then (
1)
else (
0) : Int32) fun (y_4 : Int32) =>
gd (y_4 = 0 ∨ y_4 = 1) (
some y_4)
def rm_tw_isOf : Room := { frames := 0, cells := 0, slots := 0, locals := 0 }
theorem ok_tw_isOf {E : En} (hE : EOk E) {o : Nat} {M0 : Mem} (hM : TwS o M0) {p0 : Int32} {p1 : Int32} {S : TS} {r : Int32} (h : tw_isOf p0 p1 S = some r) : CM E yX7_isOf cX7_isOf 2 (some .boolean) rm_tw_isOf [.int p0, .int p1] (tw o S M0) (some (.int r)) (tw o S M0) := by
  unfold tw_isOf at h
  refine CM_intro (own := RX7) rfl (by decide) (Nat.le_of_ble_eq_true rfl) rfl (fun G hG => ?_)
  obtain ⟨Q, eQ⟩ : ∃ Q, Q = QM E G (some (.int r)) (tw o S M0) 0 0 := ⟨_, rfl⟩
  show V E G (tw o S M0) 0 0 2 0 [(0, .int p0), (1, .int p1)] [] (QM E G (some (.int r)) (tw o S M0) 0 0)
  rw [← eQ]
  refine V_iload_n hG 0 rfl dX7_isOf_0 ?_
  refine V_iload_n hG 1 rfl dX7_isOf_1 ?_
  refine V_ishr hG dX7_isOf_2 ?_
  refine V_iconst hG 1 rfl dX7_isOf_3 ?_
  refine V_iand hG dX7_isOf_4 ?_
  refine V_iconst hG 1 rfl dX7_isOf_5 ?_
  obtain ⟨t_1, et_1, h⟩ := be_of h
  have J_2 : ∀ y_4 : Int32, y_4 = t_1 → V E G (tw o S M0) 0 0 2 14 [(0, .int p0), (1, .int p1)] [.int y_4] Q := by
    intro y_4 ey
    subst ey
    obtain ⟨g_5, h⟩ := gd_of h
    cases h
    subst eQ
    exact V_zret hG g_5 dX7_isOf_14
  refine V_icmp_ne hG 13 dX7_isOf_6 (by decide) (fun c_3 => ?_) (fun c_3 => ?_)
  · refine V_iconst hG 0 rfl dX7_isOf_13 ?_
    exact J_2 _ (by rw [et_1, if_neg c_3])
  · refine V_iconst hG 1 rfl dX7_isOf_9 ?_
    refine V_goto hG 14 dX7_isOf_10 (by decide) ?_
    exact J_2 _ (by rw [et_1, if_pos c_3])

def tw_isCovered_b1 (N : Nat) (p1 : Int32) (p2 : Int32) (S : TS) (x4_6 : Int32) (x3_7 : Int32) : Option (((Int32 × Int32) ⊕ (Int32)) ⊕ (Int32 × Int32)) :=
if tI S 0 15 < x4_6 then (
some (.inl (.inl (x4_6, x3_7))))
else (
bd (tw_troughAt N x4_6 S) fun r_18 =>
if tI S 0 15 ≤ x4_6 then (
if x4_6 - x3_7 ≤ p2 then (
be (x4_6 + 1) fun (x4_21 : Int32) =>
some (.inr (x4_21, x4_6)))
else (
some (.inl (.inr 0))))
else (
if r_18 < 0 then (
be (x4_6 + 1) fun (x4_25 : Int32) =>
some (.inr (x4_25, x3_7)))
else (
bd (tw_isOf p1 r_18 S) fun r_27 =>
if r_27 = 0 then (
be (x4_6 + 1) fun (x4_33 : Int32) =>
some (.inr (x4_33, x3_7)))
else (
if x4_6 - x3_7 ≤ p2 then (
be (x4_6 + 1) fun (x4_30 : Int32) =>
some (.inr (x4_30, x4_6)))
else (
some (.inl (.inr 0)))))))
def tw_isCovered (N : Nat) (p1 : Int32) (p2 : Int32) (S : TS) : Option (Int32) :=
bx2 (lp N (fun s_15 : Int32 × Int32 => tw_isCovered_b1 N p1 p2 S s_15.1 s_15.2) (1, 0)) (fun (x4_9 : Int32) (x3_10 : Int32) =>
some 1) (fun (w_34 : Int32) => some w_34)
def rm_tw_isCovered : Room := { frames := 2, cells := 0, slots := 0, locals := 45 }
theorem ok_tw_isCovered {E : En} (hE : EOk E) {o : Nat} {M0 : Mem} (hM : TwS o M0) {N : Nat} {p1 : Int32} {p2 : Int32} {S : TS} {r : Int32} (h : tw_isCovered N p1 p2 S = some r) : CM E yX7_isCovered cX7_isCovered 6 (some .boolean) rm_tw_isCovered [rf E o, .int p1, .int p2] (tw o S M0) (some (.int r)) (tw o S M0) := by
  unfold tw_isCovered at h
  refine CM_intro (own := RX7) rfl (by decide) (Nat.le_of_ble_eq_true rfl) rfl (fun G hG => ?_)
  obtain ⟨Q, eQ⟩ : ∃ Q, Q = QM E G (some (.int r)) (tw o S M0) 0 0 := ⟨_, rfl⟩
  show V E G (tw o S M0) 0 0 6 0 [(0, rf E o), (1, .int p1), (2, .int p2)] [] (QM E G (some (.int r)) (tw o S M0) 0 0)
  rw [← eQ]
  refine V_iconst hG 0 rfl dX7_isCovered_0 ?_
  refine V_istore_n hG rfl [(3, .int 0), (0, rf E o), (1, .int p1), (2, .int p2)] dX7_isCovered_1 (Nat.le_of_ble_eq_true rfl) rfl ?_
  refine V_iconst hG 1 rfl dX7_isCovered_2 ?_
  refine V_istore hG [(4, .int 1), (3, .int 0), (0, rf E o), (1, .int p1), (2, .int p2)] dX7_isCovered_3 (Nat.le_of_ble_eq_true rfl) rfl ?_
  obtain ⟨rr_12, hL_11, hl_13, hr_8⟩ := bx2_of h
  have J_5 : ∀ q_14 : Int32 × Int32, Sum.inl q_14 = rr_12 → V E G (tw o S M0) 0 0 6 67 [(4, .int q_14.1), (3, .int q_14.2), (0, rf E o), (1, .int p1), (2, .int p2)] [] Q := by
    intro q_14 e9
    obtain ⟨x4_9, x3_10⟩ := q_14
    have h := hl_13 x4_9 x3_10 e9.symm
    show V E G (tw o S M0) 0 0 6 67 [(4, .int x4_9), (3, .int x3_10), (0, rf E o), (1, .int p1), (2, .int p2)] [] Q
    refine V_iconst hG 1 rfl dX7_isCovered_67 ?_
    cases h
    subst eQ
    exact V_zret hG (Or.inr rfl) dX7_isCovered_68
  refine lp_walk (W := fun s_15 : Int32 × Int32 => V E G (tw o S M0) 0 0 6 5 [(4, .int s_15.1), (3, .int s_15.2), (0, rf E o), (1, .int p1), (2, .int p2)] [] Q) ?_ N (1, 0) hL_11
  intro s_15 b_1 hb_2 hk_3 hx_4
  obtain ⟨x4_6, x3_7⟩ := s_15
  have hb_2 : tw_isCovered_b1 N p1 p2 S x4_6 x3_7 = some b_1 := hb_2
  unfold tw_isCovered_b1 at hb_2
  show V E G (tw o S M0) 0 0 6 5 [(4, .int x4_6), (3, .int x3_7), (0, rf E o), (1, .int p1), (2, .int p2)] [] Q
  refine V_iload hG 0 rfl dX7_isCovered_5 ?_
  refine V_aload_n hG 2 rfl dX7_isCovered_7 ?_
  refine g7_252 hM hG dX7_isCovered_8 ?_
  refine V_icmp_gt hG 67 dX7_isCovered_11 (by decide) (fun c_16 => ?_) (fun c_16 => ?_)
  · have hb_2 := if_t c_16 hb_2
    cases hb_2
    exact J_5 _ (hx_4 _ rfl)
  · have hb_2 := if_f c_16 hb_2
    refine V_aload_n hG 2 rfl dX7_isCovered_14 ?_
    refine V_iload hG 0 rfl dX7_isCovered_15 ?_
    obtain ⟨r_18, hc_17, hb_2⟩ := bd_of hb_2
    refine V_callV0 hE hG (As := [.int x4_6]) (rest := []) (ok_tw_troughAt hE hM hc_17) hM.1 (by decide) rfl hw7_401 hd_tw_troughAt ⟨Nat.le_of_ble_eq_true rfl, Nat.le_of_ble_eq_true rfl⟩ rfl rfl (Nat.le_of_ble_eq_true rfl) rfl rfl dX7_isCovered_17 ?_
    refine V_istore hG [(5, .int r_18), (4, .int x4_6), (3, .int x3_7), (0, rf E o), (1, .int p1), (2, .int p2)] dX7_isCovered_20 (Nat.le_of_ble_eq_true rfl) rfl ?_
    refine V_iload hG 1 rfl dX7_isCovered_22 ?_
    refine V_aload_n hG 3 rfl dX7_isCovered_24 ?_
    refine g7_252 hM hG dX7_isCovered_25 ?_
    refine V_icmp_ge hG 48 dX7_isCovered_28 (by decide) (fun c_19 => ?_) (fun c_19 => ?_)
    · have hb_2 := if_t c_19 hb_2
      refine V_iload hG 1 rfl dX7_isCovered_48 ?_
      refine V_iload_n hG 2 rfl dX7_isCovered_50 ?_
      refine V_isub hG dX7_isCovered_51 ?_
      refine V_iload_n hG 5 rfl dX7_isCovered_52 ?_
      refine V_icmp_le hG 58 dX7_isCovered_53 (by decide) (fun c_20 => ?_) (fun c_20 => ?_)
      · have hb_2 := if_t c_20 hb_2
        refine V_iload hG 1 rfl dX7_isCovered_58 ?_
        refine V_istore_n hG rfl [(3, .int x4_6), (5, .int r_18), (4, .int x4_6), (0, rf E o), (1, .int p1), (2, .int p2)] dX7_isCovered_60 (Nat.le_of_ble_eq_true rfl) rfl ?_
        obtain ⟨x4_21, ex4_21, hb_2⟩ := be_of hb_2
        refine V_iinc hG 2 x4_21 rfl (by rw [ex4_21]; rfl) [(4, .int x4_21), (3, .int x4_6), (5, .int r_18), (0, rf E o), (1, .int p1), (2, .int p2)] dX7_isCovered_61 (Nat.le_of_ble_eq_true rfl) rfl ?_
        refine V_goto hG 5 dX7_isCovered_64 (by decide) ?_
        cases hb_2
        exact V_lv [0, 1, 3, 4, 5] rfl (hk_3 _ rfl)
      · have hb_2 := if_f c_20 hb_2
        refine V_iconst hG 0 rfl dX7_isCovered_56 ?_
        cases hb_2
        have e_22 := hx_4 _ rfl
        have h_23 : some 0 = some r := hr_8 _ e_22.symm
        cases h_23
        subst eQ
        exact V_zret hG (Or.inl rfl) dX7_isCovered_57
    · have hb_2 := if_f c_19 hb_2
      refine V_iload hG 0 rfl dX7_isCovered_31 ?_
      refine V_if_lt hG 61 dX7_isCovered_33 (by decide) (fun c_24 => ?_) (fun c_24 => ?_)
      · have hb_2 := if_t c_24 hb_2
        obtain ⟨x4_25, ex4_25, hb_2⟩ := be_of hb_2
        refine V_iinc hG 1 x4_25 rfl (by rw [ex4_25]; rfl) [(4, .int x4_25), (5, .int r_18), (3, .int x3_7), (0, rf E o), (1, .int p1), (2, .int p2)] dX7_isCovered_61 (Nat.le_of_ble_eq_true rfl) rfl ?_
        refine V_goto hG 5 dX7_isCovered_64 (by decide) ?_
        cases hb_2
        exact V_lv [0, 2, 3, 4, 5] rfl (hk_3 _ rfl)
      · have hb_2 := if_f c_24 hb_2
        refine V_iload_n hG 4 rfl dX7_isCovered_36 ?_
        refine V_iload hG 0 rfl dX7_isCovered_37 ?_
        obtain ⟨r_27, hc_26, hb_2⟩ := bd_of hb_2
        refine V_callS0 hE hG (As := [.int p1, .int r_18]) (rest := []) (ok_tw_isOf hE hM hc_26) hw7_488 hd_tw_isOf ⟨Nat.le_of_ble_eq_true rfl, Nat.le_of_ble_eq_true rfl⟩ rfl rfl (Nat.le_of_ble_eq_true rfl) rfl rfl dX7_isCovered_39 ?_
        refine V_if_ne hG 48 dX7_isCovered_42 (by decide) (fun c_28 => ?_) (fun c_28 => ?_)
        · have hb_2 := if_f c_28 hb_2
          refine V_iload hG 1 rfl dX7_isCovered_48 ?_
          refine V_iload_n hG 2 rfl dX7_isCovered_50 ?_
          refine V_isub hG dX7_isCovered_51 ?_
          refine V_iload_n hG 5 rfl dX7_isCovered_52 ?_
          refine V_icmp_le hG 58 dX7_isCovered_53 (by decide) (fun c_29 => ?_) (fun c_29 => ?_)
          · have hb_2 := if_t c_29 hb_2
            refine V_iload hG 1 rfl dX7_isCovered_58 ?_
            refine V_istore_n hG rfl [(3, .int x4_6), (5, .int r_18), (4, .int x4_6), (0, rf E o), (1, .int p1), (2, .int p2)] dX7_isCovered_60 (Nat.le_of_ble_eq_true rfl) rfl ?_
            obtain ⟨x4_30, ex4_30, hb_2⟩ := be_of hb_2
            refine V_iinc hG 2 x4_30 rfl (by rw [ex4_30]; rfl) [(4, .int x4_30), (3, .int x4_6), (5, .int r_18), (0, rf E o), (1, .int p1), (2, .int p2)] dX7_isCovered_61 (Nat.le_of_ble_eq_true rfl) rfl ?_
            refine V_goto hG 5 dX7_isCovered_64 (by decide) ?_
            cases hb_2
            exact V_lv [0, 1, 3, 4, 5] rfl (hk_3 _ rfl)
          · have hb_2 := if_f c_29 hb_2
            refine V_iconst hG 0 rfl dX7_isCovered_56 ?_
            cases hb_2
            have e_31 := hx_4 _ rfl
            have h_32 : some 0 = some r := hr_8 _ e_31.symm
            cases h_32
            subst eQ
            exact V_zret hG (Or.inl rfl) dX7_isCovered_57
        · have hb_2 := if_t c_28 hb_2
          refine V_goto hG 61 dX7_isCovered_45 (by decide) ?_
          obtain ⟨x4_33, ex4_33, hb_2⟩ := be_of hb_2
          refine V_iinc hG 1 x4_33 rfl (by rw [ex4_33]; rfl) [(4, .int x4_33), (5, .int r_18), (3, .int x3_7), (0, rf E o), (1, .int p1), (2, .int p2)] dX7_isCovered_61 (Nat.le_of_ble_eq_true rfl) rfl ?_
          refine V_goto hG 5 dX7_isCovered_64 (by decide) ?_
          cases hb_2
          exact V_lv [0, 2, 3, 4, 5] rfl (hk_3 _ rfl)

def tw_manyOf_b1 (N : Nat) (p0 : Int32) (S : TS) (x2_6 : Int32) (x1_7 : Int32) : Option ((Int32 × Int32) ⊕ (Int32 × Int32)) :=
if 6 ≤ x2_6 then (
some (.inl (x2_6, x1_7)))
else (
be (x1_7 + ((p0 >>> (x2_6 &&& 31)) &&& 1)) fun (x1_14 : Int32) =>
be (x2_6 + 1) fun (x2_15 : Int32) =>
some (.inr (x2_15, x1_14)))
def tw_manyOf (N : Nat) (p0 : Int32) (S : TS) : Option (Int32) :=
bd2 (lp N (fun s_12 : Int32 × Int32 => tw_manyOf_b1 N p0 S s_12.1 s_12.2) (0, 0)) fun (x2_8 : Int32) (x1_9 : Int32) =>
some x1_9
def rm_tw_manyOf : Room := { frames := 0, cells := 0, slots := 0, locals := 0 }
theorem ok_tw_manyOf {E : En} (hE : EOk E) {o : Nat} {M0 : Mem} (hM : TwS o M0) {N : Nat} {p0 : Int32} {S : TS} {r : Int32} (h : tw_manyOf N p0 S = some r) : CM E yX7_manyOf cX7_manyOf 3 (some .int) rm_tw_manyOf [.int p0] (tw o S M0) (some (.int r)) (tw o S M0) := by
  unfold tw_manyOf at h
  refine CM_intro (own := RX7) rfl (by decide) (Nat.le_of_ble_eq_true rfl) rfl (fun G hG => ?_)
  obtain ⟨Q, eQ⟩ : ∃ Q, Q = QM E G (some (.int r)) (tw o S M0) 0 0 := ⟨_, rfl⟩
  show V E G (tw o S M0) 0 0 3 0 [(0, .int p0)] [] (QM E G (some (.int r)) (tw o S M0) 0 0)
  rw [← eQ]
  refine V_iconst hG 0 rfl dX7_manyOf_0 ?_
  refine V_istore_n hG rfl [(1, .int 0), (0, .int p0)] dX7_manyOf_1 (Nat.le_of_ble_eq_true rfl) rfl ?_
  refine V_iconst hG 0 rfl dX7_manyOf_2 ?_
  refine V_istore_n hG rfl [(2, .int 0), (1, .int 0), (0, .int p0)] dX7_manyOf_3 (Nat.le_of_ble_eq_true rfl) rfl ?_
  obtain ⟨x2_8, x1_9, hL_10, h⟩ := bd2_of h
  have J_5 : ∀ q_11 : Int32 × Int32, q_11 = (x2_8, x1_9) → V E G (tw o S M0) 0 0 3 24 [(2, .int q_11.1), (1, .int q_11.2), (0, .int p0)] [] Q := by
    intro q_11 e9
    subst q_11
    show V E G (tw o S M0) 0 0 3 24 [(2, .int x2_8), (1, .int x1_9), (0, .int p0)] [] Q
    refine V_iload_n hG 1 rfl dX7_manyOf_24 ?_
    cases h
    subst eQ
    exact V_iret hG dX7_manyOf_25
  refine lp_walk (W := fun s_12 : Int32 × Int32 => V E G (tw o S M0) 0 0 3 4 [(2, .int s_12.1), (1, .int s_12.2), (0, .int p0)] [] Q) ?_ N (0, 0) hL_10
  intro s_12 b_1 hb_2 hk_3 hx_4
  obtain ⟨x2_6, x1_7⟩ := s_12
  have hb_2 : tw_manyOf_b1 N p0 S x2_6 x1_7 = some b_1 := hb_2
  unfold tw_manyOf_b1 at hb_2
  show V E G (tw o S M0) 0 0 3 4 [(2, .int x2_6), (1, .int x1_7), (0, .int p0)] [] Q
  refine V_iload_n hG 0 rfl dX7_manyOf_4 ?_
  refine V_bipush hG 6 (by decide) dX7_manyOf_5 ?_
  refine V_icmp_ge hG 24 dX7_manyOf_7 (by decide) (fun c_13 => ?_) (fun c_13 => ?_)
  · have hb_2 := if_t c_13 hb_2
    cases hb_2
    exact J_5 _ (hx_4 _ rfl)
  · have hb_2 := if_f c_13 hb_2
    refine V_iload_n hG 1 rfl dX7_manyOf_10 ?_
    refine V_iload_n hG 2 rfl dX7_manyOf_11 ?_
    refine V_iload_n hG 0 rfl dX7_manyOf_12 ?_
    refine V_ishr hG dX7_manyOf_13 ?_
    refine V_iconst hG 1 rfl dX7_manyOf_14 ?_
    refine V_iand hG dX7_manyOf_15 ?_
    refine V_iadd hG dX7_manyOf_16 ?_
    obtain ⟨x1_14, ex1_14, hb_2⟩ := be_of hb_2
    refine V_topi ex1_14 ?_
    refine V_istore_n hG rfl [(1, .int x1_14), (2, .int x2_6), (0, .int p0)] dX7_manyOf_17 (Nat.le_of_ble_eq_true rfl) rfl ?_
    obtain ⟨x2_15, ex2_15, hb_2⟩ := be_of hb_2
    refine V_iinc hG 1 x2_15 rfl (by rw [ex2_15]; rfl) [(2, .int x2_15), (1, .int x1_14), (0, .int p0)] dX7_manyOf_18 (Nat.le_of_ble_eq_true rfl) rfl ?_
    refine V_goto hG 4 dX7_manyOf_21 (by decide) ?_
    cases hb_2
    exact hk_3 _ rfl

def tw_cover_b1 (N : Nat) (p1 : Int32) (S_1 : TS) (x3_10 : Int32) (x2_11 : Int32) : Option ((Int32 × Int32) ⊕ (Int32 × Int32)) :=
if 1 <<< ((tI S_1 0 12) &&& 31) ≤ x3_10 then (
some (.inl (x3_10, x2_11)))
else (
bd (if x2_11 < 0 then (
bd (tw_isCovered N x3_10 p1 S_1) fun r_24 =>
if r_24 = 0 then (
some x2_11)
else (
some x3_10))
else (
bd (tw_manyOf N x3_10 S_1) fun r_27 =>
bd (tw_manyOf N x2_11 S_1) fun r_29 =>
if r_29 ≤ r_27 then (
some x2_11)
else (
bd (tw_isCovered N x3_10 p1 S_1) fun r_32 =>
if r_32 = 0 then (
some x2_11)
else (
some x3_10))) : Option (Int32)) fun (x2_18 : Int32) =>
be (x3_10 + 1) fun (x3_21 : Int32) =>
some (.inr (x3_21, x2_18)))
def tw_cover (N : Nat) (p1 : Int32) (S : TS) : Option (Int32 × TS) :=
be (tsI S 0 2 0) fun S_1 =>
bd (tw_isIn p1 1 60 S_1) fun r_3 =>
if r_3 = 0 then (
some ((-1), S_1))
else (
bd2 (lp N (fun s_16 : Int32 × Int32 => tw_cover_b1 N p1 S_1 s_16.1 s_16.2) (0, (-2))) fun (x3_12 : Int32) (x2_13 : Int32) =>
some (x2_13, S_1))
def rm_tw_cover : Room := { frames := 3, cells := 0, slots := 0, locals := 70 }
theorem ok_tw_cover {E : En} (hE : EOk E) {o : Nat} {M0 : Mem} (hM : TwS o M0) {N : Nat} {p1 : Int32} {S : TS} {r : Int32} {S' : TS} (h : tw_cover N p1 S = some (r, S')) : CM E yX7_cover cX7_cover 4 (some .int) rm_tw_cover [rf E o, .int p1] (tw o S M0) (some (.int r)) (tw o S' M0) := by
  unfold tw_cover at h
  refine CM_intro (own := RX7) rfl (by decide) (Nat.le_of_ble_eq_true rfl) rfl (fun G hG => ?_)
  obtain ⟨Q, eQ⟩ : ∃ Q, Q = QM E G (some (.int r)) (tw o S' M0) 0 0 := ⟨_, rfl⟩
  show V E G (tw o S M0) 0 0 4 0 [(0, rf E o), (1, .int p1)] [] (QM E G (some (.int r)) (tw o S' M0) 0 0)
  rw [← eQ]
  refine V_aload_n hG 0 rfl dX7_cover_0 ?_
  refine V_iconst hG 0 rfl dX7_cover_1 ?_
  obtain ⟨S_1, eS_1, h⟩ := be_of h
  refine p7_160 hM hG eS_1 dX7_cover_2 ?_
  refine V_iload_n hG 1 rfl dX7_cover_5 ?_
  refine V_iconst hG 1 rfl dX7_cover_6 ?_
  refine V_bipush hG 60 (by decide) dX7_cover_7 ?_
  obtain ⟨r_3, hc_2, h⟩ := bd_of h
  refine V_callS0 hE hG (As := [.int p1, .int 1, .int 60]) (rest := []) (ok_tw_isIn hE hM hc_2) hw7_205 hd_tw_isIn ⟨Nat.le_of_ble_eq_true rfl, Nat.le_of_ble_eq_true rfl⟩ rfl rfl (Nat.le_of_ble_eq_true rfl) rfl rfl dX7_cover_9 ?_
  refine V_if_ne hG 17 dX7_cover_12 (by decide) (fun c_4 => ?_) (fun c_4 => ?_)
  · have h := if_f c_4 h
    refine V_bipush hG (-2) (by decide) dX7_cover_17 ?_
    refine V_istore_n hG rfl [(2, .int (-2)), (0, rf E o), (1, .int p1)] dX7_cover_19 (Nat.le_of_ble_eq_true rfl) rfl ?_
    refine V_iconst hG 0 rfl dX7_cover_20 ?_
    refine V_istore_n hG rfl [(3, .int 0), (2, .int (-2)), (0, rf E o), (1, .int p1)] dX7_cover_21 (Nat.le_of_ble_eq_true rfl) rfl ?_
    obtain ⟨x3_12, x2_13, hL_14, h⟩ := bd2_of h
    have J_9 : ∀ q_15 : Int32 × Int32, q_15 = (x3_12, x2_13) → V E G (tw o S_1 M0) 0 0 4 64 [(3, .int q_15.1), (2, .int q_15.2), (0, rf E o), (1, .int p1)] [] Q := by
      intro q_15 e9
      subst q_15
      show V E G (tw o S_1 M0) 0 0 4 64 [(3, .int x3_12), (2, .int x2_13), (0, rf E o), (1, .int p1)] [] Q
      refine V_iload_n hG 1 rfl dX7_cover_64 ?_
      cases h
      subst eQ
      exact V_iret hG dX7_cover_65
    refine lp_walk (W := fun s_16 : Int32 × Int32 => V E G (tw o S_1 M0) 0 0 4 22 [(3, .int s_16.1), (2, .int s_16.2), (0, rf E o), (1, .int p1)] [] Q) ?_ N (0, (-2)) hL_14
    intro s_16 b_5 hb_6 hk_7 hx_8
    obtain ⟨x3_10, x2_11⟩ := s_16
    have hb_6 : tw_cover_b1 N p1 S_1 x3_10 x2_11 = some b_5 := hb_6
    unfold tw_cover_b1 at hb_6
    show V E G (tw o S_1 M0) 0 0 4 22 [(3, .int x3_10), (2, .int x2_11), (0, rf E o), (1, .int p1)] [] Q
    refine V_iload_n hG 0 rfl dX7_cover_22 ?_
    refine V_iconst hG 1 rfl dX7_cover_23 ?_
    refine V_aload_n hG 2 rfl dX7_cover_24 ?_
    refine g7_243 hM hG dX7_cover_25 ?_
    refine V_ishl hG dX7_cover_28 ?_
    refine V_icmp_ge hG 64 dX7_cover_29 (by decide) (fun c_17 => ?_) (fun c_17 => ?_)
    · have hb_6 := if_t c_17 hb_6
      cases hb_6
      exact J_9 _ (hx_8 _ rfl)
    · have hb_6 := if_f c_17 hb_6
      refine V_iload_n hG 1 rfl dX7_cover_32 ?_
      obtain ⟨x2_18, hj_20, hb_6⟩ := bd_of hb_6
      have J_19 : V E G (tw o S_1 M0) 0 0 4 58 [(3, .int x3_10), (2, .int x2_18), (0, rf E o), (1, .int p1)] [] Q := by
        obtain ⟨x3_21, ex3_21, hb_6⟩ := be_of hb_6
        refine V_iinc hG 0 x3_21 rfl (by rw [ex3_21]; rfl) [(3, .int x3_21), (2, .int x2_18), (0, rf E o), (1, .int p1)] dX7_cover_58 (Nat.le_of_ble_eq_true rfl) rfl ?_
        refine V_goto hG 22 dX7_cover_61 (by decide) ?_
        cases hb_6
        exact hk_7 _ rfl
      refine V_if_lt hG 47 dX7_cover_33 (by decide) (fun c_22 => ?_) (fun c_22 => ?_)
      · have hj_20 := if_t c_22 hj_20
        refine V_aload_n hG 2 rfl dX7_cover_47 ?_
        refine V_iload_n hG 0 rfl dX7_cover_48 ?_
        refine V_iload_n hG 3 rfl dX7_cover_49 ?_
        obtain ⟨r_24, hc_23, hj_20⟩ := bd_of hj_20
        refine V_callV0 hE hG (As := [.int x3_10, .int p1]) (rest := []) (ok_tw_isCovered hE hM hc_23) hM.1 (by decide) rfl hw7_495 hd_tw_isCovered ⟨Nat.le_of_ble_eq_true rfl, Nat.le_of_ble_eq_true rfl⟩ rfl rfl (Nat.le_of_ble_eq_true rfl) rfl rfl dX7_cover_50 ?_
        refine V_if_eq hG 58 dX7_cover_53 (by decide) (fun c_25 => ?_) (fun c_25 => ?_)
        · have hj_20 := if_t c_25 hj_20
          cases hj_20
          exact J_19
        · have hj_20 := if_f c_25 hj_20
          refine V_iload_n hG 0 rfl dX7_cover_56 ?_
          refine V_istore_n hG rfl [(2, .int x3_10), (3, .int x3_10), (0, rf E o), (1, .int p1)] dX7_cover_57 (Nat.le_of_ble_eq_true rfl) rfl ?_
          cases hj_20
          exact V_lv [1, 0, 2, 3] rfl (J_19)
      · have hj_20 := if_f c_22 hj_20
        refine V_iload_n hG 0 rfl dX7_cover_36 ?_
        obtain ⟨r_27, hc_26, hj_20⟩ := bd_of hj_20
        refine V_callS0 hE hG (As := [.int x3_10]) (rest := []) (ok_tw_manyOf hE hM hc_26) hw7_485 hd_tw_manyOf ⟨Nat.le_of_ble_eq_true rfl, Nat.le_of_ble_eq_true rfl⟩ rfl rfl (Nat.le_of_ble_eq_true rfl) rfl rfl dX7_cover_37 ?_
        refine V_iload_n hG 1 rfl dX7_cover_40 ?_
        obtain ⟨r_29, hc_28, hj_20⟩ := bd_of hj_20
        refine V_callS0 hE hG (As := [.int x2_11]) (rest := [.int r_27]) (ok_tw_manyOf hE hM hc_28) hw7_485 hd_tw_manyOf ⟨Nat.le_of_ble_eq_true rfl, Nat.le_of_ble_eq_true rfl⟩ rfl rfl (Nat.le_of_ble_eq_true rfl) rfl rfl dX7_cover_41 ?_
        refine V_icmp_ge hG 58 dX7_cover_44 (by decide) (fun c_30 => ?_) (fun c_30 => ?_)
        · have hj_20 := if_t c_30 hj_20
          cases hj_20
          exact J_19
        · have hj_20 := if_f c_30 hj_20
          refine V_aload_n hG 2 rfl dX7_cover_47 ?_
          refine V_iload_n hG 0 rfl dX7_cover_48 ?_
          refine V_iload_n hG 3 rfl dX7_cover_49 ?_
          obtain ⟨r_32, hc_31, hj_20⟩ := bd_of hj_20
          refine V_callV0 hE hG (As := [.int x3_10, .int p1]) (rest := []) (ok_tw_isCovered hE hM hc_31) hM.1 (by decide) rfl hw7_495 hd_tw_isCovered ⟨Nat.le_of_ble_eq_true rfl, Nat.le_of_ble_eq_true rfl⟩ rfl rfl (Nat.le_of_ble_eq_true rfl) rfl rfl dX7_cover_50 ?_
          refine V_if_eq hG 58 dX7_cover_53 (by decide) (fun c_33 => ?_) (fun c_33 => ?_)
          · have hj_20 := if_t c_33 hj_20
            cases hj_20
            exact J_19
          · have hj_20 := if_f c_33 hj_20
            refine V_iload_n hG 0 rfl dX7_cover_56 ?_
            refine V_istore_n hG rfl [(2, .int x3_10), (3, .int x3_10), (0, rf E o), (1, .int p1)] dX7_cover_57 (Nat.le_of_ble_eq_true rfl) rfl ?_
            cases hj_20
            exact V_lv [1, 0, 2, 3] rfl (J_19)
  · have h := if_t c_4 h
    refine V_iconst hG (-1) rfl dX7_cover_15 ?_
    cases h
    subst eQ
    exact V_iret hG dX7_cover_16

def tw_driest_b1 (N : Nat) (S_1 : TS) (x2_7 : Int32) (x1_8 : Int32) : Option ((Int32 × Int32) ⊕ (Int32 × Int32)) :=
if tI S_1 0 12 ≤ x2_7 then (
some (.inl (x2_7, x1_8)))
else (
bd (if x1_8 < 0 then (
some x2_7)
else (
gd (inb x2_7 (lenA 33)) (
gd (inb x1_8 (lenA 33)) (
if tI S_1 33 (Int32.toNatClampNeg x1_8) ≤ tI S_1 33 (Int32.toNatClampNeg x2_7) then (
some x1_8)
else (
some x2_7)))) : Option (Int32)) fun (t_15 : Int32) =>
be (x2_7 + 1) fun (x2_18 : Int32) =>
some (.inr (x2_18, t_15)))
def tw_driest (N : Nat)  (S : TS) : Option (Int32 × TS) :=
be (tsI S 0 2 0) fun S_1 =>
bd2 (lp N (fun s_13 : Int32 × Int32 => tw_driest_b1 N S_1 s_13.1 s_13.2) (0, (-1))) fun (x2_9 : Int32) (x1_10 : Int32) =>
some (x1_10, S_1)
def rm_tw_driest : Room := { frames := 0, cells := 0, slots := 0, locals := 0 }
theorem ok_tw_driest {E : En} (hE : EOk E) {o : Nat} {M0 : Mem} (hM : TwS o M0) {N : Nat}  {S : TS} {r : Int32} {S' : TS} (h : tw_driest N  S = some (r, S')) : CM E yX7_driest cX7_driest 3 (some .int) rm_tw_driest [rf E o] (tw o S M0) (some (.int r)) (tw o S' M0) := by
  unfold tw_driest at h
  refine CM_intro (own := RX7) rfl (by decide) (Nat.le_of_ble_eq_true rfl) rfl (fun G hG => ?_)
  obtain ⟨Q, eQ⟩ : ∃ Q, Q = QM E G (some (.int r)) (tw o S' M0) 0 0 := ⟨_, rfl⟩
  show V E G (tw o S M0) 0 0 3 0 [(0, rf E o)] [] (QM E G (some (.int r)) (tw o S' M0) 0 0)
  rw [← eQ]
  refine V_aload_n hG 0 rfl dX7_driest_0 ?_
  refine V_iconst hG 0 rfl dX7_driest_1 ?_
  obtain ⟨S_1, eS_1, h⟩ := be_of h
  refine p7_160 hM hG eS_1 dX7_driest_2 ?_
  refine V_iconst hG (-1) rfl dX7_driest_5 ?_
  refine V_istore_n hG rfl [(1, .int (-1)), (0, rf E o)] dX7_driest_6 (Nat.le_of_ble_eq_true rfl) rfl ?_
  refine V_iconst hG 0 rfl dX7_driest_7 ?_
  refine V_istore_n hG rfl [(2, .int 0), (1, .int (-1)), (0, rf E o)] dX7_driest_8 (Nat.le_of_ble_eq_true rfl) rfl ?_
  obtain ⟨x2_9, x1_10, hL_11, h⟩ := bd2_of h
  have J_6 : ∀ q_12 : Int32 × Int32, q_12 = (x2_9, x1_10) → V E G (tw o S_1 M0) 0 0 3 48 [(2, .int q_12.1), (1, .int q_12.2), (0, rf E o)] [] Q := by
    intro q_12 e9
    subst q_12
    show V E G (tw o S_1 M0) 0 0 3 48 [(2, .int x2_9), (1, .int x1_10), (0, rf E o)] [] Q
    refine V_iload_n hG 1 rfl dX7_driest_48 ?_
    cases h
    subst eQ
    exact V_iret hG dX7_driest_49
  refine lp_walk (W := fun s_13 : Int32 × Int32 => V E G (tw o S_1 M0) 0 0 3 9 [(2, .int s_13.1), (1, .int s_13.2), (0, rf E o)] [] Q) ?_ N (0, (-1)) hL_11
  intro s_13 b_2 hb_3 hk_4 hx_5
  obtain ⟨x2_7, x1_8⟩ := s_13
  have hb_3 : tw_driest_b1 N S_1 x2_7 x1_8 = some b_2 := hb_3
  unfold tw_driest_b1 at hb_3
  show V E G (tw o S_1 M0) 0 0 3 9 [(2, .int x2_7), (1, .int x1_8), (0, rf E o)] [] Q
  refine V_iload_n hG 0 rfl dX7_driest_9 ?_
  refine V_aload_n hG 2 rfl dX7_driest_10 ?_
  refine g7_243 hM hG dX7_driest_11 ?_
  refine V_icmp_ge hG 48 dX7_driest_14 (by decide) (fun c_14 => ?_) (fun c_14 => ?_)
  · have hb_3 := if_t c_14 hb_3
    cases hb_3
    exact J_6 _ (hx_5 _ rfl)
  · have hb_3 := if_f c_14 hb_3
    refine V_iload_n hG 1 rfl dX7_driest_17 ?_
    obtain ⟨t_15, hj_17, hb_3⟩ := bd_of hb_3
    have J_16 : V E G (tw o S_1 M0) 0 0 3 41 [(2, .int x2_7), (1, .int x1_8), (0, rf E o)] [.int t_15] Q := by
      refine V_istore_n hG rfl [(1, .int t_15), (2, .int x2_7), (0, rf E o)] dX7_driest_41 (Nat.le_of_ble_eq_true rfl) rfl ?_
      obtain ⟨x2_18, ex2_18, hb_3⟩ := be_of hb_3
      refine V_iinc hG 1 x2_18 rfl (by rw [ex2_18]; rfl) [(2, .int x2_18), (1, .int t_15), (0, rf E o)] dX7_driest_42 (Nat.le_of_ble_eq_true rfl) rfl ?_
      refine V_goto hG 9 dX7_driest_45 (by decide) ?_
      cases hb_3
      exact hk_4 _ rfl
    refine V_if_lt hG 36 dX7_driest_18 (by decide) (fun c_19 => ?_) (fun c_19 => ?_)
    · have hj_17 := if_t c_19 hj_17
      refine V_iload_n hG 0 rfl dX7_driest_36 ?_
      refine V_goto hG 41 dX7_driest_37 (by decide) ?_
      cases hj_17
      exact J_16
    · have hj_17 := if_f c_19 hj_17
      refine V_aload_n hG 2 rfl dX7_driest_21 ?_
      refine g7_112 hM hG dX7_driest_22 ?_
      refine V_iload_n hG 0 rfl dX7_driest_25 ?_
      obtain ⟨g_20, hj_17⟩ := gd_of hj_17
      refine T_iaload hM hG (by decide) g_20 dX7_driest_26 ?_
      refine V_aload_n hG 2 rfl dX7_driest_27 ?_
      refine g7_112 hM hG dX7_driest_28 ?_
      refine V_iload_n hG 1 rfl dX7_driest_31 ?_
      obtain ⟨g_21, hj_17⟩ := gd_of hj_17
      refine T_iaload hM hG (by decide) g_21 dX7_driest_32 ?_
      refine V_icmp_ge hG 40 dX7_driest_33 (by decide) (fun c_22 => ?_) (fun c_22 => ?_)
      · have hj_17 := if_t c_22 hj_17
        refine V_iload_n hG 1 rfl dX7_driest_40 ?_
        cases hj_17
        exact J_16
      · have hj_17 := if_f c_22 hj_17
        refine V_iload_n hG 0 rfl dX7_driest_36 ?_
        refine V_goto hG 41 dX7_driest_37 (by decide) ?_
        cases hj_17
        exact J_16

def tw_enemies_b1 (N : Nat) (p1 : Int32) (S_1 : TS) (x3_10 : Int32) (x2_11 : Int32) : Option ((Int32 × Int32) ⊕ (Int32 × Int32)) :=
if tI S_1 0 13 ≤ x3_10 then (
some (.inl (x3_10, x2_11)))
else (
gd (inb p1 (lenA 31)) (
bd (if tI S_1 31 (Int32.toNatClampNeg p1) = 0 then (
some 0)
else (
gd (inb x3_10 (lenA 31)) (
if tI S_1 31 (Int32.toNatClampNeg x3_10) = 0 then (
some 0)
else (
gd (inb x3_10 (lenA 10)) (
gd (inb p1 (lenA 10)) (
if tI S_1 10 (Int32.toNatClampNeg x3_10) = tI S_1 10 (Int32.toNatClampNeg p1) then (
some 0)
else (
gd (inb x3_10 (lenA 27)) (
gd (inb p1 (lenA 27)) (
if tI S_1 27 (Int32.toNatClampNeg x3_10) = tI S_1 27 (Int32.toNatClampNeg p1) then (
some (1 <<< (x3_10 &&& 31)))
else (
some 0))))))))) : Option (Int32)) fun (t_19 : Int32) =>
be (x2_11 ||| t_19) fun (x2_22 : Int32) =>
be (x3_10 + 1) fun (x3_23 : Int32) =>
some (.inr (x3_23, x2_22))))
def tw_enemies (N : Nat) (p1 : Int32) (S : TS) : Option (Int32 × TS) :=
be (tsI S 0 2 0) fun S_1 =>
bd (tw_isHorse p1 S_1) fun r_3 =>
if r_3 = 0 then (
some ((-1), S_1))
else (
bd2 (lp N (fun s_16 : Int32 × Int32 => tw_enemies_b1 N p1 S_1 s_16.1 s_16.2) (0, 0)) fun (x3_12 : Int32) (x2_13 : Int32) =>
some (x2_13, S_1))
def rm_tw_enemies : Room := { frames := 1, cells := 0, slots := 0, locals := 21 }
theorem ok_tw_enemies {E : En} (hE : EOk E) {o : Nat} {M0 : Mem} (hM : TwS o M0) {N : Nat} {p1 : Int32} {S : TS} {r : Int32} {S' : TS} (h : tw_enemies N p1 S = some (r, S')) : CM E yX7_enemies cX7_enemies 4 (some .int) rm_tw_enemies [rf E o, .int p1] (tw o S M0) (some (.int r)) (tw o S' M0) := by
  unfold tw_enemies at h
  refine CM_intro (own := RX7) rfl (by decide) (Nat.le_of_ble_eq_true rfl) rfl (fun G hG => ?_)
  obtain ⟨Q, eQ⟩ : ∃ Q, Q = QM E G (some (.int r)) (tw o S' M0) 0 0 := ⟨_, rfl⟩
  show V E G (tw o S M0) 0 0 4 0 [(0, rf E o), (1, .int p1)] [] (QM E G (some (.int r)) (tw o S' M0) 0 0)
  rw [← eQ]
  refine V_aload_n hG 0 rfl dX7_enemies_0 ?_
  refine V_iconst hG 0 rfl dX7_enemies_1 ?_
  obtain ⟨S_1, eS_1, h⟩ := be_of h
  refine p7_160 hM hG eS_1 dX7_enemies_2 ?_
  refine V_aload_n hG 0 rfl dX7_enemies_5 ?_
  refine V_iload_n hG 1 rfl dX7_enemies_6 ?_
  obtain ⟨r_3, hc_2, h⟩ := bd_of h
  refine V_callV0 hE hG (As := [.int p1]) (rest := []) (ok_tw_isHorse hE hM hc_2) hM.1 (by decide) rfl hw7_459 hd_tw_isHorse ⟨Nat.le_of_ble_eq_true rfl, Nat.le_of_ble_eq_true rfl⟩ rfl rfl (Nat.le_of_ble_eq_true rfl) rfl rfl dX7_enemies_7 ?_
  refine V_if_ne hG 15 dX7_enemies_10 (by decide) (fun c_4 => ?_) (fun c_4 => ?_)
  · have h := if_f c_4 h
    refine V_iconst hG 0 rfl dX7_enemies_15 ?_
    refine V_istore_n hG rfl [(2, .int 0), (0, rf E o), (1, .int p1)] dX7_enemies_16 (Nat.le_of_ble_eq_true rfl) rfl ?_
    refine V_iconst hG 0 rfl dX7_enemies_17 ?_
    refine V_istore_n hG rfl [(3, .int 0), (2, .int 0), (0, rf E o), (1, .int p1)] dX7_enemies_18 (Nat.le_of_ble_eq_true rfl) rfl ?_
    obtain ⟨x3_12, x2_13, hL_14, h⟩ := bd2_of h
    have J_9 : ∀ q_15 : Int32 × Int32, q_15 = (x3_12, x2_13) → V E G (tw o S_1 M0) 0 0 4 91 [(3, .int q_15.1), (2, .int q_15.2), (0, rf E o), (1, .int p1)] [] Q := by
      intro q_15 e9
      subst q_15
      show V E G (tw o S_1 M0) 0 0 4 91 [(3, .int x3_12), (2, .int x2_13), (0, rf E o), (1, .int p1)] [] Q
      refine V_iload_n hG 1 rfl dX7_enemies_91 ?_
      cases h
      subst eQ
      exact V_iret hG dX7_enemies_92
    refine lp_walk (W := fun s_16 : Int32 × Int32 => V E G (tw o S_1 M0) 0 0 4 19 [(3, .int s_16.1), (2, .int s_16.2), (0, rf E o), (1, .int p1)] [] Q) ?_ N (0, 0) hL_14
    intro s_16 b_5 hb_6 hk_7 hx_8
    obtain ⟨x3_10, x2_11⟩ := s_16
    have hb_6 : tw_enemies_b1 N p1 S_1 x3_10 x2_11 = some b_5 := hb_6
    unfold tw_enemies_b1 at hb_6
    show V E G (tw o S_1 M0) 0 0 4 19 [(3, .int x3_10), (2, .int x2_11), (0, rf E o), (1, .int p1)] [] Q
    refine V_iload_n hG 0 rfl dX7_enemies_19 ?_
    refine V_aload_n hG 2 rfl dX7_enemies_20 ?_
    refine g7_246 hM hG dX7_enemies_21 ?_
    refine V_icmp_ge hG 91 dX7_enemies_24 (by decide) (fun c_17 => ?_) (fun c_17 => ?_)
    · have hb_6 := if_t c_17 hb_6
      cases hb_6
      exact J_9 _ (hx_8 _ rfl)
    · have hb_6 := if_f c_17 hb_6
      refine V_iload_n hG 1 rfl dX7_enemies_27 ?_
      refine V_aload_n hG 2 rfl dX7_enemies_28 ?_
      refine g7_106 hM hG dX7_enemies_29 ?_
      refine V_iload_n hG 3 rfl dX7_enemies_32 ?_
      obtain ⟨g_18, hb_6⟩ := gd_of hb_6
      refine T_zaload hM hG (by decide) g_18 dX7_enemies_33 ?_
      obtain ⟨t_19, hj_21, hb_6⟩ := bd_of hb_6
      have J_20 : V E G (tw o S_1 M0) 0 0 4 83 [(3, .int x3_10), (2, .int x2_11), (0, rf E o), (1, .int p1)] [.int t_19, .int x2_11] Q := by
        refine V_ior hG dX7_enemies_83 ?_
        obtain ⟨x2_22, ex2_22, hb_6⟩ := be_of hb_6
        refine V_topi ex2_22 ?_
        refine V_istore_n hG rfl [(2, .int x2_22), (3, .int x3_10), (0, rf E o), (1, .int p1)] dX7_enemies_84 (Nat.le_of_ble_eq_true rfl) rfl ?_
        obtain ⟨x3_23, ex3_23, hb_6⟩ := be_of hb_6
        refine V_iinc hG 1 x3_23 rfl (by rw [ex3_23]; rfl) [(3, .int x3_23), (2, .int x2_22), (0, rf E o), (1, .int p1)] dX7_enemies_85 (Nat.le_of_ble_eq_true rfl) rfl ?_
        refine V_goto hG 19 dX7_enemies_88 (by decide) ?_
        cases hb_6
        exact hk_7 _ rfl
      refine V_if_eq hG 82 dX7_enemies_34 (by decide) (fun c_24 => ?_) (fun c_24 => ?_)
      · have hj_21 := if_t c_24 hj_21
        refine V_iconst hG 0 rfl dX7_enemies_82 ?_
        cases hj_21
        exact J_20
      · have hj_21 := if_f c_24 hj_21
        refine V_aload_n hG 2 rfl dX7_enemies_37 ?_
        refine g7_106 hM hG dX7_enemies_38 ?_
        refine V_iload_n hG 0 rfl dX7_enemies_41 ?_
        obtain ⟨g_25, hj_21⟩ := gd_of hj_21
        refine T_zaload hM hG (by decide) g_25 dX7_enemies_42 ?_
        refine V_if_eq hG 82 dX7_enemies_43 (by decide) (fun c_26 => ?_) (fun c_26 => ?_)
        · have hj_21 := if_t c_26 hj_21
          refine V_iconst hG 0 rfl dX7_enemies_82 ?_
          cases hj_21
          exact J_20
        · have hj_21 := if_f c_26 hj_21
          refine V_aload_n hG 2 rfl dX7_enemies_46 ?_
          refine g7_42 hM hG dX7_enemies_47 ?_
          refine V_iload_n hG 0 rfl dX7_enemies_50 ?_
          obtain ⟨g_27, hj_21⟩ := gd_of hj_21
          refine T_iaload hM hG (by decide) g_27 dX7_enemies_51 ?_
          refine V_aload_n hG 2 rfl dX7_enemies_52 ?_
          refine g7_42 hM hG dX7_enemies_53 ?_
          refine V_iload_n hG 3 rfl dX7_enemies_56 ?_
          obtain ⟨g_28, hj_21⟩ := gd_of hj_21
          refine T_iaload hM hG (by decide) g_28 dX7_enemies_57 ?_
          refine V_icmp_eq hG 82 dX7_enemies_58 (by decide) (fun c_29 => ?_) (fun c_29 => ?_)
          · have hj_21 := if_t c_29 hj_21
            refine V_iconst hG 0 rfl dX7_enemies_82 ?_
            cases hj_21
            exact J_20
          · have hj_21 := if_f c_29 hj_21
            refine V_aload_n hG 2 rfl dX7_enemies_61 ?_
            refine g7_94 hM hG dX7_enemies_62 ?_
            refine V_iload_n hG 0 rfl dX7_enemies_65 ?_
            obtain ⟨g_30, hj_21⟩ := gd_of hj_21
            refine T_iaload hM hG (by decide) g_30 dX7_enemies_66 ?_
            refine V_aload_n hG 2 rfl dX7_enemies_67 ?_
            refine g7_94 hM hG dX7_enemies_68 ?_
            refine V_iload_n hG 3 rfl dX7_enemies_71 ?_
            obtain ⟨g_31, hj_21⟩ := gd_of hj_21
            refine T_iaload hM hG (by decide) g_31 dX7_enemies_72 ?_
            refine V_icmp_ne hG 82 dX7_enemies_73 (by decide) (fun c_32 => ?_) (fun c_32 => ?_)
            · have hj_21 := if_f c_32 hj_21
              refine V_iconst hG 0 rfl dX7_enemies_82 ?_
              cases hj_21
              exact J_20
            · have hj_21 := if_t c_32 hj_21
              refine V_iconst hG 1 rfl dX7_enemies_76 ?_
              refine V_iload_n hG 0 rfl dX7_enemies_77 ?_
              refine V_ishl hG dX7_enemies_78 ?_
              refine V_goto hG 83 dX7_enemies_79 (by decide) ?_
              cases hj_21
              exact J_20
  · have h := if_t c_4 h
    refine V_iconst hG (-1) rfl dX7_enemies_13 ?_
    cases h
    subst eQ
    exact V_iret hG dX7_enemies_14

def tw_fails (p1 : Int32) (S : TS) : Option (Int32 × TS) :=
be (tsI S 0 2 p1) fun S_1 =>
some (0, S_1)
def rm_tw_fails : Room := { frames := 0, cells := 0, slots := 0, locals := 0 }
theorem ok_tw_fails {E : En} (hE : EOk E) {o : Nat} {M0 : Mem} (hM : TwS o M0) {p1 : Int32} {S : TS} {r : Int32} {S' : TS} (h : tw_fails p1 S = some (r, S')) : CM E yX7_fails cX7_fails 2 (some .int) rm_tw_fails [rf E o, .int p1] (tw o S M0) (some (.int r)) (tw o S' M0) := by
  unfold tw_fails at h
  refine CM_intro (own := RX7) rfl (by decide) (Nat.le_of_ble_eq_true rfl) rfl (fun G hG => ?_)
  obtain ⟨Q, eQ⟩ : ∃ Q, Q = QM E G (some (.int r)) (tw o S' M0) 0 0 := ⟨_, rfl⟩
  show V E G (tw o S M0) 0 0 2 0 [(0, rf E o), (1, .int p1)] [] (QM E G (some (.int r)) (tw o S' M0) 0 0)
  rw [← eQ]
  refine V_aload_n hG 0 rfl dX7_fails_0 ?_
  refine V_iload_n hG 1 rfl dX7_fails_1 ?_
  obtain ⟨S_1, eS_1, h⟩ := be_of h
  refine p7_160 hM hG eS_1 dX7_fails_2 ?_
  refine V_iconst hG 0 rfl dX7_fails_5 ?_
  cases h
  subst eQ
  exact V_iret hG dX7_fails_6

def tw_falls_b1 (N : Nat) (p1 : Int32) (x2_12 : Int32) (S_13 : TS) : Option (((Int32 × TS) ⊕ (Int32 × TS)) ⊕ (Int32 × TS)) :=
if 200 ≤ x2_12 then (
some (.inl (.inl (x2_12, S_13))))
else (
gd (inb (6 + p1) (lenA 31)) (
if tI S_13 31 (Int32.toNatClampNeg (6 + p1)) = 0 then (
some (.inl (.inr (x2_12, S_13))))
else (
bd (tw_hourGoes N 1 S_13) fun S_26 =>
be (x2_12 + 1) fun (x2_27 : Int32) =>
some (.inr (x2_27, S_26)))))
def tw_falls (N : Nat) (p1 : Int32) (S : TS) : Option (Int32 × TS) :=
be (tsI S 0 2 0) fun S_1 =>
bd (tw_isHorse p1 S_1) fun r_3 =>
if r_3 = 0 then (
some ((-1), S_1))
else (
bd (tw_layTried N S_1) fun S_6 =>
bx2 (lp N (fun s_21 : Int32 × TS => tw_falls_b1 N p1 s_21.1 s_21.2) (0, S_6)) (fun (x2_15 : Int32) (S_16 : TS) =>
some ((-2), S_16)) (fun (w_30 : Int32 × TS) => some w_30))
def rm_tw_falls : Room := { frames := 6, cells := 0, slots := 0, locals := 147 }
theorem ok_tw_falls {E : En} (hE : EOk E) {o : Nat} {M0 : Mem} (hM : TwS o M0) {N : Nat} {p1 : Int32} {S : TS} {r : Int32} {S' : TS} (h : tw_falls N p1 S = some (r, S')) : CM E yX7_falls cX7_falls 3 (some .int) rm_tw_falls [rf E o, .int p1] (tw o S M0) (some (.int r)) (tw o S' M0) := by
  unfold tw_falls at h
  refine CM_intro (own := RX7) rfl (by decide) (Nat.le_of_ble_eq_true rfl) rfl (fun G hG => ?_)
  obtain ⟨Q, eQ⟩ : ∃ Q, Q = QM E G (some (.int r)) (tw o S' M0) 0 0 := ⟨_, rfl⟩
  show V E G (tw o S M0) 0 0 3 0 [(0, rf E o), (1, .int p1)] [] (QM E G (some (.int r)) (tw o S' M0) 0 0)
  rw [← eQ]
  refine V_aload_n hG 0 rfl dX7_falls_0 ?_
  refine V_iconst hG 0 rfl dX7_falls_1 ?_
  obtain ⟨S_1, eS_1, h⟩ := be_of h
  refine p7_160 hM hG eS_1 dX7_falls_2 ?_
  refine V_aload_n hG 0 rfl dX7_falls_5 ?_
  refine V_iload_n hG 1 rfl dX7_falls_6 ?_
  obtain ⟨r_3, hc_2, h⟩ := bd_of h
  refine V_callV0 hE hG (As := [.int p1]) (rest := []) (ok_tw_isHorse hE hM hc_2) hM.1 (by decide) rfl hw7_459 hd_tw_isHorse ⟨Nat.le_of_ble_eq_true rfl, Nat.le_of_ble_eq_true rfl⟩ rfl rfl (Nat.le_of_ble_eq_true rfl) rfl rfl dX7_falls_7 ?_
  refine V_if_ne hG 15 dX7_falls_10 (by decide) (fun c_4 => ?_) (fun c_4 => ?_)
  · have h := if_f c_4 h
    refine V_aload_n hG 0 rfl dX7_falls_15 ?_
    obtain ⟨S_6, hc_5, h⟩ := bd_of h
    refine V_callV0 hE hG (As := []) (rest := []) (ok_tw_layTried hE hM hc_5) hM.1 (by decide) rfl hw7_473 hd_tw_layTried ⟨Nat.le_of_ble_eq_true rfl, Nat.le_of_ble_eq_true rfl⟩ rfl rfl (Nat.le_of_ble_eq_true rfl) rfl rfl dX7_falls_16 ?_
    refine V_iconst hG 0 rfl dX7_falls_19 ?_
    refine V_istore_n hG rfl [(2, .int 0), (0, rf E o), (1, .int p1)] dX7_falls_20 (Nat.le_of_ble_eq_true rfl) rfl ?_
    obtain ⟨rr_18, hL_17, hl_19, hr_14⟩ := bx2_of h
    have J_11 : ∀ q_20 : Int32 × TS, Sum.inl q_20 = rr_18 → V E G (tw o q_20.2 M0) 0 0 3 53 [(2, .int q_20.1), (0, rf E o), (1, .int p1)] [] Q := by
      intro q_20 e9
      obtain ⟨x2_15, S_16⟩ := q_20
      have h := hl_19 x2_15 S_16 e9.symm
      show V E G (tw o S_16 M0) 0 0 3 53 [(2, .int x2_15), (0, rf E o), (1, .int p1)] [] Q
      refine V_bipush hG (-2) (by decide) dX7_falls_53 ?_
      cases h
      subst eQ
      exact V_iret hG dX7_falls_55
    refine lp_walk (W := fun s_21 : Int32 × TS => V E G (tw o s_21.2 M0) 0 0 3 21 [(2, .int s_21.1), (0, rf E o), (1, .int p1)] [] Q) ?_ N (0, S_6) hL_17
    intro s_21 b_7 hb_8 hk_9 hx_10
    obtain ⟨x2_12, S_13⟩ := s_21
    have hb_8 : tw_falls_b1 N p1 x2_12 S_13 = some b_7 := hb_8
    unfold tw_falls_b1 at hb_8
    show V E G (tw o S_13 M0) 0 0 3 21 [(2, .int x2_12), (0, rf E o), (1, .int p1)] [] Q
    refine V_iload_n hG 0 rfl dX7_falls_21 ?_
    refine V_sipush hG 200 (by decide) dX7_falls_22 ?_
    refine V_icmp_ge hG 53 dX7_falls_25 (by decide) (fun c_22 => ?_) (fun c_22 => ?_)
    · have hb_8 := if_t c_22 hb_8
      cases hb_8
      exact J_11 _ (hx_10 _ rfl)
    · have hb_8 := if_f c_22 hb_8
      refine V_aload_n hG 1 rfl dX7_falls_28 ?_
      refine g7_106 hM hG dX7_falls_29 ?_
      refine V_bipush hG 6 (by decide) dX7_falls_32 ?_
      refine V_iload_n hG 2 rfl dX7_falls_34 ?_
      refine V_iadd hG dX7_falls_35 ?_
      obtain ⟨g_23, hb_8⟩ := gd_of hb_8
      refine T_zaload hM hG (by decide) g_23 dX7_falls_36 ?_
      refine V_if_ne hG 42 dX7_falls_37 (by decide) (fun c_24 => ?_) (fun c_24 => ?_)
      · have hb_8 := if_f c_24 hb_8
        refine V_aload_n hG 1 rfl dX7_falls_42 ?_
        refine V_iconst hG 1 rfl dX7_falls_43 ?_
        obtain ⟨S_26, hc_25, hb_8⟩ := bd_of hb_8
        refine V_callV0 hE hG (As := [.int 1]) (rest := []) (ok_tw_hourGoes hE hM hc_25) hM.1 (by decide) rfl hw7_456 hd_tw_hourGoes ⟨Nat.le_of_ble_eq_true rfl, Nat.le_of_ble_eq_true rfl⟩ rfl rfl (Nat.le_of_ble_eq_true rfl) rfl rfl dX7_falls_44 ?_
        obtain ⟨x2_27, ex2_27, hb_8⟩ := be_of hb_8
        refine V_iinc hG 0 x2_27 rfl (by rw [ex2_27]; rfl) [(2, .int x2_27), (0, rf E o), (1, .int p1)] dX7_falls_47 (Nat.le_of_ble_eq_true rfl) rfl ?_
        refine V_goto hG 21 dX7_falls_50 (by decide) ?_
        cases hb_8
        exact hk_9 _ rfl
      · have hb_8 := if_t c_24 hb_8
        refine V_iload_n hG 0 rfl dX7_falls_40 ?_
        cases hb_8
        have e_28 := hx_10 _ rfl
        have h_29 : some (x2_12, S_13) = some (r, S') := hr_14 _ e_28.symm
        cases h_29
        subst eQ
        exact V_iret hG dX7_falls_41
  · have h := if_t c_4 h
    refine V_iconst hG (-1) rfl dX7_falls_13 ?_
    cases h
    subst eQ
    exact V_iret hG dX7_falls_14
