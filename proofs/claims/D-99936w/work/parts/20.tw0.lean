set_option maxRecDepth 100000
set_option maxHeartbeats 4000000
def tw_bounded (p1 : Int64) (S : TS) : Option (Int64 × TS) :=
be (if tI S 0 53 = 0 then (
if 0 < lg_cmp p1 1000000000000 then (
1)
else (
if 0 ≤ lg_cmp p1 (-1000000000000) then (
0)
else (
1)))
else (
1) : Int32) fun (y_6 : Int32) =>
gd (y_6 = 0 ∨ y_6 = 1) (
be (tsI S 0 53 y_6) fun S_7 =>
be (if tI S_7 0 53 = 0 then (
p1)
else (
0) : Int64) fun (y_12 : Int64) =>
some (y_12, S_7))
def rm_tw_bounded : Room := { frames := 0, cells := 0, slots := 0, locals := 0 }
theorem ok_tw_bounded {E : En} (hE : EOk E) {o : Nat} {M0 : Mem} (hM : TwS o M0) {p1 : Int64} {S : TS} {r : Int64} {S' : TS} (h : tw_bounded p1 S = some (r, S')) : CM E yX7_bounded cX7_bounded 3 (some .long) rm_tw_bounded [rf E o, .long p1] (tw o S M0) (some (.long r)) (tw o S' M0) := by
  unfold tw_bounded at h
  refine CM_intro (own := RX7) rfl (by decide) (Nat.le_of_ble_eq_true rfl) rfl (fun G hG => ?_)
  obtain ⟨Q, eQ⟩ : ∃ Q, Q = QM E G (some (.long r)) (tw o S' M0) 0 0 := ⟨_, rfl⟩
  show V E G (tw o S M0) 0 0 3 0 [(0, rf E o), (1, .long p1)] [] (QM E G (some (.long r)) (tw o S' M0) 0 0)
  rw [← eQ]
  refine V_aload_n hG 0 rfl dX7_bounded_0 ?_
  refine V_aload_n hG 0 rfl dX7_bounded_1 ?_
  refine g7_348 hM hG dX7_bounded_2 ?_
  obtain ⟨t_1, et_1, h⟩ := be_of h
  have J_2 : ∀ y_6 : Int32, y_6 = t_1 → V E G (tw o S M0) 0 0 3 29 [(0, rf E o), (1, .long p1)] [.int y_6, rf E o] Q := by
    intro y_6 ey
    subst ey
    obtain ⟨g_8, h⟩ := gd_of h
    obtain ⟨S_7, eS_7, h⟩ := be_of h
    refine p7_348 hM hG eS_7 g_8 dX7_bounded_29 ?_
    refine V_aload_n hG 0 rfl dX7_bounded_32 ?_
    refine g7_348 hM hG dX7_bounded_33 ?_
    obtain ⟨t_9, et_9, h⟩ := be_of h
    have J_10 : ∀ y_12 : Int64, y_12 = t_9 → V E G (tw o S_7 M0) 0 0 3 44 [(0, rf E o), (1, .long p1)] [.long y_12] Q := by
      intro y_12 ey
      subst ey
      cases h
      subst eQ
      exact V_lret hG dX7_bounded_44
    refine V_if_eq hG 43 dX7_bounded_36 (by decide) (fun c_11 => ?_) (fun c_11 => ?_)
    · refine V_lload_n hG 1 rfl dX7_bounded_43 ?_
      exact J_10 _ (by rw [et_9, if_pos c_11])
    · refine V_lconst hG 0 rfl dX7_bounded_39 ?_
      refine V_goto hG 44 dX7_bounded_40 (by decide) ?_
      exact J_10 _ (by rw [et_9, if_neg c_11])
  refine V_if_ne hG 24 dX7_bounded_5 (by decide) (fun c_3 => ?_) (fun c_3 => ?_)
  · refine V_iconst hG 1 rfl dX7_bounded_24 ?_
    refine V_goto hG 29 dX7_bounded_25 (by decide) ?_
    exact J_2 _ (by rw [et_1, if_neg c_3])
  · refine V_lload_n hG 1 rfl dX7_bounded_8 ?_
    refine V_ldc2 hG q2008 dX7_bounded_9 ?_
    refine V_lcmp hG dX7_bounded_12 ?_
    refine V_if_gt hG 24 dX7_bounded_13 (by decide) (fun c_4 => ?_) (fun c_4 => ?_)
    · refine V_iconst hG 1 rfl dX7_bounded_24 ?_
      refine V_goto hG 29 dX7_bounded_25 (by decide) ?_
      exact J_2 _ (by rw [et_1, if_pos c_3, if_pos c_4])
    · refine V_lload_n hG 1 rfl dX7_bounded_16 ?_
      refine V_ldc2 hG q2009 dX7_bounded_17 ?_
      refine V_lcmp hG dX7_bounded_20 ?_
      refine V_if_ge hG 28 dX7_bounded_21 (by decide) (fun c_5 => ?_) (fun c_5 => ?_)
      · refine V_iconst hG 0 rfl dX7_bounded_28 ?_
        exact J_2 _ (by rw [et_1, if_pos c_3, if_neg c_4, if_pos c_5])
      · refine V_iconst hG 1 rfl dX7_bounded_24 ?_
        refine V_goto hG 29 dX7_bounded_25 (by decide) ?_
        exact J_2 _ (by rw [et_1, if_pos c_3, if_neg c_4, if_neg c_5])

def tw_compares (p0 : Int32) (p1 : Int64) (p3 : Int64) (S : TS) : Option (Int32) :=
if p0 = 5 then (
be (if 0 ≤ lg_cmp p1 p3 then (
0)
else (
1) : Int32) fun (y_5 : Int32) =>
gd (y_5 = 0 ∨ y_5 = 1) (
some y_5))
else (
if p0 = 6 then (
be (if 0 < lg_cmp p1 p3 then (
0)
else (
1) : Int32) fun (y_11 : Int32) =>
gd (y_11 = 0 ∨ y_11 = 1) (
some y_11))
else (
if p0 = 7 then (
be (if lg_cmp p1 p3 = 0 then (
1)
else (
0) : Int32) fun (y_17 : Int32) =>
gd (y_17 = 0 ∨ y_17 = 1) (
some y_17))
else (
if p0 = 8 then (
be (if lg_cmp p1 p3 = 0 then (
0)
else (
1) : Int32) fun (y_23 : Int32) =>
gd (y_23 = 0 ∨ y_23 = 1) (
some y_23))
else (
if p0 = 9 then (
be (if lg_cmp p1 p3 < 0 then (
0)
else (
1) : Int32) fun (y_29 : Int32) =>
gd (y_29 = 0 ∨ y_29 = 1) (
some y_29))
else (
be (if lg_cmp p1 p3 ≤ 0 then (
0)
else (
1) : Int32) fun (y_34 : Int32) =>
gd (y_34 = 0 ∨ y_34 = 1) (
some y_34))))))
def rm_tw_compares : Room := { frames := 0, cells := 0, slots := 0, locals := 0 }
theorem ok_tw_compares {E : En} (hE : EOk E) {o : Nat} {M0 : Mem} (hM : TwS o M0) {p0 : Int32} {p1 : Int64} {p3 : Int64} {S : TS} {r : Int32} (h : tw_compares p0 p1 p3 S = some r) : CM E yX7_compares cX7_compares 5 (some .boolean) rm_tw_compares [.int p0, .long p1, .long p3] (tw o S M0) (some (.int r)) (tw o S M0) := by
  unfold tw_compares at h
  refine CM_intro (own := RX7) rfl (by decide) (Nat.le_of_ble_eq_true rfl) rfl (fun G hG => ?_)
  obtain ⟨Q, eQ⟩ : ∃ Q, Q = QM E G (some (.int r)) (tw o S M0) 0 0 := ⟨_, rfl⟩
  show V E G (tw o S M0) 0 0 5 0 [(0, .int p0), (1, .long p1), (3, .long p3)] [] (QM E G (some (.int r)) (tw o S M0) 0 0)
  rw [← eQ]
  refine V_iload_n hG 0 rfl dX7_compares_0 ?_
  by_cases c_1 : p0 = 5
  · have h := if_t c_1 h
    refine V_tableIn hG 36 dX7_compares_1 (by rw [c_1]; decide) (by rw [c_1]; decide) (by rw [c_1]; rfl) (by decide) ?_
    refine V_lload_n hG 1 rfl dX7_compares_36 ?_
    refine V_lload_n hG 2 rfl dX7_compares_37 ?_
    refine V_lcmp hG dX7_compares_38 ?_
    obtain ⟨t_2, et_2, h⟩ := be_of h
    have J_3 : ∀ y_5 : Int32, y_5 = t_2 → V E G (tw o S M0) 0 0 5 47 [(0, .int p0), (1, .long p1), (3, .long p3)] [.int y_5] Q := by
      intro y_5 ey
      subst ey
      obtain ⟨g_6, h⟩ := gd_of h
      cases h
      subst eQ
      exact V_zret hG g_6 dX7_compares_47
    refine V_if_ge hG 46 dX7_compares_39 (by decide) (fun c_4 => ?_) (fun c_4 => ?_)
    · refine V_iconst hG 0 rfl dX7_compares_46 ?_
      exact J_3 _ (by rw [et_2, if_pos c_4])
    · refine V_iconst hG 1 rfl dX7_compares_42 ?_
      refine V_goto hG 47 dX7_compares_43 (by decide) ?_
      exact J_3 _ (by rw [et_2, if_neg c_4])
  have h := if_f c_1 h
  by_cases c_7 : p0 = 6
  · have h := if_t c_7 h
    refine V_tableIn hG 48 dX7_compares_1 (by rw [c_7]; decide) (by rw [c_7]; decide) (by rw [c_7]; rfl) (by decide) ?_
    refine V_lload_n hG 1 rfl dX7_compares_48 ?_
    refine V_lload_n hG 2 rfl dX7_compares_49 ?_
    refine V_lcmp hG dX7_compares_50 ?_
    obtain ⟨t_8, et_8, h⟩ := be_of h
    have J_9 : ∀ y_11 : Int32, y_11 = t_8 → V E G (tw o S M0) 0 0 5 59 [(0, .int p0), (1, .long p1), (3, .long p3)] [.int y_11] Q := by
      intro y_11 ey
      subst ey
      obtain ⟨g_12, h⟩ := gd_of h
      cases h
      subst eQ
      exact V_zret hG g_12 dX7_compares_59
    refine V_if_gt hG 58 dX7_compares_51 (by decide) (fun c_10 => ?_) (fun c_10 => ?_)
    · refine V_iconst hG 0 rfl dX7_compares_58 ?_
      exact J_9 _ (by rw [et_8, if_pos c_10])
    · refine V_iconst hG 1 rfl dX7_compares_54 ?_
      refine V_goto hG 59 dX7_compares_55 (by decide) ?_
      exact J_9 _ (by rw [et_8, if_neg c_10])
  have h := if_f c_7 h
  by_cases c_13 : p0 = 7
  · have h := if_t c_13 h
    refine V_tableIn hG 60 dX7_compares_1 (by rw [c_13]; decide) (by rw [c_13]; decide) (by rw [c_13]; rfl) (by decide) ?_
    refine V_lload_n hG 1 rfl dX7_compares_60 ?_
    refine V_lload_n hG 2 rfl dX7_compares_61 ?_
    refine V_lcmp hG dX7_compares_62 ?_
    obtain ⟨t_14, et_14, h⟩ := be_of h
    have J_15 : ∀ y_17 : Int32, y_17 = t_14 → V E G (tw o S M0) 0 0 5 71 [(0, .int p0), (1, .long p1), (3, .long p3)] [.int y_17] Q := by
      intro y_17 ey
      subst ey
      obtain ⟨g_18, h⟩ := gd_of h
      cases h
      subst eQ
      exact V_zret hG g_18 dX7_compares_71
    refine V_if_ne hG 70 dX7_compares_63 (by decide) (fun c_16 => ?_) (fun c_16 => ?_)
    · refine V_iconst hG 0 rfl dX7_compares_70 ?_
      exact J_15 _ (by rw [et_14, if_neg c_16])
    · refine V_iconst hG 1 rfl dX7_compares_66 ?_
      refine V_goto hG 71 dX7_compares_67 (by decide) ?_
      exact J_15 _ (by rw [et_14, if_pos c_16])
  have h := if_f c_13 h
  by_cases c_19 : p0 = 8
  · have h := if_t c_19 h
    refine V_tableIn hG 72 dX7_compares_1 (by rw [c_19]; decide) (by rw [c_19]; decide) (by rw [c_19]; rfl) (by decide) ?_
    refine V_lload_n hG 1 rfl dX7_compares_72 ?_
    refine V_lload_n hG 2 rfl dX7_compares_73 ?_
    refine V_lcmp hG dX7_compares_74 ?_
    obtain ⟨t_20, et_20, h⟩ := be_of h
    have J_21 : ∀ y_23 : Int32, y_23 = t_20 → V E G (tw o S M0) 0 0 5 83 [(0, .int p0), (1, .long p1), (3, .long p3)] [.int y_23] Q := by
      intro y_23 ey
      subst ey
      obtain ⟨g_24, h⟩ := gd_of h
      cases h
      subst eQ
      exact V_zret hG g_24 dX7_compares_83
    refine V_if_eq hG 82 dX7_compares_75 (by decide) (fun c_22 => ?_) (fun c_22 => ?_)
    · refine V_iconst hG 0 rfl dX7_compares_82 ?_
      exact J_21 _ (by rw [et_20, if_pos c_22])
    · refine V_iconst hG 1 rfl dX7_compares_78 ?_
      refine V_goto hG 83 dX7_compares_79 (by decide) ?_
      exact J_21 _ (by rw [et_20, if_neg c_22])
  have h := if_f c_19 h
  by_cases c_25 : p0 = 9
  · have h := if_t c_25 h
    refine V_tableIn hG 84 dX7_compares_1 (by rw [c_25]; decide) (by rw [c_25]; decide) (by rw [c_25]; rfl) (by decide) ?_
    refine V_lload_n hG 1 rfl dX7_compares_84 ?_
    refine V_lload_n hG 2 rfl dX7_compares_85 ?_
    refine V_lcmp hG dX7_compares_86 ?_
    obtain ⟨t_26, et_26, h⟩ := be_of h
    have J_27 : ∀ y_29 : Int32, y_29 = t_26 → V E G (tw o S M0) 0 0 5 95 [(0, .int p0), (1, .long p1), (3, .long p3)] [.int y_29] Q := by
      intro y_29 ey
      subst ey
      obtain ⟨g_30, h⟩ := gd_of h
      cases h
      subst eQ
      exact V_zret hG g_30 dX7_compares_95
    refine V_if_lt hG 94 dX7_compares_87 (by decide) (fun c_28 => ?_) (fun c_28 => ?_)
    · refine V_iconst hG 0 rfl dX7_compares_94 ?_
      exact J_27 _ (by rw [et_26, if_pos c_28])
    · refine V_iconst hG 1 rfl dX7_compares_90 ?_
      refine V_goto hG 95 dX7_compares_91 (by decide) ?_
      exact J_27 _ (by rw [et_26, if_neg c_28])
  have h := if_f c_25 h
  refine V_tableOut hG 96 dX7_compares_1 (by have := lv_neT c_1 (show Int32.toInt 5 = 5 from rfl); have := lv_neT c_7 (show Int32.toInt 6 = 6 from rfl); have := lv_neT c_13 (show Int32.toInt 7 = 7 from rfl); have := lv_neT c_19 (show Int32.toInt 8 = 8 from rfl); have := lv_neT c_25 (show Int32.toInt 9 = 9 from rfl); omega) (by decide) ?_
  refine V_lload_n hG 1 rfl dX7_compares_96 ?_
  refine V_lload_n hG 2 rfl dX7_compares_97 ?_
  refine V_lcmp hG dX7_compares_98 ?_
  obtain ⟨t_31, et_31, h⟩ := be_of h
  have J_32 : ∀ y_34 : Int32, y_34 = t_31 → V E G (tw o S M0) 0 0 5 107 [(0, .int p0), (1, .long p1), (3, .long p3)] [.int y_34] Q := by
    intro y_34 ey
    subst ey
    obtain ⟨g_35, h⟩ := gd_of h
    cases h
    subst eQ
    exact V_zret hG g_35 dX7_compares_107
  refine V_if_le hG 106 dX7_compares_99 (by decide) (fun c_33 => ?_) (fun c_33 => ?_)
  · refine V_iconst hG 0 rfl dX7_compares_106 ?_
    exact J_32 _ (by rw [et_31, if_pos c_33])
  · refine V_iconst hG 1 rfl dX7_compares_102 ?_
    refine V_goto hG 107 dX7_compares_103 (by decide) ?_
    exact J_32 _ (by rw [et_31, if_neg c_33])

def tw_times (p1 : Int64) (p3 : Int64) (S : TS) : Option (Int64 × TS) :=
bd (if lg_cmp p1 0 = 0 then (
some 0)
else (
if lg_cmp p3 0 = 0 then (
some 0)
else (
be (if 0 ≤ lg_cmp p3 0 then (
p3)
else (
-p3) : Int64) fun (y_20 : Int64) =>
be (if 0 ≤ lg_cmp p1 0 then (
p1)
else (
-p1) : Int64) fun (y_24 : Int64) =>
gd (¬ y_24 = 0) (
if lg_cmp y_20 (1000000000000 / y_24) ≤ 0 then (
some 0)
else (
some 1)))) : Option (Int32)) fun (t_1 : Int32) =>
be (if tI S 0 53 = 0 then (
if t_1 = 0 then (
0)
else (
1))
else (
1) : Int32) fun (y_8 : Int32) =>
gd (y_8 = 0 ∨ y_8 = 1) (
be (tsI S 0 53 y_8) fun S_9 =>
be (if tI S_9 0 53 = 0 then (
p1 * p3)
else (
0) : Int64) fun (y_14 : Int64) =>
some (y_14, S_9))
def rm_tw_times : Room := { frames := 0, cells := 0, slots := 0, locals := 0 }
theorem ok_tw_times {E : En} (hE : EOk E) {o : Nat} {M0 : Mem} (hM : TwS o M0) {p1 : Int64} {p3 : Int64} {S : TS} {r : Int64} {S' : TS} (h : tw_times p1 p3 S = some (r, S')) : CM E yX7_times cX7_times 6 (some .long) rm_tw_times [rf E o, .long p1, .long p3] (tw o S M0) (some (.long r)) (tw o S' M0) := by
  unfold tw_times at h
  refine CM_intro (own := RX7) rfl (by decide) (Nat.le_of_ble_eq_true rfl) rfl (fun G hG => ?_)
  obtain ⟨Q, eQ⟩ : ∃ Q, Q = QM E G (some (.long r)) (tw o S' M0) 0 0 := ⟨_, rfl⟩
  show V E G (tw o S M0) 0 0 6 0 [(0, rf E o), (1, .long p1), (3, .long p3)] [] (QM E G (some (.long r)) (tw o S' M0) 0 0)
  rw [← eQ]
  refine V_lload_n hG 1 rfl dX7_times_0 ?_
  refine V_lconst hG 0 rfl dX7_times_1 ?_
  refine V_lcmp hG dX7_times_2 ?_
  obtain ⟨t_1, hj_3, h⟩ := bd_of h
  have J_2 : V E G (tw o S M0) 0 0 6 49 [(0, rf E o), (1, .long p1), (3, .long p3)] [.int t_1] Q := by
    refine V_istore hG [(5, .int t_1), (0, rf E o), (1, .long p1), (3, .long p3)] dX7_times_49 (Nat.le_of_ble_eq_true rfl) rfl ?_
    refine V_aload_n hG 1 rfl dX7_times_51 ?_
    refine V_aload_n hG 1 rfl dX7_times_52 ?_
    refine g7_348 hM hG dX7_times_53 ?_
    obtain ⟨t_4, et_4, h⟩ := be_of h
    have J_5 : ∀ y_8 : Int32, y_8 = t_4 → V E G (tw o S M0) 0 0 6 69 [(5, .int t_1), (0, rf E o), (1, .long p1), (3, .long p3)] [.int y_8, rf E o] Q := by
      intro y_8 ey
      subst ey
      obtain ⟨g_10, h⟩ := gd_of h
      obtain ⟨S_9, eS_9, h⟩ := be_of h
      refine p7_348 hM hG eS_9 g_10 dX7_times_69 ?_
      refine V_aload_n hG 1 rfl dX7_times_72 ?_
      refine g7_348 hM hG dX7_times_73 ?_
      obtain ⟨t_11, et_11, h⟩ := be_of h
      have J_12 : ∀ y_14 : Int64, y_14 = t_11 → V E G (tw o S_9 M0) 0 0 6 86 [(5, .int t_1), (0, rf E o), (1, .long p1), (3, .long p3)] [.long y_14] Q := by
        intro y_14 ey
        subst ey
        cases h
        subst eQ
        exact V_lret hG dX7_times_86
      refine V_if_eq hG 83 dX7_times_76 (by decide) (fun c_13 => ?_) (fun c_13 => ?_)
      · refine V_lload_n hG 2 rfl dX7_times_83 ?_
        refine V_lload_n hG 3 rfl dX7_times_84 ?_
        refine V_lmul hG dX7_times_85 ?_
        exact J_12 _ (by rw [et_11, if_pos c_13])
      · refine V_lconst hG 0 rfl dX7_times_79 ?_
        refine V_goto hG 86 dX7_times_80 (by decide) ?_
        exact J_12 _ (by rw [et_11, if_neg c_13])
    refine V_if_ne hG 64 dX7_times_56 (by decide) (fun c_6 => ?_) (fun c_6 => ?_)
    · refine V_iconst hG 1 rfl dX7_times_64 ?_
      refine V_goto hG 69 dX7_times_65 (by decide) ?_
      exact J_5 _ (by rw [et_4, if_neg c_6])
    · refine V_iload hG 0 rfl dX7_times_59 ?_
      refine V_if_eq hG 68 dX7_times_61 (by decide) (fun c_7 => ?_) (fun c_7 => ?_)
      · refine V_iconst hG 0 rfl dX7_times_68 ?_
        exact J_5 _ (by rw [et_4, if_pos c_6, if_pos c_7])
      · refine V_iconst hG 1 rfl dX7_times_64 ?_
        refine V_goto hG 69 dX7_times_65 (by decide) ?_
        exact J_5 _ (by rw [et_4, if_pos c_6, if_neg c_7])
  refine V_if_eq hG 48 dX7_times_3 (by decide) (fun c_15 => ?_) (fun c_15 => ?_)
  · have hj_3 := if_t c_15 hj_3
    refine V_iconst hG 0 rfl dX7_times_48 ?_
    cases hj_3
    exact J_2
  · have hj_3 := if_f c_15 hj_3
    refine V_lload_n hG 2 rfl dX7_times_6 ?_
    refine V_lconst hG 0 rfl dX7_times_7 ?_
    refine V_lcmp hG dX7_times_8 ?_
    refine V_if_eq hG 48 dX7_times_9 (by decide) (fun c_16 => ?_) (fun c_16 => ?_)
    · have hj_3 := if_t c_16 hj_3
      refine V_iconst hG 0 rfl dX7_times_48 ?_
      cases hj_3
      exact J_2
    · have hj_3 := if_f c_16 hj_3
      refine V_lload_n hG 2 rfl dX7_times_12 ?_
      refine V_lconst hG 0 rfl dX7_times_13 ?_
      refine V_lcmp hG dX7_times_14 ?_
      obtain ⟨t_17, et_17, hj_3⟩ := be_of hj_3
      have J_18 : ∀ y_20 : Int64, y_20 = t_17 → V E G (tw o S M0) 0 0 6 24 [(0, rf E o), (1, .long p1), (3, .long p3)] [.long y_20] Q := by
        intro y_20 ey
        subst ey
        refine V_ldc2 hG q2008 dX7_times_24 ?_
        refine V_lload_n hG 1 rfl dX7_times_27 ?_
        refine V_lconst hG 0 rfl dX7_times_28 ?_
        refine V_lcmp hG dX7_times_29 ?_
        obtain ⟨t_21, et_21, hj_3⟩ := be_of hj_3
        have J_22 : ∀ y_24 : Int64, y_24 = t_21 → V E G (tw o S M0) 0 0 6 39 [(0, rf E o), (1, .long p1), (3, .long p3)] [.long y_24, .long 1000000000000, .long y_20] Q := by
          intro y_24 ey
          subst ey
          obtain ⟨g_25, hj_3⟩ := gd_of hj_3
          refine V_ldiv hG g_25 dX7_times_39 ?_
          refine V_lcmp hG dX7_times_40 ?_
          refine V_if_le hG 48 dX7_times_41 (by decide) (fun c_26 => ?_) (fun c_26 => ?_)
          · have hj_3 := if_t c_26 hj_3
            refine V_iconst hG 0 rfl dX7_times_48 ?_
            cases hj_3
            exact J_2
          · have hj_3 := if_f c_26 hj_3
            refine V_iconst hG 1 rfl dX7_times_44 ?_
            refine V_goto hG 49 dX7_times_45 (by decide) ?_
            cases hj_3
            exact J_2
        refine V_if_ge hG 38 dX7_times_30 (by decide) (fun c_23 => ?_) (fun c_23 => ?_)
        · refine V_lload_n hG 1 rfl dX7_times_38 ?_
          exact J_22 _ (by rw [et_21, if_pos c_23])
        · refine V_lload_n hG 1 rfl dX7_times_33 ?_
          refine V_lneg hG dX7_times_34 ?_
          refine V_goto hG 39 dX7_times_35 (by decide) ?_
          exact J_22 _ (by rw [et_21, if_neg c_23])
      refine V_if_ge hG 23 dX7_times_15 (by decide) (fun c_19 => ?_) (fun c_19 => ?_)
      · refine V_lload_n hG 2 rfl dX7_times_23 ?_
        exact J_18 _ (by rw [et_17, if_pos c_19])
      · refine V_lload_n hG 2 rfl dX7_times_18 ?_
        refine V_lneg hG dX7_times_19 ?_
        refine V_goto hG 24 dX7_times_20 (by decide) ?_
        exact J_18 _ (by rw [et_17, if_neg c_19])

def tw_valueOf (p1 : Int32) (S : TS) : Option (Int64 × TS) :=
gd (inb p1 (lenA 20)) (
if tI S 20 (Int32.toNatClampNeg p1) = 0 then (
gd (inb p1 (lenA 21)) (
some (Int32.toInt64 (tI S 21 (Int32.toNatClampNeg p1)), S)))
else (
gd (inb p1 (lenA 20)) (
if tI S 20 (Int32.toNatClampNeg p1) = 1 then (
gd (inb p1 (lenA 21)) (
gd (inb (tI S 21 (Int32.toNatClampNeg p1)) (lenA 25)) (
some (tL S 25 (Int32.toNatClampNeg (tI S 21 (Int32.toNatClampNeg p1))), S))))
else (
gd (inb p1 (lenA 21)) (
gd (inb (tI S 21 (Int32.toNatClampNeg p1)) (lenA 26)) (
be (tL S 26 (Int32.toNatClampNeg (tI S 21 (Int32.toNatClampNeg p1)))) fun (x2_7 : Int64) =>
gd (inb p1 (lenA 20)) (
if tI S 20 (Int32.toNatClampNeg p1) = 2 then (
be (if lg_cmp x2_7 0 = 0 then (
1)
else (
0) : Int64) fun (y_109 : Int64) =>
some (y_109, S))
else (
gd (inb p1 (lenA 22)) (
gd (inb (tI S 22 (Int32.toNatClampNeg p1)) (lenA 26)) (
be (tL S 26 (Int32.toNatClampNeg (tI S 22 (Int32.toNatClampNeg p1)))) fun (x4_12 : Int64) =>
gd (inb p1 (lenA 20)) (
if tI S 20 (Int32.toNatClampNeg p1) = 3 then (
be (if lg_cmp x2_7 0 = 0 then (
0)
else (
if lg_cmp x4_12 0 = 0 then (
0)
else (
1)) : Int64) fun (y_19 : Int64) =>
some (y_19, S))
else (
if tI S 20 (Int32.toNatClampNeg p1) = 4 then (
be (if lg_cmp x2_7 0 = 0 then (
if lg_cmp x4_12 0 = 0 then (
0)
else (
1))
else (
1) : Int64) fun (y_25 : Int64) =>
some (y_25, S))
else (
if tI S 20 (Int32.toNatClampNeg p1) = 5 then (
gd (inb p1 (lenA 20)) (
bd (tw_compares (tI S 20 (Int32.toNatClampNeg p1)) x2_7 x4_12 S) fun r_29 =>
be (if r_29 = 0 then (
0)
else (
1) : Int64) fun (y_33 : Int64) =>
some (y_33, S)))
else (
if tI S 20 (Int32.toNatClampNeg p1) = 6 then (
gd (inb p1 (lenA 20)) (
bd (tw_compares (tI S 20 (Int32.toNatClampNeg p1)) x2_7 x4_12 S) fun r_37 =>
be (if r_37 = 0 then (
0)
else (
1) : Int64) fun (y_41 : Int64) =>
some (y_41, S)))
else (
if tI S 20 (Int32.toNatClampNeg p1) = 7 then (
gd (inb p1 (lenA 20)) (
bd (tw_compares (tI S 20 (Int32.toNatClampNeg p1)) x2_7 x4_12 S) fun r_45 =>
be (if r_45 = 0 then (
0)
else (
1) : Int64) fun (y_49 : Int64) =>
some (y_49, S)))
else (
if tI S 20 (Int32.toNatClampNeg p1) = 8 then (
gd (inb p1 (lenA 20)) (
bd (tw_compares (tI S 20 (Int32.toNatClampNeg p1)) x2_7 x4_12 S) fun r_53 =>
be (if r_53 = 0 then (
0)
else (
1) : Int64) fun (y_57 : Int64) =>
some (y_57, S)))
else (
if tI S 20 (Int32.toNatClampNeg p1) = 9 then (
gd (inb p1 (lenA 20)) (
bd (tw_compares (tI S 20 (Int32.toNatClampNeg p1)) x2_7 x4_12 S) fun r_61 =>
be (if r_61 = 0 then (
0)
else (
1) : Int64) fun (y_65 : Int64) =>
some (y_65, S)))
else (
if tI S 20 (Int32.toNatClampNeg p1) = 10 then (
gd (inb p1 (lenA 20)) (
bd (tw_compares (tI S 20 (Int32.toNatClampNeg p1)) x2_7 x4_12 S) fun r_69 =>
be (if r_69 = 0 then (
0)
else (
1) : Int64) fun (y_73 : Int64) =>
some (y_73, S)))
else (
if tI S 20 (Int32.toNatClampNeg p1) = 11 then (
bd2 (tw_bounded (x2_7 + x4_12) S) fun r_77 S_76 =>
some (r_77, S_76))
else (
if tI S 20 (Int32.toNatClampNeg p1) = 12 then (
bd2 (tw_bounded (x2_7 - x4_12) S) fun r_81 S_80 =>
some (r_81, S_80))
else (
if tI S 20 (Int32.toNatClampNeg p1) = 13 then (
bd2 (tw_times x2_7 x4_12 S) fun r_85 S_84 =>
some (r_85, S_84))
else (
if tI S 20 (Int32.toNatClampNeg p1) = 14 then (
be (if tI S 0 53 = 0 then (
if lg_cmp x4_12 0 = 0 then (
1)
else (
0))
else (
1) : Int32) fun (y_91 : Int32) =>
gd (y_91 = 0 ∨ y_91 = 1) (
be (tsI S 0 53 y_91) fun S_92 =>
bd (if tI S_92 0 53 = 0 then (
gd (¬ x4_12 = 0) (
some (x2_7 / x4_12)))
else (
some 0) : Option (Int64)) fun (t_94 : Int64) =>
some (t_94, S_92)))
else (
gd (inb p1 (lenA 20)) (
bd (tw_compares (tI S 20 (Int32.toNatClampNeg p1)) x2_7 x4_12 S) fun r_101 =>
be (if r_101 = 0 then (
0)
else (
1) : Int64) fun (y_105 : Int64) =>
some (y_105, S)))))))))))))))))))))))))
def rm_tw_valueOf : Room := { frames := 1, cells := 0, slots := 0, locals := 25 }
theorem ok_tw_valueOf {E : En} (hE : EOk E) {o : Nat} {M0 : Mem} (hM : TwS o M0) {p1 : Int32} {S : TS} {r : Int64} {S' : TS} (h : tw_valueOf p1 S = some (r, S')) : CM E yX7_valueOf cX7_valueOf 6 (some .long) rm_tw_valueOf [rf E o, .int p1] (tw o S M0) (some (.long r)) (tw o S' M0) := by
  unfold tw_valueOf at h
  refine CM_intro (own := RX7) rfl (by decide) (Nat.le_of_ble_eq_true rfl) rfl (fun G hG => ?_)
  obtain ⟨Q, eQ⟩ : ∃ Q, Q = QM E G (some (.long r)) (tw o S' M0) 0 0 := ⟨_, rfl⟩
  show V E G (tw o S M0) 0 0 6 0 [(0, rf E o), (1, .int p1)] [] (QM E G (some (.long r)) (tw o S' M0) 0 0)
  rw [← eQ]
  refine V_aload_n hG 0 rfl dX7_valueOf_0 ?_
  refine g7_72 hM hG dX7_valueOf_1 ?_
  refine V_iload_n hG 1 rfl dX7_valueOf_4 ?_
  obtain ⟨g_1, h⟩ := gd_of h
  refine T_iaload hM hG (by decide) g_1 dX7_valueOf_5 ?_
  refine V_if_ne hG 17 dX7_valueOf_6 (by decide) (fun c_2 => ?_) (fun c_2 => ?_)
  · have h := if_f c_2 h
    refine V_aload_n hG 0 rfl dX7_valueOf_17 ?_
    refine g7_72 hM hG dX7_valueOf_18 ?_
    refine V_iload_n hG 1 rfl dX7_valueOf_21 ?_
    obtain ⟨g_3, h⟩ := gd_of h
    refine T_iaload hM hG (by decide) g_3 dX7_valueOf_22 ?_
    refine V_iconst hG 1 rfl dX7_valueOf_23 ?_
    refine V_icmp_ne hG 39 dX7_valueOf_24 (by decide) (fun c_4 => ?_) (fun c_4 => ?_)
    · have h := if_f c_4 h
      refine V_aload_n hG 0 rfl dX7_valueOf_39 ?_
      refine g7_91 hM hG dX7_valueOf_40 ?_
      refine V_aload_n hG 0 rfl dX7_valueOf_43 ?_
      refine g7_75 hM hG dX7_valueOf_44 ?_
      refine V_iload_n hG 1 rfl dX7_valueOf_47 ?_
      obtain ⟨g_5, h⟩ := gd_of h
      refine T_iaload hM hG (by decide) g_5 dX7_valueOf_48 ?_
      obtain ⟨g_6, h⟩ := gd_of h
      refine T_laload hM hG (by decide) g_6 dX7_valueOf_49 ?_
      obtain ⟨x2_7, ex2_7, h⟩ := be_of h
      refine V_topl ex2_7 ?_
      refine V_lstore_n hG rfl [(2, .long x2_7), (0, rf E o), (1, .int p1)] dX7_valueOf_50 (Nat.le_of_ble_eq_true rfl) rfl ?_
      refine V_aload_n hG 1 rfl dX7_valueOf_51 ?_
      refine g7_72 hM hG dX7_valueOf_52 ?_
      refine V_iload_n hG 2 rfl dX7_valueOf_55 ?_
      obtain ⟨g_8, h⟩ := gd_of h
      refine T_iaload hM hG (by decide) g_8 dX7_valueOf_56 ?_
      refine V_iconst hG 2 rfl dX7_valueOf_57 ?_
      refine V_icmp_ne hG 73 dX7_valueOf_58 (by decide) (fun c_9 => ?_) (fun c_9 => ?_)
      · have h := if_f c_9 h
        refine V_aload_n hG 1 rfl dX7_valueOf_73 ?_
        refine g7_91 hM hG dX7_valueOf_74 ?_
        refine V_aload_n hG 1 rfl dX7_valueOf_77 ?_
        refine g7_78 hM hG dX7_valueOf_78 ?_
        refine V_iload_n hG 2 rfl dX7_valueOf_81 ?_
        obtain ⟨g_10, h⟩ := gd_of h
        refine T_iaload hM hG (by decide) g_10 dX7_valueOf_82 ?_
        obtain ⟨g_11, h⟩ := gd_of h
        refine T_laload hM hG (by decide) g_11 dX7_valueOf_83 ?_
        obtain ⟨x4_12, ex4_12, h⟩ := be_of h
        refine V_topl ex4_12 ?_
        refine V_lstore hG [(4, .long x4_12), (2, .long x2_7), (0, rf E o), (1, .int p1)] dX7_valueOf_84 (Nat.le_of_ble_eq_true rfl) rfl ?_
        refine V_aload_n hG 2 rfl dX7_valueOf_86 ?_
        refine g7_72 hM hG dX7_valueOf_87 ?_
        refine V_iload_n hG 3 rfl dX7_valueOf_90 ?_
        obtain ⟨g_13, h⟩ := gd_of h
        refine T_iaload hM hG (by decide) g_13 dX7_valueOf_91 ?_
        by_cases c_14 : tI S 20 (Int32.toNatClampNeg p1) = 3
        · have h := if_t c_14 h
          refine V_tableIn hG 156 dX7_valueOf_92 (by rw [c_14]; decide) (by rw [c_14]; decide) (by rw [c_14]; rfl) (by decide) ?_
          refine V_lload_n hG 1 rfl dX7_valueOf_156 ?_
          refine V_lconst hG 0 rfl dX7_valueOf_157 ?_
          refine V_lcmp hG dX7_valueOf_158 ?_
          obtain ⟨t_15, et_15, h⟩ := be_of h
          have J_16 : ∀ y_19 : Int64, y_19 = t_15 → V E G (tw o S M0) 0 0 6 174 [(4, .long x4_12), (2, .long x2_7), (0, rf E o), (1, .int p1)] [.long y_19] Q := by
            intro y_19 ey
            subst ey
            cases h
            subst eQ
            exact V_lret hG dX7_valueOf_174
          refine V_if_eq hG 173 dX7_valueOf_159 (by decide) (fun c_17 => ?_) (fun c_17 => ?_)
          · refine V_lconst hG 0 rfl dX7_valueOf_173 ?_
            exact J_16 _ (by rw [et_15, if_pos c_17])
          · refine V_lload hG 0 rfl dX7_valueOf_162 ?_
            refine V_lconst hG 0 rfl dX7_valueOf_164 ?_
            refine V_lcmp hG dX7_valueOf_165 ?_
            refine V_if_eq hG 173 dX7_valueOf_166 (by decide) (fun c_18 => ?_) (fun c_18 => ?_)
            · refine V_lconst hG 0 rfl dX7_valueOf_173 ?_
              exact J_16 _ (by rw [et_15, if_neg c_17, if_pos c_18])
            · refine V_lconst hG 1 rfl dX7_valueOf_169 ?_
              refine V_goto hG 174 dX7_valueOf_170 (by decide) ?_
              exact J_16 _ (by rw [et_15, if_neg c_17, if_neg c_18])
        have h := if_f c_14 h
        by_cases c_20 : tI S 20 (Int32.toNatClampNeg p1) = 4
        · have h := if_t c_20 h
          refine V_tableIn hG 175 dX7_valueOf_92 (by rw [c_20]; decide) (by rw [c_20]; decide) (by rw [c_20]; rfl) (by decide) ?_
          refine V_lload_n hG 1 rfl dX7_valueOf_175 ?_
          refine V_lconst hG 0 rfl dX7_valueOf_176 ?_
          refine V_lcmp hG dX7_valueOf_177 ?_
          obtain ⟨t_21, et_21, h⟩ := be_of h
          have J_22 : ∀ y_25 : Int64, y_25 = t_21 → V E G (tw o S M0) 0 0 6 193 [(4, .long x4_12), (2, .long x2_7), (0, rf E o), (1, .int p1)] [.long y_25] Q := by
            intro y_25 ey
            subst ey
            cases h
            subst eQ
            exact V_lret hG dX7_valueOf_193
          refine V_if_ne hG 188 dX7_valueOf_178 (by decide) (fun c_23 => ?_) (fun c_23 => ?_)
          · refine V_lconst hG 1 rfl dX7_valueOf_188 ?_
            refine V_goto hG 193 dX7_valueOf_189 (by decide) ?_
            exact J_22 _ (by rw [et_21, if_neg c_23])
          · refine V_lload hG 0 rfl dX7_valueOf_181 ?_
            refine V_lconst hG 0 rfl dX7_valueOf_183 ?_
            refine V_lcmp hG dX7_valueOf_184 ?_
            refine V_if_eq hG 192 dX7_valueOf_185 (by decide) (fun c_24 => ?_) (fun c_24 => ?_)
            · refine V_lconst hG 0 rfl dX7_valueOf_192 ?_
              exact J_22 _ (by rw [et_21, if_pos c_23, if_pos c_24])
            · refine V_lconst hG 1 rfl dX7_valueOf_188 ?_
              refine V_goto hG 193 dX7_valueOf_189 (by decide) ?_
              exact J_22 _ (by rw [et_21, if_pos c_23, if_neg c_24])
        have h := if_f c_20 h
        by_cases c_26 : tI S 20 (Int32.toNatClampNeg p1) = 5
        · have h := if_t c_26 h
          refine V_tableIn hG 259 dX7_valueOf_92 (by rw [c_26]; decide) (by rw [c_26]; decide) (by rw [c_26]; rfl) (by decide) ?_
          refine V_aload_n hG 2 rfl dX7_valueOf_259 ?_
          refine g7_72 hM hG dX7_valueOf_260 ?_
          refine V_iload_n hG 3 rfl dX7_valueOf_263 ?_
          obtain ⟨g_27, h⟩ := gd_of h
          refine T_iaload hM hG (by decide) g_27 dX7_valueOf_264 ?_
          refine V_lload_n hG 1 rfl dX7_valueOf_265 ?_
          refine V_lload hG 0 rfl dX7_valueOf_266 ?_
          obtain ⟨r_29, hc_28, h⟩ := bd_of h
          refine V_callS0 hE hG (As := [.int (tI S 20 (Int32.toNatClampNeg p1)), .long x2_7, .long x4_12]) (rest := []) (ok_tw_compares hE hM hc_28) hw7_363 hd_tw_compares ⟨Nat.le_of_ble_eq_true rfl, Nat.le_of_ble_eq_true rfl⟩ rfl rfl (Nat.le_of_ble_eq_true rfl) rfl rfl dX7_valueOf_268 ?_
          obtain ⟨t_30, et_30, h⟩ := be_of h
          have J_31 : ∀ y_33 : Int64, y_33 = t_30 → V E G (tw o S M0) 0 0 6 279 [(4, .long x4_12), (2, .long x2_7), (0, rf E o), (1, .int p1)] [.long y_33] Q := by
            intro y_33 ey
            subst ey
            cases h
            subst eQ
            exact V_lret hG dX7_valueOf_279
          refine V_if_eq hG 278 dX7_valueOf_271 (by decide) (fun c_32 => ?_) (fun c_32 => ?_)
          · refine V_lconst hG 0 rfl dX7_valueOf_278 ?_
            exact J_31 _ (by rw [et_30, if_pos c_32])
          · refine V_lconst hG 1 rfl dX7_valueOf_274 ?_
            refine V_goto hG 279 dX7_valueOf_275 (by decide) ?_
            exact J_31 _ (by rw [et_30, if_neg c_32])
        have h := if_f c_26 h
        by_cases c_34 : tI S 20 (Int32.toNatClampNeg p1) = 6
        · have h := if_t c_34 h
          refine V_tableIn hG 259 dX7_valueOf_92 (by rw [c_34]; decide) (by rw [c_34]; decide) (by rw [c_34]; rfl) (by decide) ?_
          refine V_aload_n hG 2 rfl dX7_valueOf_259 ?_
          refine g7_72 hM hG dX7_valueOf_260 ?_
          refine V_iload_n hG 3 rfl dX7_valueOf_263 ?_
          obtain ⟨g_35, h⟩ := gd_of h
          refine T_iaload hM hG (by decide) g_35 dX7_valueOf_264 ?_
          refine V_lload_n hG 1 rfl dX7_valueOf_265 ?_
          refine V_lload hG 0 rfl dX7_valueOf_266 ?_
          obtain ⟨r_37, hc_36, h⟩ := bd_of h
          refine V_callS0 hE hG (As := [.int (tI S 20 (Int32.toNatClampNeg p1)), .long x2_7, .long x4_12]) (rest := []) (ok_tw_compares hE hM hc_36) hw7_363 hd_tw_compares ⟨Nat.le_of_ble_eq_true rfl, Nat.le_of_ble_eq_true rfl⟩ rfl rfl (Nat.le_of_ble_eq_true rfl) rfl rfl dX7_valueOf_268 ?_
          obtain ⟨t_38, et_38, h⟩ := be_of h
          have J_39 : ∀ y_41 : Int64, y_41 = t_38 → V E G (tw o S M0) 0 0 6 279 [(4, .long x4_12), (2, .long x2_7), (0, rf E o), (1, .int p1)] [.long y_41] Q := by
            intro y_41 ey
            subst ey
            cases h
            subst eQ
            exact V_lret hG dX7_valueOf_279
          refine V_if_eq hG 278 dX7_valueOf_271 (by decide) (fun c_40 => ?_) (fun c_40 => ?_)
          · refine V_lconst hG 0 rfl dX7_valueOf_278 ?_
            exact J_39 _ (by rw [et_38, if_pos c_40])
          · refine V_lconst hG 1 rfl dX7_valueOf_274 ?_
            refine V_goto hG 279 dX7_valueOf_275 (by decide) ?_
            exact J_39 _ (by rw [et_38, if_neg c_40])
        have h := if_f c_34 h
        by_cases c_42 : tI S 20 (Int32.toNatClampNeg p1) = 7
        · have h := if_t c_42 h
          refine V_tableIn hG 259 dX7_valueOf_92 (by rw [c_42]; decide) (by rw [c_42]; decide) (by rw [c_42]; rfl) (by decide) ?_
          refine V_aload_n hG 2 rfl dX7_valueOf_259 ?_
          refine g7_72 hM hG dX7_valueOf_260 ?_
          refine V_iload_n hG 3 rfl dX7_valueOf_263 ?_
          obtain ⟨g_43, h⟩ := gd_of h
          refine T_iaload hM hG (by decide) g_43 dX7_valueOf_264 ?_
          refine V_lload_n hG 1 rfl dX7_valueOf_265 ?_
          refine V_lload hG 0 rfl dX7_valueOf_266 ?_
          obtain ⟨r_45, hc_44, h⟩ := bd_of h
          refine V_callS0 hE hG (As := [.int (tI S 20 (Int32.toNatClampNeg p1)), .long x2_7, .long x4_12]) (rest := []) (ok_tw_compares hE hM hc_44) hw7_363 hd_tw_compares ⟨Nat.le_of_ble_eq_true rfl, Nat.le_of_ble_eq_true rfl⟩ rfl rfl (Nat.le_of_ble_eq_true rfl) rfl rfl dX7_valueOf_268 ?_
          obtain ⟨t_46, et_46, h⟩ := be_of h
          have J_47 : ∀ y_49 : Int64, y_49 = t_46 → V E G (tw o S M0) 0 0 6 279 [(4, .long x4_12), (2, .long x2_7), (0, rf E o), (1, .int p1)] [.long y_49] Q := by
            intro y_49 ey
            subst ey
            cases h
            subst eQ
            exact V_lret hG dX7_valueOf_279
          refine V_if_eq hG 278 dX7_valueOf_271 (by decide) (fun c_48 => ?_) (fun c_48 => ?_)
          · refine V_lconst hG 0 rfl dX7_valueOf_278 ?_
            exact J_47 _ (by rw [et_46, if_pos c_48])
          · refine V_lconst hG 1 rfl dX7_valueOf_274 ?_
            refine V_goto hG 279 dX7_valueOf_275 (by decide) ?_
            exact J_47 _ (by rw [et_46, if_neg c_48])
        have h := if_f c_42 h
        by_cases c_50 : tI S 20 (Int32.toNatClampNeg p1) = 8
        · have h := if_t c_50 h
          refine V_tableIn hG 259 dX7_valueOf_92 (by rw [c_50]; decide) (by rw [c_50]; decide) (by rw [c_50]; rfl) (by decide) ?_
          refine V_aload_n hG 2 rfl dX7_valueOf_259 ?_
          refine g7_72 hM hG dX7_valueOf_260 ?_
          refine V_iload_n hG 3 rfl dX7_valueOf_263 ?_
          obtain ⟨g_51, h⟩ := gd_of h
          refine T_iaload hM hG (by decide) g_51 dX7_valueOf_264 ?_
          refine V_lload_n hG 1 rfl dX7_valueOf_265 ?_
          refine V_lload hG 0 rfl dX7_valueOf_266 ?_
          obtain ⟨r_53, hc_52, h⟩ := bd_of h
          refine V_callS0 hE hG (As := [.int (tI S 20 (Int32.toNatClampNeg p1)), .long x2_7, .long x4_12]) (rest := []) (ok_tw_compares hE hM hc_52) hw7_363 hd_tw_compares ⟨Nat.le_of_ble_eq_true rfl, Nat.le_of_ble_eq_true rfl⟩ rfl rfl (Nat.le_of_ble_eq_true rfl) rfl rfl dX7_valueOf_268 ?_
          obtain ⟨t_54, et_54, h⟩ := be_of h
          have J_55 : ∀ y_57 : Int64, y_57 = t_54 → V E G (tw o S M0) 0 0 6 279 [(4, .long x4_12), (2, .long x2_7), (0, rf E o), (1, .int p1)] [.long y_57] Q := by
            intro y_57 ey
            subst ey
            cases h
            subst eQ
            exact V_lret hG dX7_valueOf_279
          refine V_if_eq hG 278 dX7_valueOf_271 (by decide) (fun c_56 => ?_) (fun c_56 => ?_)
          · refine V_lconst hG 0 rfl dX7_valueOf_278 ?_
            exact J_55 _ (by rw [et_54, if_pos c_56])
          · refine V_lconst hG 1 rfl dX7_valueOf_274 ?_
            refine V_goto hG 279 dX7_valueOf_275 (by decide) ?_
            exact J_55 _ (by rw [et_54, if_neg c_56])
        have h := if_f c_50 h
        by_cases c_58 : tI S 20 (Int32.toNatClampNeg p1) = 9
        · have h := if_t c_58 h
          refine V_tableIn hG 259 dX7_valueOf_92 (by rw [c_58]; decide) (by rw [c_58]; decide) (by rw [c_58]; rfl) (by decide) ?_
          refine V_aload_n hG 2 rfl dX7_valueOf_259 ?_
          refine g7_72 hM hG dX7_valueOf_260 ?_
          refine V_iload_n hG 3 rfl dX7_valueOf_263 ?_
          obtain ⟨g_59, h⟩ := gd_of h
          refine T_iaload hM hG (by decide) g_59 dX7_valueOf_264 ?_
          refine V_lload_n hG 1 rfl dX7_valueOf_265 ?_
          refine V_lload hG 0 rfl dX7_valueOf_266 ?_
          obtain ⟨r_61, hc_60, h⟩ := bd_of h
          refine V_callS0 hE hG (As := [.int (tI S 20 (Int32.toNatClampNeg p1)), .long x2_7, .long x4_12]) (rest := []) (ok_tw_compares hE hM hc_60) hw7_363 hd_tw_compares ⟨Nat.le_of_ble_eq_true rfl, Nat.le_of_ble_eq_true rfl⟩ rfl rfl (Nat.le_of_ble_eq_true rfl) rfl rfl dX7_valueOf_268 ?_
          obtain ⟨t_62, et_62, h⟩ := be_of h
          have J_63 : ∀ y_65 : Int64, y_65 = t_62 → V E G (tw o S M0) 0 0 6 279 [(4, .long x4_12), (2, .long x2_7), (0, rf E o), (1, .int p1)] [.long y_65] Q := by
            intro y_65 ey
            subst ey
            cases h
            subst eQ
            exact V_lret hG dX7_valueOf_279
          refine V_if_eq hG 278 dX7_valueOf_271 (by decide) (fun c_64 => ?_) (fun c_64 => ?_)
          · refine V_lconst hG 0 rfl dX7_valueOf_278 ?_
            exact J_63 _ (by rw [et_62, if_pos c_64])
          · refine V_lconst hG 1 rfl dX7_valueOf_274 ?_
            refine V_goto hG 279 dX7_valueOf_275 (by decide) ?_
            exact J_63 _ (by rw [et_62, if_neg c_64])
        have h := if_f c_58 h
        by_cases c_66 : tI S 20 (Int32.toNatClampNeg p1) = 10
        · have h := if_t c_66 h
          refine V_tableIn hG 259 dX7_valueOf_92 (by rw [c_66]; decide) (by rw [c_66]; decide) (by rw [c_66]; rfl) (by decide) ?_
          refine V_aload_n hG 2 rfl dX7_valueOf_259 ?_
          refine g7_72 hM hG dX7_valueOf_260 ?_
          refine V_iload_n hG 3 rfl dX7_valueOf_263 ?_
          obtain ⟨g_67, h⟩ := gd_of h
          refine T_iaload hM hG (by decide) g_67 dX7_valueOf_264 ?_
          refine V_lload_n hG 1 rfl dX7_valueOf_265 ?_
          refine V_lload hG 0 rfl dX7_valueOf_266 ?_
          obtain ⟨r_69, hc_68, h⟩ := bd_of h
          refine V_callS0 hE hG (As := [.int (tI S 20 (Int32.toNatClampNeg p1)), .long x2_7, .long x4_12]) (rest := []) (ok_tw_compares hE hM hc_68) hw7_363 hd_tw_compares ⟨Nat.le_of_ble_eq_true rfl, Nat.le_of_ble_eq_true rfl⟩ rfl rfl (Nat.le_of_ble_eq_true rfl) rfl rfl dX7_valueOf_268 ?_
          obtain ⟨t_70, et_70, h⟩ := be_of h
          have J_71 : ∀ y_73 : Int64, y_73 = t_70 → V E G (tw o S M0) 0 0 6 279 [(4, .long x4_12), (2, .long x2_7), (0, rf E o), (1, .int p1)] [.long y_73] Q := by
            intro y_73 ey
            subst ey
            cases h
            subst eQ
            exact V_lret hG dX7_valueOf_279
          refine V_if_eq hG 278 dX7_valueOf_271 (by decide) (fun c_72 => ?_) (fun c_72 => ?_)
          · refine V_lconst hG 0 rfl dX7_valueOf_278 ?_
            exact J_71 _ (by rw [et_70, if_pos c_72])
          · refine V_lconst hG 1 rfl dX7_valueOf_274 ?_
            refine V_goto hG 279 dX7_valueOf_275 (by decide) ?_
            exact J_71 _ (by rw [et_70, if_neg c_72])
        have h := if_f c_66 h
        by_cases c_74 : tI S 20 (Int32.toNatClampNeg p1) = 11
        · have h := if_t c_74 h
          refine V_tableIn hG 194 dX7_valueOf_92 (by rw [c_74]; decide) (by rw [c_74]; decide) (by rw [c_74]; rfl) (by decide) ?_
          refine V_aload_n hG 2 rfl dX7_valueOf_194 ?_
          refine V_lload_n hG 1 rfl dX7_valueOf_195 ?_
          refine V_lload hG 0 rfl dX7_valueOf_196 ?_
          refine V_ladd hG dX7_valueOf_198 ?_
          obtain ⟨r_77, S_76, hc_75, h⟩ := bd2_of h
          refine V_callV0 hE hG (As := [.long (x2_7 + x4_12)]) (rest := []) (ok_tw_bounded hE hM hc_75) hM.1 (by decide) rfl hw7_355 hd_tw_bounded ⟨Nat.le_of_ble_eq_true rfl, Nat.le_of_ble_eq_true rfl⟩ rfl rfl (Nat.le_of_ble_eq_true rfl) rfl rfl dX7_valueOf_199 ?_
          cases h
          subst eQ
          exact V_lret hG dX7_valueOf_202
        have h := if_f c_74 h
        by_cases c_78 : tI S 20 (Int32.toNatClampNeg p1) = 12
        · have h := if_t c_78 h
          refine V_tableIn hG 203 dX7_valueOf_92 (by rw [c_78]; decide) (by rw [c_78]; decide) (by rw [c_78]; rfl) (by decide) ?_
          refine V_aload_n hG 2 rfl dX7_valueOf_203 ?_
          refine V_lload_n hG 1 rfl dX7_valueOf_204 ?_
          refine V_lload hG 0 rfl dX7_valueOf_205 ?_
          refine V_lsub hG dX7_valueOf_207 ?_
          obtain ⟨r_81, S_80, hc_79, h⟩ := bd2_of h
          refine V_callV0 hE hG (As := [.long (x2_7 - x4_12)]) (rest := []) (ok_tw_bounded hE hM hc_79) hM.1 (by decide) rfl hw7_355 hd_tw_bounded ⟨Nat.le_of_ble_eq_true rfl, Nat.le_of_ble_eq_true rfl⟩ rfl rfl (Nat.le_of_ble_eq_true rfl) rfl rfl dX7_valueOf_208 ?_
          cases h
          subst eQ
          exact V_lret hG dX7_valueOf_211
        have h := if_f c_78 h
        by_cases c_82 : tI S 20 (Int32.toNatClampNeg p1) = 13
        · have h := if_t c_82 h
          refine V_tableIn hG 212 dX7_valueOf_92 (by rw [c_82]; decide) (by rw [c_82]; decide) (by rw [c_82]; rfl) (by decide) ?_
          refine V_aload_n hG 2 rfl dX7_valueOf_212 ?_
          refine V_lload_n hG 1 rfl dX7_valueOf_213 ?_
          refine V_lload hG 0 rfl dX7_valueOf_214 ?_
          obtain ⟨r_85, S_84, hc_83, h⟩ := bd2_of h
          refine V_callV0 hE hG (As := [.long x2_7, .long x4_12]) (rest := []) (ok_tw_times hE hM hc_83) hM.1 (by decide) rfl hw7_359 hd_tw_times ⟨Nat.le_of_ble_eq_true rfl, Nat.le_of_ble_eq_true rfl⟩ rfl rfl (Nat.le_of_ble_eq_true rfl) rfl rfl dX7_valueOf_216 ?_
          cases h
          subst eQ
          exact V_lret hG dX7_valueOf_219
        have h := if_f c_82 h
        by_cases c_86 : tI S 20 (Int32.toNatClampNeg p1) = 14
        · have h := if_t c_86 h
          refine V_tableIn hG 220 dX7_valueOf_92 (by rw [c_86]; decide) (by rw [c_86]; decide) (by rw [c_86]; rfl) (by decide) ?_
          refine V_aload_n hG 2 rfl dX7_valueOf_220 ?_
          refine V_aload_n hG 2 rfl dX7_valueOf_221 ?_
          refine g7_348 hM hG dX7_valueOf_222 ?_
          obtain ⟨t_87, et_87, h⟩ := be_of h
          have J_88 : ∀ y_91 : Int32, y_91 = t_87 → V E G (tw o S M0) 0 0 6 240 [(4, .long x4_12), (2, .long x2_7), (0, rf E o), (1, .int p1)] [.int y_91, rf E o] Q := by
            intro y_91 ey
            subst ey
            obtain ⟨g_93, h⟩ := gd_of h
            obtain ⟨S_92, eS_92, h⟩ := be_of h
            refine p7_348 hM hG eS_92 g_93 dX7_valueOf_240 ?_
            refine V_aload_n hG 2 rfl dX7_valueOf_243 ?_
            refine g7_348 hM hG dX7_valueOf_244 ?_
            obtain ⟨t_94, hj_96, h⟩ := bd_of h
            have J_95 : V E G (tw o S_92 M0) 0 0 6 258 [(4, .long x4_12), (2, .long x2_7), (0, rf E o), (1, .int p1)] [.long t_94] Q := by
              cases h
              subst eQ
              exact V_lret hG dX7_valueOf_258
            refine V_if_eq hG 254 dX7_valueOf_247 (by decide) (fun c_97 => ?_) (fun c_97 => ?_)
            · have hj_96 := if_t c_97 hj_96
              refine V_lload_n hG 1 rfl dX7_valueOf_254 ?_
              refine V_lload hG 0 rfl dX7_valueOf_255 ?_
              obtain ⟨g_98, hj_96⟩ := gd_of hj_96
              refine V_ldiv hG g_98 dX7_valueOf_257 ?_
              cases hj_96
              exact J_95
            · have hj_96 := if_f c_97 hj_96
              refine V_lconst hG 0 rfl dX7_valueOf_250 ?_
              refine V_goto hG 258 dX7_valueOf_251 (by decide) ?_
              cases hj_96
              exact J_95
          refine V_if_ne hG 235 dX7_valueOf_225 (by decide) (fun c_89 => ?_) (fun c_89 => ?_)
          · refine V_iconst hG 1 rfl dX7_valueOf_235 ?_
            refine V_goto hG 240 dX7_valueOf_236 (by decide) ?_
            exact J_88 _ (by rw [et_87, if_neg c_89])
          · refine V_lload hG 0 rfl dX7_valueOf_228 ?_
            refine V_lconst hG 0 rfl dX7_valueOf_230 ?_
            refine V_lcmp hG dX7_valueOf_231 ?_
            refine V_if_ne hG 239 dX7_valueOf_232 (by decide) (fun c_90 => ?_) (fun c_90 => ?_)
            · refine V_iconst hG 0 rfl dX7_valueOf_239 ?_
              exact J_88 _ (by rw [et_87, if_pos c_89, if_neg c_90])
            · refine V_iconst hG 1 rfl dX7_valueOf_235 ?_
              refine V_goto hG 240 dX7_valueOf_236 (by decide) ?_
              exact J_88 _ (by rw [et_87, if_pos c_89, if_pos c_90])
        have h := if_f c_86 h
        refine V_tableOut hG 259 dX7_valueOf_92 (by have := lv_neT c_14 (show Int32.toInt 3 = 3 from rfl); have := lv_neT c_20 (show Int32.toInt 4 = 4 from rfl); have := lv_neT c_26 (show Int32.toInt 5 = 5 from rfl); have := lv_neT c_34 (show Int32.toInt 6 = 6 from rfl); have := lv_neT c_42 (show Int32.toInt 7 = 7 from rfl); have := lv_neT c_50 (show Int32.toInt 8 = 8 from rfl); have := lv_neT c_58 (show Int32.toInt 9 = 9 from rfl); have := lv_neT c_66 (show Int32.toInt 10 = 10 from rfl); have := lv_neT c_74 (show Int32.toInt 11 = 11 from rfl); have := lv_neT c_78 (show Int32.toInt 12 = 12 from rfl); have := lv_neT c_82 (show Int32.toInt 13 = 13 from rfl); have := lv_neT c_86 (show Int32.toInt 14 = 14 from rfl); omega) (by decide) ?_
        refine V_aload_n hG 2 rfl dX7_valueOf_259 ?_
        refine g7_72 hM hG dX7_valueOf_260 ?_
        refine V_iload_n hG 3 rfl dX7_valueOf_263 ?_
        obtain ⟨g_99, h⟩ := gd_of h
        refine T_iaload hM hG (by decide) g_99 dX7_valueOf_264 ?_
        refine V_lload_n hG 1 rfl dX7_valueOf_265 ?_
        refine V_lload hG 0 rfl dX7_valueOf_266 ?_
        obtain ⟨r_101, hc_100, h⟩ := bd_of h
        refine V_callS0 hE hG (As := [.int (tI S 20 (Int32.toNatClampNeg p1)), .long x2_7, .long x4_12]) (rest := []) (ok_tw_compares hE hM hc_100) hw7_363 hd_tw_compares ⟨Nat.le_of_ble_eq_true rfl, Nat.le_of_ble_eq_true rfl⟩ rfl rfl (Nat.le_of_ble_eq_true rfl) rfl rfl dX7_valueOf_268 ?_
        obtain ⟨t_102, et_102, h⟩ := be_of h
        have J_103 : ∀ y_105 : Int64, y_105 = t_102 → V E G (tw o S M0) 0 0 6 279 [(4, .long x4_12), (2, .long x2_7), (0, rf E o), (1, .int p1)] [.long y_105] Q := by
          intro y_105 ey
          subst ey
          cases h
          subst eQ
          exact V_lret hG dX7_valueOf_279
        refine V_if_eq hG 278 dX7_valueOf_271 (by decide) (fun c_104 => ?_) (fun c_104 => ?_)
        · refine V_lconst hG 0 rfl dX7_valueOf_278 ?_
          exact J_103 _ (by rw [et_102, if_pos c_104])
        · refine V_lconst hG 1 rfl dX7_valueOf_274 ?_
          refine V_goto hG 279 dX7_valueOf_275 (by decide) ?_
          exact J_103 _ (by rw [et_102, if_neg c_104])
      · have h := if_t c_9 h
        refine V_lload_n hG 0 rfl dX7_valueOf_61 ?_
        refine V_lconst hG 0 rfl dX7_valueOf_62 ?_
        refine V_lcmp hG dX7_valueOf_63 ?_
        obtain ⟨t_106, et_106, h⟩ := be_of h
        have J_107 : ∀ y_109 : Int64, y_109 = t_106 → V E G (tw o S M0) 0 0 6 72 [(2, .long x2_7), (0, rf E o), (1, .int p1)] [.long y_109] Q := by
          intro y_109 ey
          subst ey
          cases h
          subst eQ
          exact V_lret hG dX7_valueOf_72
        refine V_if_ne hG 71 dX7_valueOf_64 (by decide) (fun c_108 => ?_) (fun c_108 => ?_)
        · refine V_lconst hG 0 rfl dX7_valueOf_71 ?_
          exact J_107 _ (by rw [et_106, if_neg c_108])
        · refine V_lconst hG 1 rfl dX7_valueOf_67 ?_
          refine V_goto hG 72 dX7_valueOf_68 (by decide) ?_
          exact J_107 _ (by rw [et_106, if_pos c_108])
    · have h := if_t c_4 h
      refine V_aload_n hG 0 rfl dX7_valueOf_27 ?_
      refine g7_87 hM hG dX7_valueOf_28 ?_
      refine V_aload_n hG 0 rfl dX7_valueOf_31 ?_
      refine g7_75 hM hG dX7_valueOf_32 ?_
      refine V_iload_n hG 1 rfl dX7_valueOf_35 ?_
      obtain ⟨g_110, h⟩ := gd_of h
      refine T_iaload hM hG (by decide) g_110 dX7_valueOf_36 ?_
      obtain ⟨g_111, h⟩ := gd_of h
      refine T_laload hM hG (by decide) g_111 dX7_valueOf_37 ?_
      cases h
      subst eQ
      exact V_lret hG dX7_valueOf_38
  · have h := if_t c_2 h
    refine V_aload_n hG 0 rfl dX7_valueOf_9 ?_
    refine g7_75 hM hG dX7_valueOf_10 ?_
    refine V_iload_n hG 1 rfl dX7_valueOf_13 ?_
    obtain ⟨g_112, h⟩ := gd_of h
    refine T_iaload hM hG (by decide) g_112 dX7_valueOf_14 ?_
    refine V_i2l hG dX7_valueOf_15 ?_
    cases h
    subst eQ
    exact V_lret hG dX7_valueOf_16

def tw_lawOf_b1 (N : Nat) (p1 : Int32) (x2_9 : Int32) (S_10 : TS) : Option ((Int32 × TS) ⊕ (Int32 × TS)) :=
gd (inb p1 (lenA 19)) (
if tI S_10 19 (Int32.toNatClampNeg p1) ≤ x2_9 then (
some (.inl (x2_9, S_10)))
else (
bd2 (tw_valueOf x2_9 S_10) fun r_26 S_25 =>
gd (inb x2_9 (lenA 26)) (
be (tsL S_25 26 (Int32.toNatClampNeg x2_9) r_26) fun S_28 =>
be (x2_9 + 1) fun (x2_29 : Int32) =>
some (.inr (x2_29, S_28)))))
def tw_lawOf (N : Nat) (p1 : Int32) (S : TS) : Option (Int64 × TS) :=
be (tsI S 0 53 0) fun S_1 =>
gd (inb p1 (lenA 18)) (
be (tI S_1 18 (Int32.toNatClampNeg p1)) fun (x2_3 : Int32) =>
bd2 (lp N (fun s_21 : Int32 × TS => tw_lawOf_b1 N p1 s_21.1 s_21.2) (x2_3, S_1)) fun (x2_11 : Int32) (S_12 : TS) =>
bd (if tI S_12 0 53 = 0 then (
gd (inb p1 (lenA 19)) (
gd (inb ((tI S_12 19 (Int32.toNatClampNeg p1)) - 1) (lenA 26)) (
some (tL S_12 26 (Int32.toNatClampNeg ((tI S_12 19 (Int32.toNatClampNeg p1)) - 1))))))
else (
some 0) : Option (Int64)) fun (t_15 : Int64) =>
some (t_15, S_12))
def rm_tw_lawOf : Room := { frames := 2, cells := 0, slots := 0, locals := 50 }
theorem ok_tw_lawOf {E : En} (hE : EOk E) {o : Nat} {M0 : Mem} (hM : TwS o M0) {N : Nat} {p1 : Int32} {S : TS} {r : Int64} {S' : TS} (h : tw_lawOf N p1 S = some (r, S')) : CM E yX7_lawOf cX7_lawOf 3 (some .long) rm_tw_lawOf [rf E o, .int p1] (tw o S M0) (some (.long r)) (tw o S' M0) := by
  unfold tw_lawOf at h
  refine CM_intro (own := RX7) rfl (by decide) (Nat.le_of_ble_eq_true rfl) rfl (fun G hG => ?_)
  obtain ⟨Q, eQ⟩ : ∃ Q, Q = QM E G (some (.long r)) (tw o S' M0) 0 0 := ⟨_, rfl⟩
  show V E G (tw o S M0) 0 0 3 0 [(0, rf E o), (1, .int p1)] [] (QM E G (some (.long r)) (tw o S' M0) 0 0)
  rw [← eQ]
  refine V_aload_n hG 0 rfl dX7_lawOf_0 ?_
  refine V_iconst hG 0 rfl dX7_lawOf_1 ?_
  obtain ⟨S_1, eS_1, h⟩ := be_of h
  refine p7_348 hM hG eS_1 (Or.inl rfl) dX7_lawOf_2 ?_
  refine V_aload_n hG 0 rfl dX7_lawOf_5 ?_
  refine g7_66 hM hG dX7_lawOf_6 ?_
  refine V_iload_n hG 1 rfl dX7_lawOf_9 ?_
  obtain ⟨g_2, h⟩ := gd_of h
  refine T_iaload hM hG (by decide) g_2 dX7_lawOf_10 ?_
  obtain ⟨x2_3, ex2_3, h⟩ := be_of h
  refine V_topi ex2_3 ?_
  refine V_istore_n hG rfl [(2, .int x2_3), (0, rf E o), (1, .int p1)] dX7_lawOf_11 (Nat.le_of_ble_eq_true rfl) rfl ?_
  obtain ⟨x2_11, S_12, hL_13, h⟩ := bd2_of h
  have J_8 : ∀ q_14 : Int32 × TS, q_14 = (x2_11, S_12) → V E G (tw o q_14.2 M0) 0 0 3 39 [(2, .int q_14.1), (0, rf E o), (1, .int p1)] [] Q := by
    intro q_14 e9
    subst q_14
    show V E G (tw o S_12 M0) 0 0 3 39 [(2, .int x2_11), (0, rf E o), (1, .int p1)] [] Q
    refine V_aload_n hG 1 rfl dX7_lawOf_39 ?_
    refine g7_348 hM hG dX7_lawOf_40 ?_
    obtain ⟨t_15, hj_17, h⟩ := bd_of h
    have J_16 : V E G (tw o S_12 M0) 0 0 3 63 [(2, .int x2_11), (0, rf E o), (1, .int p1)] [.long t_15] Q := by
      cases h
      subst eQ
      exact V_lret hG dX7_lawOf_63
    refine V_if_eq hG 50 dX7_lawOf_43 (by decide) (fun c_18 => ?_) (fun c_18 => ?_)
    · have hj_17 := if_t c_18 hj_17
      refine V_aload_n hG 1 rfl dX7_lawOf_50 ?_
      refine g7_91 hM hG dX7_lawOf_51 ?_
      refine V_aload_n hG 1 rfl dX7_lawOf_54 ?_
      refine g7_69 hM hG dX7_lawOf_55 ?_
      refine V_iload_n hG 2 rfl dX7_lawOf_58 ?_
      obtain ⟨g_19, hj_17⟩ := gd_of hj_17
      refine T_iaload hM hG (by decide) g_19 dX7_lawOf_59 ?_
      refine V_iconst hG 1 rfl dX7_lawOf_60 ?_
      refine V_isub hG dX7_lawOf_61 ?_
      obtain ⟨g_20, hj_17⟩ := gd_of hj_17
      refine T_laload hM hG (by decide) g_20 dX7_lawOf_62 ?_
      cases hj_17
      exact J_16
    · have hj_17 := if_f c_18 hj_17
      refine V_lconst hG 0 rfl dX7_lawOf_46 ?_
      refine V_goto hG 63 dX7_lawOf_47 (by decide) ?_
      cases hj_17
      exact J_16
  refine lp_walk (W := fun s_21 : Int32 × TS => V E G (tw o s_21.2 M0) 0 0 3 12 [(2, .int s_21.1), (0, rf E o), (1, .int p1)] [] Q) ?_ N (x2_3, S_1) hL_13
  intro s_21 b_4 hb_5 hk_6 hx_7
  obtain ⟨x2_9, S_10⟩ := s_21
  have hb_5 : tw_lawOf_b1 N p1 x2_9 S_10 = some b_4 := hb_5
  unfold tw_lawOf_b1 at hb_5
  show V E G (tw o S_10 M0) 0 0 3 12 [(2, .int x2_9), (0, rf E o), (1, .int p1)] [] Q
  refine V_iload_n hG 0 rfl dX7_lawOf_12 ?_
  refine V_aload_n hG 1 rfl dX7_lawOf_13 ?_
  refine g7_69 hM hG dX7_lawOf_14 ?_
  refine V_iload_n hG 2 rfl dX7_lawOf_17 ?_
  obtain ⟨g_22, hb_5⟩ := gd_of hb_5
  refine T_iaload hM hG (by decide) g_22 dX7_lawOf_18 ?_
  refine V_icmp_ge hG 39 dX7_lawOf_19 (by decide) (fun c_23 => ?_) (fun c_23 => ?_)
  · have hb_5 := if_t c_23 hb_5
    cases hb_5
    exact J_8 _ (hx_7 _ rfl)
  · have hb_5 := if_f c_23 hb_5
    refine V_aload_n hG 1 rfl dX7_lawOf_22 ?_
    refine g7_91 hM hG dX7_lawOf_23 ?_
    refine V_iload_n hG 0 rfl dX7_lawOf_26 ?_
    refine V_aload_n hG 1 rfl dX7_lawOf_27 ?_
    refine V_iload_n hG 0 rfl dX7_lawOf_28 ?_
    obtain ⟨r_26, S_25, hc_24, hb_5⟩ := bd2_of hb_5
    refine V_callV0 hE hG (As := [.int x2_9]) (rest := [.int x2_9, rf E ((o + 26))]) (ok_tw_valueOf hE hM hc_24) hM.1 (by decide) rfl hw7_410 hd_tw_valueOf ⟨Nat.le_of_ble_eq_true rfl, Nat.le_of_ble_eq_true rfl⟩ rfl rfl (Nat.le_of_ble_eq_true rfl) rfl rfl dX7_lawOf_29 ?_
    obtain ⟨g_27, hb_5⟩ := gd_of hb_5
    obtain ⟨S_28, eS_28, hb_5⟩ := be_of hb_5
    refine T_lastore hM hG eS_28 (by decide) g_27 dX7_lawOf_32 ?_
    obtain ⟨x2_29, ex2_29, hb_5⟩ := be_of hb_5
    refine V_iinc hG 0 x2_29 rfl (by rw [ex2_29]; rfl) [(2, .int x2_29), (0, rf E o), (1, .int p1)] dX7_lawOf_33 (Nat.le_of_ble_eq_true rfl) rfl ?_
    refine V_goto hG 12 dX7_lawOf_36 (by decide) ?_
    cases hb_5
    exact hk_6 _ rfl

def tw_sizeOf (p0 : Int32) (S : TS) : Option (Int32) :=
be (if 0 ≤ p0 then (
p0)
else (
-p0) : Int32) fun (y_4 : Int32) =>
some y_4
def rm_tw_sizeOf : Room := { frames := 0, cells := 0, slots := 0, locals := 0 }
theorem ok_tw_sizeOf {E : En} (hE : EOk E) {o : Nat} {M0 : Mem} (hM : TwS o M0) {p0 : Int32} {S : TS} {r : Int32} (h : tw_sizeOf p0 S = some r) : CM E yX7_sizeOf cX7_sizeOf 1 (some .int) rm_tw_sizeOf [.int p0] (tw o S M0) (some (.int r)) (tw o S M0) := by
  unfold tw_sizeOf at h
  refine CM_intro (own := RX7) rfl (by decide) (Nat.le_of_ble_eq_true rfl) rfl (fun G hG => ?_)
  obtain ⟨Q, eQ⟩ : ∃ Q, Q = QM E G (some (.int r)) (tw o S M0) 0 0 := ⟨_, rfl⟩
  show V E G (tw o S M0) 0 0 1 0 [(0, .int p0)] [] (QM E G (some (.int r)) (tw o S M0) 0 0)
  rw [← eQ]
  refine V_iload_n hG 0 rfl dX7_sizeOf_0 ?_
  obtain ⟨t_1, et_1, h⟩ := be_of h
  have J_2 : ∀ y_4 : Int32, y_4 = t_1 → V E G (tw o S M0) 0 0 1 10 [(0, .int p0)] [.int y_4] Q := by
    intro y_4 ey
    subst ey
    cases h
    subst eQ
    exact V_iret hG dX7_sizeOf_10
  refine V_if_ge hG 9 dX7_sizeOf_1 (by decide) (fun c_3 => ?_) (fun c_3 => ?_)
  · refine V_iload_n hG 0 rfl dX7_sizeOf_9 ?_
    exact J_2 _ (by rw [et_1, if_pos c_3])
  · refine V_iload_n hG 0 rfl dX7_sizeOf_4 ?_
    refine V_ineg hG dX7_sizeOf_5 ?_
    refine V_goto hG 10 dX7_sizeOf_6 (by decide) ?_
    exact J_2 _ (by rw [et_1, if_neg c_3])

def tw_farOf (p1 : Int32) (p2 : Int32) (S : TS) : Option (Int32) :=
gd (inb ((6 * p1) + p2) (lenA 29)) (
bd (if 0 ≤ tI S 29 (Int32.toNatClampNeg ((6 * p1) + p2)) then (
gd (inb ((6 * p1) + p2) (lenA 29)) (
gd (inb (tI S 29 (Int32.toNatClampNeg ((6 * p1) + p2))) (lenA 6)) (
gd (inb ((6 * p1) + p2) (lenA 27)) (
bd (tw_sizeOf ((tI S 6 (Int32.toNatClampNeg (tI S 29 (Int32.toNatClampNeg ((6 * p1) + p2))))) - (tI S 27 (Int32.toNatClampNeg ((6 * p1) + p2)))) S) fun r_10 =>
some r_10))))
else (
some 0) : Option (Int32)) fun (t_2 : Int32) =>
some t_2)
def rm_tw_farOf : Room := { frames := 1, cells := 0, slots := 0, locals := 20 }
theorem ok_tw_farOf {E : En} (hE : EOk E) {o : Nat} {M0 : Mem} (hM : TwS o M0) {p1 : Int32} {p2 : Int32} {S : TS} {r : Int32} (h : tw_farOf p1 p2 S = some r) : CM E yX7_farOf cX7_farOf 3 (some .int) rm_tw_farOf [rf E o, .int p1, .int p2] (tw o S M0) (some (.int r)) (tw o S M0) := by
  unfold tw_farOf at h
  refine CM_intro (own := RX7) rfl (by decide) (Nat.le_of_ble_eq_true rfl) rfl (fun G hG => ?_)
  obtain ⟨Q, eQ⟩ : ∃ Q, Q = QM E G (some (.int r)) (tw o S M0) 0 0 := ⟨_, rfl⟩
  show V E G (tw o S M0) 0 0 3 0 [(0, rf E o), (1, .int p1), (2, .int p2)] [] (QM E G (some (.int r)) (tw o S M0) 0 0)
  rw [← eQ]
  refine V_aload_n hG 0 rfl dX7_farOf_0 ?_
  refine g7_100 hM hG dX7_farOf_1 ?_
  refine V_bipush hG 6 (by decide) dX7_farOf_4 ?_
  refine V_iload_n hG 1 rfl dX7_farOf_6 ?_
  refine V_imul hG dX7_farOf_7 ?_
  refine V_iload_n hG 2 rfl dX7_farOf_8 ?_
  refine V_iadd hG dX7_farOf_9 ?_
  obtain ⟨g_1, h⟩ := gd_of h
  refine T_iaload hM hG (by decide) g_1 dX7_farOf_10 ?_
  obtain ⟨t_2, hj_4, h⟩ := bd_of h
  have J_3 : V E G (tw o S M0) 0 0 3 49 [(0, rf E o), (1, .int p1), (2, .int p2)] [.int t_2] Q := by
    cases h
    subst eQ
    exact V_iret hG dX7_farOf_49
  refine V_if_ge hG 18 dX7_farOf_11 (by decide) (fun c_5 => ?_) (fun c_5 => ?_)
  · have hj_4 := if_t c_5 hj_4
    refine V_aload_n hG 0 rfl dX7_farOf_18 ?_
    refine g7_30 hM hG dX7_farOf_19 ?_
    refine V_aload_n hG 0 rfl dX7_farOf_22 ?_
    refine g7_100 hM hG dX7_farOf_23 ?_
    refine V_bipush hG 6 (by decide) dX7_farOf_26 ?_
    refine V_iload_n hG 1 rfl dX7_farOf_28 ?_
    refine V_imul hG dX7_farOf_29 ?_
    refine V_iload_n hG 2 rfl dX7_farOf_30 ?_
    refine V_iadd hG dX7_farOf_31 ?_
    obtain ⟨g_6, hj_4⟩ := gd_of hj_4
    refine T_iaload hM hG (by decide) g_6 dX7_farOf_32 ?_
    obtain ⟨g_7, hj_4⟩ := gd_of hj_4
    refine T_iaload hM hG (by decide) g_7 dX7_farOf_33 ?_
    refine V_aload_n hG 0 rfl dX7_farOf_34 ?_
    refine g7_94 hM hG dX7_farOf_35 ?_
    refine V_bipush hG 6 (by decide) dX7_farOf_38 ?_
    refine V_iload_n hG 1 rfl dX7_farOf_40 ?_
    refine V_imul hG dX7_farOf_41 ?_
    refine V_iload_n hG 2 rfl dX7_farOf_42 ?_
    refine V_iadd hG dX7_farOf_43 ?_
    obtain ⟨g_8, hj_4⟩ := gd_of hj_4
    refine T_iaload hM hG (by decide) g_8 dX7_farOf_44 ?_
    refine V_isub hG dX7_farOf_45 ?_
    obtain ⟨r_10, hc_9, hj_4⟩ := bd_of hj_4
    refine V_callS0 hE hG (As := [.int ((tI S 6 (Int32.toNatClampNeg (tI S 29 (Int32.toNatClampNeg ((6 * p1) + p2))))) - (tI S 27 (Int32.toNatClampNeg ((6 * p1) + p2))))]) (rest := []) (ok_tw_sizeOf hE hM hc_9) hw7_398 hd_tw_sizeOf ⟨Nat.le_of_ble_eq_true rfl, Nat.le_of_ble_eq_true rfl⟩ rfl rfl (Nat.le_of_ble_eq_true rfl) rfl rfl dX7_farOf_46 ?_
    cases hj_4
    exact J_3
  · have hj_4 := if_f c_5 hj_4
    refine V_iconst hG 0 rfl dX7_farOf_14 ?_
    refine V_goto hG 49 dX7_farOf_15 (by decide) ?_
    cases hj_4
    exact J_3

def tw_paceOf (p1 : Int32) (S : TS) : Option (Int32) :=
bd (if tI S 0 72 = 0 then (
gd (inb p1 (lenA 13)) (
some (tI S 13 (Int32.toNatClampNeg p1))))
else (
gd (inb p1 (lenA 13)) (
some (2 * (tI S 13 (Int32.toNatClampNeg p1))))) : Option (Int32)) fun (t_1 : Int32) =>
some t_1
def rm_tw_paceOf : Room := { frames := 0, cells := 0, slots := 0, locals := 0 }
theorem ok_tw_paceOf {E : En} (hE : EOk E) {o : Nat} {M0 : Mem} (hM : TwS o M0) {p1 : Int32} {S : TS} {r : Int32} (h : tw_paceOf p1 S = some r) : CM E yX7_paceOf cX7_paceOf 2 (some .int) rm_tw_paceOf [rf E o, .int p1] (tw o S M0) (some (.int r)) (tw o S M0) := by
  unfold tw_paceOf at h
  refine CM_intro (own := RX7) rfl (by decide) (Nat.le_of_ble_eq_true rfl) rfl (fun G hG => ?_)
  obtain ⟨Q, eQ⟩ : ∃ Q, Q = QM E G (some (.int r)) (tw o S M0) 0 0 := ⟨_, rfl⟩
  show V E G (tw o S M0) 0 0 2 0 [(0, rf E o), (1, .int p1)] [] (QM E G (some (.int r)) (tw o S M0) 0 0)
  rw [← eQ]
  refine V_aload_n hG 0 rfl dX7_paceOf_0 ?_
  refine g7_395 hM hG dX7_paceOf_1 ?_
  obtain ⟨t_1, hj_3, h⟩ := bd_of h
  have J_2 : V E G (tw o S M0) 0 0 2 24 [(0, rf E o), (1, .int p1)] [.int t_1] Q := by
    cases h
    subst eQ
    exact V_iret hG dX7_paceOf_24
  refine V_if_eq hG 18 dX7_paceOf_4 (by decide) (fun c_4 => ?_) (fun c_4 => ?_)
  · have hj_3 := if_t c_4 hj_3
    refine V_aload_n hG 0 rfl dX7_paceOf_18 ?_
    refine g7_51 hM hG dX7_paceOf_19 ?_
    refine V_iload_n hG 1 rfl dX7_paceOf_22 ?_
    obtain ⟨g_5, hj_3⟩ := gd_of hj_3
    refine T_iaload hM hG (by decide) g_5 dX7_paceOf_23 ?_
    cases hj_3
    exact J_2
  · have hj_3 := if_f c_4 hj_3
    refine V_iconst hG 2 rfl dX7_paceOf_7 ?_
    refine V_aload_n hG 0 rfl dX7_paceOf_8 ?_
    refine g7_51 hM hG dX7_paceOf_9 ?_
    refine V_iload_n hG 1 rfl dX7_paceOf_12 ?_
    obtain ⟨g_6, hj_3⟩ := gd_of hj_3
    refine T_iaload hM hG (by decide) g_6 dX7_paceOf_13 ?_
    refine V_imul hG dX7_paceOf_14 ?_
    refine V_goto hG 24 dX7_paceOf_15 (by decide) ?_
    cases hj_3
    exact J_2

def tw_find_b1 (N : Nat) (p0 : Nat) (p1 : Int32) (p2 : Int32) (p3 : Int32) (S : TS) (x4_6 : Int32) : Option (((Int32) ⊕ (Int32)) ⊕ (Int32)) :=
if p2 ≤ x4_6 then (
some (.inl (.inl x4_6)))
else (
gd (tyA p0 = 0) (
gd (inb (p1 + x4_6) (lenA p0)) (
if tI S p0 (Int32.toNatClampNeg (p1 + x4_6)) = p3 then (
some (.inl (.inr x4_6)))
else (
be (x4_6 + 1) fun (x4_18 : Int32) =>
some (.inr x4_18)))))
def tw_find (N : Nat) (p0 : Nat) (p1 : Int32) (p2 : Int32) (p3 : Int32) (S : TS) : Option (Int32) :=
bx (lp N (fun s_13 : Int32 => tw_find_b1 N p0 p1 p2 p3 S s_13) 0) (fun (x4_8 : Int32) =>
some (-1)) (fun (w_21 : Int32) => some w_21)
def rm_tw_find : Room := { frames := 0, cells := 0, slots := 0, locals := 0 }
theorem ok_tw_find {E : En} (hE : EOk E) {o : Nat} {M0 : Mem} (hM : TwS o M0) {N : Nat} {p0 : Nat} {p1 : Int32} {p2 : Int32} {p3 : Int32} {S : TS} {r : Int32} (h : tw_find N p0 p1 p2 p3 S = some r) : CM E yX7_find cX7_find 5 (some .int) rm_tw_find [rf E ((o + p0)), .int p1, .int p2, .int p3] (tw o S M0) (some (.int r)) (tw o S M0) := by
  unfold tw_find at h
  refine CM_intro (own := RX7) rfl (by decide) (Nat.le_of_ble_eq_true rfl) rfl (fun G hG => ?_)
  obtain ⟨Q, eQ⟩ : ∃ Q, Q = QM E G (some (.int r)) (tw o S M0) 0 0 := ⟨_, rfl⟩
  show V E G (tw o S M0) 0 0 5 0 [(0, rf E ((o + p0))), (1, .int p1), (2, .int p2), (3, .int p3)] [] (QM E G (some (.int r)) (tw o S M0) 0 0)
  rw [← eQ]
  refine V_iconst hG 0 rfl dX7_find_0 ?_
  refine V_istore hG [(4, .int 0), (0, rf E ((o + p0))), (1, .int p1), (2, .int p2), (3, .int p3)] dX7_find_1 (Nat.le_of_ble_eq_true rfl) rfl ?_
  obtain ⟨rr_10, hL_9, hl_11, hr_7⟩ := bx_of h
  have J_5 : ∀ q_12 : Int32, Sum.inl q_12 = rr_10 → V E G (tw o S M0) 0 0 5 28 [(4, .int q_12), (0, rf E ((o + p0))), (1, .int p1), (2, .int p2), (3, .int p3)] [] Q := by
    intro q_12 e9
    obtain ⟨x4_8, rfl⟩ : ∃ z, z = q_12 := ⟨_, rfl⟩
    have h := hl_11 x4_8 e9.symm
    show V E G (tw o S M0) 0 0 5 28 [(4, .int x4_8), (0, rf E ((o + p0))), (1, .int p1), (2, .int p2), (3, .int p3)] [] Q
    refine V_iconst hG (-1) rfl dX7_find_28 ?_
    cases h
    subst eQ
    exact V_iret hG dX7_find_29
  refine lp_walk (W := fun s_13 : Int32 => V E G (tw o S M0) 0 0 5 3 [(4, .int s_13), (0, rf E ((o + p0))), (1, .int p1), (2, .int p2), (3, .int p3)] [] Q) ?_ N 0 hL_9
  intro s_13 b_1 hb_2 hk_3 hx_4
  obtain ⟨x4_6, rfl⟩ : ∃ z, z = s_13 := ⟨_, rfl⟩
  have hb_2 : tw_find_b1 N p0 p1 p2 p3 S x4_6 = some b_1 := hb_2
  unfold tw_find_b1 at hb_2
  show V E G (tw o S M0) 0 0 5 3 [(4, .int x4_6), (0, rf E ((o + p0))), (1, .int p1), (2, .int p2), (3, .int p3)] [] Q
  refine V_iload hG 0 rfl dX7_find_3 ?_
  refine V_iload_n hG 3 rfl dX7_find_5 ?_
  refine V_icmp_ge hG 28 dX7_find_6 (by decide) (fun c_14 => ?_) (fun c_14 => ?_)
  · have hb_2 := if_t c_14 hb_2
    cases hb_2
    exact J_5 _ (hx_4 _ rfl)
  · have hb_2 := if_f c_14 hb_2
    refine V_aload_n hG 1 rfl dX7_find_9 ?_
    refine V_iload_n hG 2 rfl dX7_find_10 ?_
    refine V_iload hG 0 rfl dX7_find_11 ?_
    refine V_iadd hG dX7_find_13 ?_
    obtain ⟨g_15, hb_2⟩ := gd_of hb_2
    obtain ⟨g_16, hb_2⟩ := gd_of hb_2
    refine T_iaload hM hG g_15 g_16 dX7_find_14 ?_
    refine V_iload_n hG 4 rfl dX7_find_15 ?_
    refine V_icmp_ne hG 22 dX7_find_16 (by decide) (fun c_17 => ?_) (fun c_17 => ?_)
    · have hb_2 := if_f c_17 hb_2
      obtain ⟨x4_18, ex4_18, hb_2⟩ := be_of hb_2
      refine V_iinc hG 0 x4_18 rfl (by rw [ex4_18]; rfl) [(4, .int x4_18), (0, rf E ((o + p0))), (1, .int p1), (2, .int p2), (3, .int p3)] dX7_find_22 (Nat.le_of_ble_eq_true rfl) rfl ?_
      refine V_goto hG 3 dX7_find_25 (by decide) ?_
      cases hb_2
      exact hk_3 _ rfl
    · have hb_2 := if_t c_17 hb_2
      refine V_iload hG 0 rfl dX7_find_19 ?_
      cases hb_2
      have e_19 := hx_4 _ rfl
      have h_20 : some x4_6 = some r := hr_7 _ e_19.symm
      cases h_20
      subst eQ
      exact V_iret hG dX7_find_21

def tw_troughAt (N : Nat) (p1 : Int32) (S : TS) : Option (Int32) :=
bd (tw_find N 6 0 (tI S 0 12) p1 S) fun r_2 =>
some r_2
def rm_tw_troughAt : Room := { frames := 1, cells := 0, slots := 0, locals := 24 }
theorem ok_tw_troughAt {E : En} (hE : EOk E) {o : Nat} {M0 : Mem} (hM : TwS o M0) {N : Nat} {p1 : Int32} {S : TS} {r : Int32} (h : tw_troughAt N p1 S = some r) : CM E yX7_troughAt cX7_troughAt 2 (some .int) rm_tw_troughAt [rf E o, .int p1] (tw o S M0) (some (.int r)) (tw o S M0) := by
  unfold tw_troughAt at h
  refine CM_intro (own := RX7) rfl (by decide) (Nat.le_of_ble_eq_true rfl) rfl (fun G hG => ?_)
  obtain ⟨Q, eQ⟩ : ∃ Q, Q = QM E G (some (.int r)) (tw o S M0) 0 0 := ⟨_, rfl⟩
  show V E G (tw o S M0) 0 0 2 0 [(0, rf E o), (1, .int p1)] [] (QM E G (some (.int r)) (tw o S M0) 0 0)
  rw [← eQ]
  refine V_aload_n hG 0 rfl dX7_troughAt_0 ?_
  refine g7_30 hM hG dX7_troughAt_1 ?_
  refine V_iconst hG 0 rfl dX7_troughAt_4 ?_
  refine V_aload_n hG 0 rfl dX7_troughAt_5 ?_
  refine g7_243 hM hG dX7_troughAt_6 ?_
  refine V_iload_n hG 1 rfl dX7_troughAt_9 ?_
  obtain ⟨r_2, hc_1, h⟩ := bd_of h
  refine V_callS0 hE hG (As := [rf E ((o + 6)), .int 0, .int (tI S 0 12), .int p1]) (rest := []) (ok_tw_find hE hM hc_1) hw7_265 hd_tw_find ⟨Nat.le_of_ble_eq_true rfl, Nat.le_of_ble_eq_true rfl⟩ rfl rfl (Nat.le_of_ble_eq_true rfl) rfl rfl dX7_troughAt_10 ?_
  cases h
  subst eQ
  exact V_iret hG dX7_troughAt_13

def tw_layNames (N : Nat) (p1 : Int32) (p2 : Int32) (S : TS) : Option (TS) :=
be ((6 * p1) + p2) fun (x3_1 : Int32) =>
gd (inb x3_1 (lenA 27)) (
bd (tw_troughAt N (tI S 27 (Int32.toNatClampNeg x3_1)) S) fun r_4 =>
gd (inb x3_1 (lenA 28)) (
be (tsL S 25 (Int32.toNatClampNeg 0) (Int32.toInt64 (tI S 28 (Int32.toNatClampNeg x3_1)))) fun S_6 =>
bd (tw_paceOf p2 S_6) fun r_8 =>
be (tsL S_6 25 (Int32.toNatClampNeg 1) (Int32.toInt64 r_8)) fun S_9 =>
gd (inb p2 (lenA 10)) (
be (tsL S_9 25 (Int32.toNatClampNeg 2) (Int32.toInt64 (tI S_9 10 (Int32.toNatClampNeg p2)))) fun S_11 =>
bd (if 0 ≤ r_4 then (
gd (inb ((6 * p1) + r_4) (lenA 33)) (
some (Int32.toInt64 (tI S_11 33 (Int32.toNatClampNeg ((6 * p1) + r_4))))))
else (
some 0) : Option (Int64)) fun (t_12 : Int64) =>
be (tsL S_11 25 (Int32.toNatClampNeg 3) t_12) fun S_15 =>
bd (tw_farOf p1 p2 S_15) fun r_17 =>
be (tsL S_15 25 (Int32.toNatClampNeg 4) (Int32.toInt64 r_17)) fun S_18 =>
gd (inb x3_1 (lenA 30)) (
be (tsL S_18 25 (Int32.toNatClampNeg 5) (Int32.toInt64 (tI S_18 30 (Int32.toNatClampNeg x3_1)))) fun S_20 =>
gd (inb p1 (lenA 37)) (
be (tsL S_20 25 (Int32.toNatClampNeg 6) (Int32.toInt64 (tI S_20 37 (Int32.toNatClampNeg p1)))) fun S_22 =>
some S_22)))))
def rm_tw_layNames : Room := { frames := 2, cells := 0, slots := 0, locals := 45 }
theorem ok_tw_layNames {E : En} (hE : EOk E) {o : Nat} {M0 : Mem} (hM : TwS o M0) {N : Nat} {p1 : Int32} {p2 : Int32} {S : TS}  {S' : TS} (h : tw_layNames N p1 p2 S = some S') : CM E yX7_layNames cX7_layNames 5 none rm_tw_layNames [rf E o, .int p1, .int p2] (tw o S M0) none (tw o S' M0) := by
  unfold tw_layNames at h
  refine CM_intro (own := RX7) rfl (by decide) (Nat.le_of_ble_eq_true rfl) rfl (fun G hG => ?_)
  obtain ⟨Q, eQ⟩ : ∃ Q, Q = QM E G none (tw o S' M0) 0 0 := ⟨_, rfl⟩
  show V E G (tw o S M0) 0 0 5 0 [(0, rf E o), (1, .int p1), (2, .int p2)] [] (QM E G none (tw o S' M0) 0 0)
  rw [← eQ]
  refine V_bipush hG 6 (by decide) dX7_layNames_0 ?_
  refine V_iload_n hG 1 rfl dX7_layNames_2 ?_
  refine V_imul hG dX7_layNames_3 ?_
  refine V_iload_n hG 2 rfl dX7_layNames_4 ?_
  refine V_iadd hG dX7_layNames_5 ?_
  obtain ⟨x3_1, ex3_1, h⟩ := be_of h
  refine V_topi ex3_1 ?_
  refine V_istore_n hG rfl [(3, .int x3_1), (0, rf E o), (1, .int p1), (2, .int p2)] dX7_layNames_6 (Nat.le_of_ble_eq_true rfl) rfl ?_
  refine V_aload_n hG 1 rfl dX7_layNames_7 ?_
  refine V_aload_n hG 1 rfl dX7_layNames_8 ?_
  refine g7_94 hM hG dX7_layNames_9 ?_
  refine V_iload_n hG 0 rfl dX7_layNames_12 ?_
  obtain ⟨g_2, h⟩ := gd_of h
  refine T_iaload hM hG (by decide) g_2 dX7_layNames_13 ?_
  obtain ⟨r_4, hc_3, h⟩ := bd_of h
  refine V_callV0 hE hG (As := [.int (tI S 27 (Int32.toNatClampNeg x3_1))]) (rest := []) (ok_tw_troughAt hE hM hc_3) hM.1 (by decide) rfl hw7_401 hd_tw_troughAt ⟨Nat.le_of_ble_eq_true rfl, Nat.le_of_ble_eq_true rfl⟩ rfl rfl (Nat.le_of_ble_eq_true rfl) rfl rfl dX7_layNames_14 ?_
  refine V_istore hG [(4, .int r_4), (3, .int x3_1), (0, rf E o), (1, .int p1), (2, .int p2)] dX7_layNames_17 (Nat.le_of_ble_eq_true rfl) rfl ?_
  refine V_aload_n hG 2 rfl dX7_layNames_19 ?_
  refine g7_87 hM hG dX7_layNames_20 ?_
  refine V_iconst hG 0 rfl dX7_layNames_23 ?_
  refine V_aload_n hG 2 rfl dX7_layNames_24 ?_
  refine g7_97 hM hG dX7_layNames_25 ?_
  refine V_iload_n hG 1 rfl dX7_layNames_28 ?_
  obtain ⟨g_5, h⟩ := gd_of h
  refine T_iaload hM hG (by decide) g_5 dX7_layNames_29 ?_
  refine V_i2l hG dX7_layNames_30 ?_
  obtain ⟨S_6, eS_6, h⟩ := be_of h
  refine T_lastore hM hG eS_6 (by decide) (by decide) dX7_layNames_31 ?_
  refine V_aload_n hG 2 rfl dX7_layNames_32 ?_
  refine g7_87 hM hG dX7_layNames_33 ?_
  refine V_iconst hG 1 rfl dX7_layNames_36 ?_
  refine V_aload_n hG 2 rfl dX7_layNames_37 ?_
  refine V_iload_n hG 4 rfl dX7_layNames_38 ?_
  obtain ⟨r_8, hc_7, h⟩ := bd_of h
  refine V_callV0 hE hG (As := [.int p2]) (rest := [.int 1, rf E ((o + 25))]) (ok_tw_paceOf hE hM hc_7) hM.1 (by decide) rfl hw7_404 hd_tw_paceOf ⟨Nat.le_of_ble_eq_true rfl, Nat.le_of_ble_eq_true rfl⟩ rfl rfl (Nat.le_of_ble_eq_true rfl) rfl rfl dX7_layNames_39 ?_
  refine V_i2l hG dX7_layNames_42 ?_
  obtain ⟨S_9, eS_9, h⟩ := be_of h
  refine T_lastore hM hG eS_9 (by decide) (by decide) dX7_layNames_43 ?_
  refine V_aload_n hG 2 rfl dX7_layNames_44 ?_
  refine g7_87 hM hG dX7_layNames_45 ?_
  refine V_iconst hG 2 rfl dX7_layNames_48 ?_
  refine V_aload_n hG 2 rfl dX7_layNames_49 ?_
  refine g7_42 hM hG dX7_layNames_50 ?_
  refine V_iload_n hG 4 rfl dX7_layNames_53 ?_
  obtain ⟨g_10, h⟩ := gd_of h
  refine T_iaload hM hG (by decide) g_10 dX7_layNames_54 ?_
  refine V_i2l hG dX7_layNames_55 ?_
  obtain ⟨S_11, eS_11, h⟩ := be_of h
  refine T_lastore hM hG eS_11 (by decide) (by decide) dX7_layNames_56 ?_
  refine V_aload_n hG 2 rfl dX7_layNames_57 ?_
  refine g7_87 hM hG dX7_layNames_58 ?_
  refine V_iconst hG 3 rfl dX7_layNames_61 ?_
  refine V_iload hG 0 rfl dX7_layNames_62 ?_
  obtain ⟨t_12, hj_14, h⟩ := bd_of h
  have J_13 : V E G (tw o S_11 M0) 0 0 5 84 [(4, .int r_4), (3, .int x3_1), (0, rf E o), (1, .int p1), (2, .int p2)] [.long t_12, .int 3, rf E ((o + 25))] Q := by
    obtain ⟨S_15, eS_15, h⟩ := be_of h
    refine T_lastore hM hG eS_15 (by decide) (by decide) dX7_layNames_84 ?_
    refine V_aload_n hG 2 rfl dX7_layNames_85 ?_
    refine g7_87 hM hG dX7_layNames_86 ?_
    refine V_iconst hG 4 rfl dX7_layNames_89 ?_
    refine V_aload_n hG 2 rfl dX7_layNames_90 ?_
    refine V_iload_n hG 3 rfl dX7_layNames_91 ?_
    refine V_iload_n hG 4 rfl dX7_layNames_92 ?_
    obtain ⟨r_17, hc_16, h⟩ := bd_of h
    refine V_callV0 hE hG (As := [.int p1, .int p2]) (rest := [.int 4, rf E ((o + 25))]) (ok_tw_farOf hE hM hc_16) hM.1 (by decide) rfl hw7_407 hd_tw_farOf ⟨Nat.le_of_ble_eq_true rfl, Nat.le_of_ble_eq_true rfl⟩ rfl rfl (Nat.le_of_ble_eq_true rfl) rfl rfl dX7_layNames_93 ?_
    refine V_i2l hG dX7_layNames_96 ?_
    obtain ⟨S_18, eS_18, h⟩ := be_of h
    refine T_lastore hM hG eS_18 (by decide) (by decide) dX7_layNames_97 ?_
    refine V_aload_n hG 2 rfl dX7_layNames_98 ?_
    refine g7_87 hM hG dX7_layNames_99 ?_
    refine V_iconst hG 5 rfl dX7_layNames_102 ?_
    refine V_aload_n hG 2 rfl dX7_layNames_103 ?_
    refine g7_103 hM hG dX7_layNames_104 ?_
    refine V_iload_n hG 1 rfl dX7_layNames_107 ?_
    obtain ⟨g_19, h⟩ := gd_of h
    refine T_iaload hM hG (by decide) g_19 dX7_layNames_108 ?_
    refine V_i2l hG dX7_layNames_109 ?_
    obtain ⟨S_20, eS_20, h⟩ := be_of h
    refine T_lastore hM hG eS_20 (by decide) (by decide) dX7_layNames_110 ?_
    refine V_aload_n hG 2 rfl dX7_layNames_111 ?_
    refine g7_87 hM hG dX7_layNames_112 ?_
    refine V_bipush hG 6 (by decide) dX7_layNames_115 ?_
    refine V_aload_n hG 2 rfl dX7_layNames_117 ?_
    refine g7_124 hM hG dX7_layNames_118 ?_
    refine V_iload_n hG 3 rfl dX7_layNames_121 ?_
    obtain ⟨g_21, h⟩ := gd_of h
    refine T_iaload hM hG (by decide) g_21 dX7_layNames_122 ?_
    refine V_i2l hG dX7_layNames_123 ?_
    obtain ⟨S_22, eS_22, h⟩ := be_of h
    refine T_lastore hM hG eS_22 (by decide) (by decide) dX7_layNames_124 ?_
    cases h
    subst eQ
    exact V_vret hG dX7_layNames_125
  refine V_if_ge hG 71 dX7_layNames_64 (by decide) (fun c_23 => ?_) (fun c_23 => ?_)
  · have hj_14 := if_t c_23 hj_14
    refine V_aload_n hG 2 rfl dX7_layNames_71 ?_
    refine g7_112 hM hG dX7_layNames_72 ?_
    refine V_bipush hG 6 (by decide) dX7_layNames_75 ?_
    refine V_iload_n hG 3 rfl dX7_layNames_77 ?_
    refine V_imul hG dX7_layNames_78 ?_
    refine V_iload hG 0 rfl dX7_layNames_79 ?_
    refine V_iadd hG dX7_layNames_81 ?_
    obtain ⟨g_24, hj_14⟩ := gd_of hj_14
    refine T_iaload hM hG (by decide) g_24 dX7_layNames_82 ?_
    refine V_i2l hG dX7_layNames_83 ?_
    cases hj_14
    exact J_13
  · have hj_14 := if_f c_23 hj_14
    refine V_lconst hG 0 rfl dX7_layNames_67 ?_
    refine V_goto hG 84 dX7_layNames_68 (by decide) ?_
    cases hj_14
    exact J_13

def tw_boundLaw (N : Nat) (p1 : Int32) (p2 : Int32) (p3 : Int32) (p4 : Int32) (S : TS) : Option (Int32 × TS) :=
gd (inb p2 (lenA 17)) (
if tI S 17 (Int32.toNatClampNeg p2) = 0 then (
some (p4, S))
else (
bd (tw_layNames N p1 p3 S) fun S_4 =>
bd2 (tw_lawOf N p2 S_4) fun r_7 S_6 =>
if tI S_6 0 53 = 0 then (
be (if 0 ≤ lg_cmp r_7 0 then (
if lg_cmp r_7 99 ≤ 0 then (
Int64.toInt32 r_7)
else (
99))
else (
0) : Int32) fun (y_13 : Int32) =>
some (y_13, S_6))
else (
some (p4, S_6))))
def rm_tw_boundLaw : Room := { frames := 3, cells := 0, slots := 0, locals := 72 }
theorem ok_tw_boundLaw {E : En} (hE : EOk E) {o : Nat} {M0 : Mem} (hM : TwS o M0) {N : Nat} {p1 : Int32} {p2 : Int32} {p3 : Int32} {p4 : Int32} {S : TS} {r : Int32} {S' : TS} (h : tw_boundLaw N p1 p2 p3 p4 S = some (r, S')) : CM E yX7_boundLaw cX7_boundLaw 7 (some .int) rm_tw_boundLaw [rf E o, .int p1, .int p2, .int p3, .int p4] (tw o S M0) (some (.int r)) (tw o S' M0) := by
  unfold tw_boundLaw at h
  refine CM_intro (own := RX7) rfl (by decide) (Nat.le_of_ble_eq_true rfl) rfl (fun G hG => ?_)
  obtain ⟨Q, eQ⟩ : ∃ Q, Q = QM E G (some (.int r)) (tw o S' M0) 0 0 := ⟨_, rfl⟩
  show V E G (tw o S M0) 0 0 7 0 [(0, rf E o), (1, .int p1), (2, .int p2), (3, .int p3), (4, .int p4)] [] (QM E G (some (.int r)) (tw o S' M0) 0 0)
  rw [← eQ]
  refine V_aload_n hG 0 rfl dX7_boundLaw_0 ?_
  refine g7_63 hM hG dX7_boundLaw_1 ?_
  refine V_iload_n hG 2 rfl dX7_boundLaw_4 ?_
  obtain ⟨g_1, h⟩ := gd_of h
  refine T_zaload hM hG (by decide) g_1 dX7_boundLaw_5 ?_
  refine V_if_ne hG 12 dX7_boundLaw_6 (by decide) (fun c_2 => ?_) (fun c_2 => ?_)
  · have h := if_f c_2 h
    refine V_aload_n hG 0 rfl dX7_boundLaw_12 ?_
    refine V_iload_n hG 1 rfl dX7_boundLaw_13 ?_
    refine V_iload_n hG 3 rfl dX7_boundLaw_14 ?_
    obtain ⟨S_4, hc_3, h⟩ := bd_of h
    refine V_callV0 hE hG (As := [.int p1, .int p3]) (rest := []) (ok_tw_layNames hE hM hc_3) hM.1 (by decide) rfl hw7_414 hd_tw_layNames ⟨Nat.le_of_ble_eq_true rfl, Nat.le_of_ble_eq_true rfl⟩ rfl rfl (Nat.le_of_ble_eq_true rfl) rfl rfl dX7_boundLaw_15 ?_
    refine V_aload_n hG 0 rfl dX7_boundLaw_18 ?_
    refine V_iload_n hG 2 rfl dX7_boundLaw_19 ?_
    obtain ⟨r_7, S_6, hc_5, h⟩ := bd2_of h
    refine V_callV0 hE hG (As := [.int p2]) (rest := []) (ok_tw_lawOf hE hM hc_5) hM.1 (by decide) rfl hw7_418 hd_tw_lawOf ⟨Nat.le_of_ble_eq_true rfl, Nat.le_of_ble_eq_true rfl⟩ rfl rfl (Nat.le_of_ble_eq_true rfl) rfl rfl dX7_boundLaw_20 ?_
    refine V_lstore hG [(5, .long r_7), (0, rf E o), (1, .int p1), (2, .int p2), (3, .int p3), (4, .int p4)] dX7_boundLaw_23 (Nat.le_of_ble_eq_true rfl) rfl ?_
    refine V_aload_n hG 1 rfl dX7_boundLaw_25 ?_
    refine g7_348 hM hG dX7_boundLaw_26 ?_
    refine V_if_eq hG 35 dX7_boundLaw_29 (by decide) (fun c_8 => ?_) (fun c_8 => ?_)
    · have h := if_t c_8 h
      refine V_lload hG 0 rfl dX7_boundLaw_35 ?_
      refine V_lconst hG 0 rfl dX7_boundLaw_37 ?_
      refine V_lcmp hG dX7_boundLaw_38 ?_
      obtain ⟨t_9, et_9, h⟩ := be_of h
      have J_10 : ∀ y_13 : Int32, y_13 = t_9 → V E G (tw o S_6 M0) 0 0 7 63 [(5, .long r_7), (0, rf E o), (1, .int p1), (2, .int p2), (3, .int p3), (4, .int p4)] [.int y_13] Q := by
        intro y_13 ey
        subst ey
        cases h
        subst eQ
        exact V_iret hG dX7_boundLaw_63
      refine V_if_ge hG 46 dX7_boundLaw_39 (by decide) (fun c_11 => ?_) (fun c_11 => ?_)
      · refine V_lload hG 0 rfl dX7_boundLaw_46 ?_
        refine V_ldc2 hG q2053 dX7_boundLaw_48 ?_
        refine V_lcmp hG dX7_boundLaw_51 ?_
        refine V_if_le hG 60 dX7_boundLaw_52 (by decide) (fun c_12 => ?_) (fun c_12 => ?_)
        · refine V_lload hG 0 rfl dX7_boundLaw_60 ?_
          refine V_l2i hG dX7_boundLaw_62 ?_
          exact J_10 _ (by rw [et_9, if_pos c_11, if_pos c_12])
        · refine V_bipush hG 99 (by decide) dX7_boundLaw_55 ?_
          refine V_goto hG 63 dX7_boundLaw_57 (by decide) ?_
          exact J_10 _ (by rw [et_9, if_pos c_11, if_neg c_12])
      · refine V_iconst hG 0 rfl dX7_boundLaw_42 ?_
        refine V_goto hG 63 dX7_boundLaw_43 (by decide) ?_
        exact J_10 _ (by rw [et_9, if_neg c_11])
    · have h := if_f c_8 h
      refine V_iload hG 5 rfl dX7_boundLaw_32 ?_
      cases h
      subst eQ
      exact V_iret hG dX7_boundLaw_34
  · have h := if_t c_2 h
    refine V_iload hG 4 rfl dX7_boundLaw_9 ?_
    cases h
    subst eQ
    exact V_iret hG dX7_boundLaw_11

def tw_drinks (N : Nat) (p1 : Int32) (p2 : Int32) (S : TS) : Option (TS) :=
be ((6 * p1) + p2) fun (x3_1 : Int32) =>
gd (inb x3_1 (lenA 27)) (
bd (tw_troughAt N (tI S 27 (Int32.toNatClampNeg x3_1)) S) fun r_4 =>
gd (inb x3_1 (lenA 32)) (
be (tsI S 32 (Int32.toNatClampNeg x3_1) 0) fun S_6 =>
gd (inb x3_1 (lenA 31)) (
if tI S_6 31 (Int32.toNatClampNeg x3_1) = 0 then (
some S_6)
else (
if tI S_6 0 71 = 0 then (
if r_4 < 0 then (
some S_6)
else (
gd (inb x3_1 (lenA 28)) (
if tI S_6 28 (Int32.toNatClampNeg x3_1) = 0 then (
some S_6)
else (
gd (inb ((6 * p1) + r_4) (lenA 33)) (
if tI S_6 33 (Int32.toNatClampNeg ((6 * p1) + r_4)) = 0 then (
some S_6)
else (
bd2 (tw_boundLaw N p1 1 p2 9 S_6) fun r_17 S_16 =>
gd (inb x3_1 (lenA 28)) (
bd (if r_17 ≤ tI S_16 28 (Int32.toNatClampNeg x3_1) then (
some r_17)
else (
gd (inb x3_1 (lenA 28)) (
some (tI S_16 28 (Int32.toNatClampNeg x3_1)))) : Option (Int32)) fun (t_19 : Int32) =>
gd (inb ((6 * p1) + r_4) (lenA 33)) (
bd (if t_19 ≤ tI S_16 33 (Int32.toNatClampNeg ((6 * p1) + r_4)) then (
some t_19)
else (
gd (inb ((6 * p1) + r_4) (lenA 33)) (
some (tI S_16 33 (Int32.toNatClampNeg ((6 * p1) + r_4))))) : Option (Int32)) fun (t_23 : Int32) =>
gd (inb x3_1 (lenA 28)) (
gd (inb x3_1 (lenA 28)) (
be (tsI S_16 28 (Int32.toNatClampNeg x3_1) ((tI S_16 28 (Int32.toNatClampNeg x3_1)) - t_23)) fun S_28 =>
gd (inb ((6 * p1) + r_4) (lenA 33)) (
gd (inb ((6 * p1) + r_4) (lenA 33)) (
be (tsI S_28 33 (Int32.toNatClampNeg ((6 * p1) + r_4)) ((tI S_28 33 (Int32.toNatClampNeg ((6 * p1) + r_4))) - t_23)) fun S_31 =>
gd (inb x3_1 (lenA 32)) (
be (tsI S_31 32 (Int32.toNatClampNeg x3_1) t_23) fun S_33 =>
gd (inb p1 (lenA 36)) (
gd (inb p1 (lenA 36)) (
be (tsI S_33 36 (Int32.toNatClampNeg p1) ((tI S_33 36 (Int32.toNatClampNeg p1)) + t_23)) fun S_36 =>
some S_36)))))))))))))))
else (
some S_6)))))
def rm_tw_drinks : Room := { frames := 4, cells := 0, slots := 0, locals := 98 }
theorem ok_tw_drinks {E : En} (hE : EOk E) {o : Nat} {M0 : Mem} (hM : TwS o M0) {N : Nat} {p1 : Int32} {p2 : Int32} {S : TS}  {S' : TS} (h : tw_drinks N p1 p2 S = some S') : CM E yX7_drinks cX7_drinks 6 none rm_tw_drinks [rf E o, .int p1, .int p2] (tw o S M0) none (tw o S' M0) := by
  unfold tw_drinks at h
  refine CM_intro (own := RX7) rfl (by decide) (Nat.le_of_ble_eq_true rfl) rfl (fun G hG => ?_)
  obtain ⟨Q, eQ⟩ : ∃ Q, Q = QM E G none (tw o S' M0) 0 0 := ⟨_, rfl⟩
  show V E G (tw o S M0) 0 0 6 0 [(0, rf E o), (1, .int p1), (2, .int p2)] [] (QM E G none (tw o S' M0) 0 0)
  rw [← eQ]
  refine V_bipush hG 6 (by decide) dX7_drinks_0 ?_
  refine V_iload_n hG 1 rfl dX7_drinks_2 ?_
  refine V_imul hG dX7_drinks_3 ?_
  refine V_iload_n hG 2 rfl dX7_drinks_4 ?_
  refine V_iadd hG dX7_drinks_5 ?_
  obtain ⟨x3_1, ex3_1, h⟩ := be_of h
  refine V_topi ex3_1 ?_
  refine V_istore_n hG rfl [(3, .int x3_1), (0, rf E o), (1, .int p1), (2, .int p2)] dX7_drinks_6 (Nat.le_of_ble_eq_true rfl) rfl ?_
  refine V_aload_n hG 1 rfl dX7_drinks_7 ?_
  refine V_aload_n hG 1 rfl dX7_drinks_8 ?_
  refine g7_94 hM hG dX7_drinks_9 ?_
  refine V_iload_n hG 0 rfl dX7_drinks_12 ?_
  obtain ⟨g_2, h⟩ := gd_of h
  refine T_iaload hM hG (by decide) g_2 dX7_drinks_13 ?_
  obtain ⟨r_4, hc_3, h⟩ := bd_of h
  refine V_callV0 hE hG (As := [.int (tI S 27 (Int32.toNatClampNeg x3_1))]) (rest := []) (ok_tw_troughAt hE hM hc_3) hM.1 (by decide) rfl hw7_401 hd_tw_troughAt ⟨Nat.le_of_ble_eq_true rfl, Nat.le_of_ble_eq_true rfl⟩ rfl rfl (Nat.le_of_ble_eq_true rfl) rfl rfl dX7_drinks_14 ?_
  refine V_istore hG [(4, .int r_4), (3, .int x3_1), (0, rf E o), (1, .int p1), (2, .int p2)] dX7_drinks_17 (Nat.le_of_ble_eq_true rfl) rfl ?_
  refine V_aload_n hG 2 rfl dX7_drinks_19 ?_
  refine g7_109 hM hG dX7_drinks_20 ?_
  refine V_iload_n hG 1 rfl dX7_drinks_23 ?_
  refine V_iconst hG 0 rfl dX7_drinks_24 ?_
  obtain ⟨g_5, h⟩ := gd_of h
  obtain ⟨S_6, eS_6, h⟩ := be_of h
  refine T_iastore hM hG eS_6 (by decide) g_5 dX7_drinks_25 ?_
  refine V_aload_n hG 2 rfl dX7_drinks_26 ?_
  refine g7_106 hM hG dX7_drinks_27 ?_
  refine V_iload_n hG 1 rfl dX7_drinks_30 ?_
  obtain ⟨g_7, h⟩ := gd_of h
  refine T_zaload hM hG (by decide) g_7 dX7_drinks_31 ?_
  refine V_if_eq hG 71 dX7_drinks_32 (by decide) (fun c_8 => ?_) (fun c_8 => ?_)
  · have h := if_t c_8 h
    cases h
    subst eQ
    exact V_vret hG dX7_drinks_71
  · have h := if_f c_8 h
    refine V_aload_n hG 2 rfl dX7_drinks_35 ?_
    refine g7_392 hM hG dX7_drinks_36 ?_
    refine V_if_ne hG 71 dX7_drinks_39 (by decide) (fun c_9 => ?_) (fun c_9 => ?_)
    · have h := if_f c_9 h
      cases h
      subst eQ
      exact V_vret hG dX7_drinks_71
    · have h := if_t c_9 h
      refine V_iload hG 0 rfl dX7_drinks_42 ?_
      refine V_if_lt hG 71 dX7_drinks_44 (by decide) (fun c_10 => ?_) (fun c_10 => ?_)
      · have h := if_t c_10 h
        cases h
        subst eQ
        exact V_vret hG dX7_drinks_71
      · have h := if_f c_10 h
        refine V_aload_n hG 2 rfl dX7_drinks_47 ?_
        refine g7_97 hM hG dX7_drinks_48 ?_
        refine V_iload_n hG 1 rfl dX7_drinks_51 ?_
        obtain ⟨g_11, h⟩ := gd_of h
        refine T_iaload hM hG (by decide) g_11 dX7_drinks_52 ?_
        refine V_if_eq hG 71 dX7_drinks_53 (by decide) (fun c_12 => ?_) (fun c_12 => ?_)
        · have h := if_t c_12 h
          cases h
          subst eQ
          exact V_vret hG dX7_drinks_71
        · have h := if_f c_12 h
          refine V_aload_n hG 2 rfl dX7_drinks_56 ?_
          refine g7_112 hM hG dX7_drinks_57 ?_
          refine V_bipush hG 6 (by decide) dX7_drinks_60 ?_
          refine V_iload_n hG 3 rfl dX7_drinks_62 ?_
          refine V_imul hG dX7_drinks_63 ?_
          refine V_iload hG 0 rfl dX7_drinks_64 ?_
          refine V_iadd hG dX7_drinks_66 ?_
          obtain ⟨g_13, h⟩ := gd_of h
          refine T_iaload hM hG (by decide) g_13 dX7_drinks_67 ?_
          refine V_if_ne hG 72 dX7_drinks_68 (by decide) (fun c_14 => ?_) (fun c_14 => ?_)
          · have h := if_f c_14 h
            refine V_aload_n hG 2 rfl dX7_drinks_72 ?_
            refine V_iload_n hG 3 rfl dX7_drinks_73 ?_
            refine V_iconst hG 1 rfl dX7_drinks_74 ?_
            refine V_iload_n hG 4 rfl dX7_drinks_75 ?_
            refine V_bipush hG 9 (by decide) dX7_drinks_76 ?_
            obtain ⟨r_17, S_16, hc_15, h⟩ := bd2_of h
            refine V_callV0 hE hG (As := [.int p1, .int 1, .int p2, .int 9]) (rest := []) (ok_tw_boundLaw hE hM hc_15) hM.1 (by decide) rfl hw7_434 hd_tw_boundLaw ⟨Nat.le_of_ble_eq_true rfl, Nat.le_of_ble_eq_true rfl⟩ rfl rfl (Nat.le_of_ble_eq_true rfl) rfl rfl dX7_drinks_78 ?_
            refine V_istore hG [(5, .int r_17), (4, .int r_4), (3, .int x3_1), (0, rf E o), (1, .int p1), (2, .int p2)] dX7_drinks_81 (Nat.le_of_ble_eq_true rfl) rfl ?_
            refine V_iload hG 0 rfl dX7_drinks_83 ?_
            refine V_aload_n hG 3 rfl dX7_drinks_85 ?_
            refine g7_97 hM hG dX7_drinks_86 ?_
            refine V_iload_n hG 2 rfl dX7_drinks_89 ?_
            obtain ⟨g_18, h⟩ := gd_of h
            refine T_iaload hM hG (by decide) g_18 dX7_drinks_90 ?_
            obtain ⟨t_19, hj_21, h⟩ := bd_of h
            have J_20 : V E G (tw o S_16 M0) 0 0 6 105 [(5, .int r_17), (4, .int r_4), (3, .int x3_1), (0, rf E o), (1, .int p1), (2, .int p2)] [.int t_19] Q := by
              refine V_istore hG [(5, .int t_19), (4, .int r_4), (3, .int x3_1), (0, rf E o), (1, .int p1), (2, .int p2)] dX7_drinks_105 (Nat.le_of_ble_eq_true rfl) rfl ?_
              refine V_iload hG 0 rfl dX7_drinks_107 ?_
              refine V_aload_n hG 3 rfl dX7_drinks_109 ?_
              refine g7_112 hM hG dX7_drinks_110 ?_
              refine V_bipush hG 6 (by decide) dX7_drinks_113 ?_
              refine V_iload_n hG 4 rfl dX7_drinks_115 ?_
              refine V_imul hG dX7_drinks_116 ?_
              refine V_iload hG 1 rfl dX7_drinks_117 ?_
              refine V_iadd hG dX7_drinks_119 ?_
              obtain ⟨g_22, h⟩ := gd_of h
              refine T_iaload hM hG (by decide) g_22 dX7_drinks_120 ?_
              obtain ⟨t_23, hj_25, h⟩ := bd_of h
              have J_24 : V E G (tw o S_16 M0) 0 0 6 141 [(5, .int t_19), (4, .int r_4), (3, .int x3_1), (0, rf E o), (1, .int p1), (2, .int p2)] [.int t_23] Q := by
                refine V_istore hG [(5, .int t_23), (4, .int r_4), (3, .int x3_1), (0, rf E o), (1, .int p1), (2, .int p2)] dX7_drinks_141 (Nat.le_of_ble_eq_true rfl) rfl ?_
                refine V_aload_n hG 3 rfl dX7_drinks_143 ?_
                refine g7_97 hM hG dX7_drinks_144 ?_
                refine V_iload_n hG 2 rfl dX7_drinks_147 ?_
                refine V_dup2 hG rfl rfl dX7_drinks_148 ?_
                obtain ⟨g_26, h⟩ := gd_of h
                refine T_iaload hM hG (by decide) g_26 dX7_drinks_149 ?_
                refine V_iload hG 0 rfl dX7_drinks_150 ?_
                refine V_isub hG dX7_drinks_152 ?_
                obtain ⟨g_27, h⟩ := gd_of h
                obtain ⟨S_28, eS_28, h⟩ := be_of h
                refine T_iastore hM hG eS_28 (by decide) g_27 dX7_drinks_153 ?_
                refine V_aload_n hG 3 rfl dX7_drinks_154 ?_
                refine g7_112 hM hG dX7_drinks_155 ?_
                refine V_bipush hG 6 (by decide) dX7_drinks_158 ?_
                refine V_iload_n hG 4 rfl dX7_drinks_160 ?_
                refine V_imul hG dX7_drinks_161 ?_
                refine V_iload hG 1 rfl dX7_drinks_162 ?_
                refine V_iadd hG dX7_drinks_164 ?_
                refine V_dup2 hG rfl rfl dX7_drinks_165 ?_
                obtain ⟨g_29, h⟩ := gd_of h
                refine T_iaload hM hG (by decide) g_29 dX7_drinks_166 ?_
                refine V_iload hG 0 rfl dX7_drinks_167 ?_
                refine V_isub hG dX7_drinks_169 ?_
                obtain ⟨g_30, h⟩ := gd_of h
                obtain ⟨S_31, eS_31, h⟩ := be_of h
                refine T_iastore hM hG eS_31 (by decide) g_30 dX7_drinks_170 ?_
                refine V_aload_n hG 3 rfl dX7_drinks_171 ?_
                refine g7_109 hM hG dX7_drinks_172 ?_
                refine V_iload_n hG 2 rfl dX7_drinks_175 ?_
                refine V_iload hG 0 rfl dX7_drinks_176 ?_
                obtain ⟨g_32, h⟩ := gd_of h
                obtain ⟨S_33, eS_33, h⟩ := be_of h
                refine T_iastore hM hG eS_33 (by decide) g_32 dX7_drinks_178 ?_
                refine V_aload_n hG 3 rfl dX7_drinks_179 ?_
                refine g7_121 hM hG dX7_drinks_180 ?_
                refine V_iload_n hG 4 rfl dX7_drinks_183 ?_
                refine V_dup2 hG rfl rfl dX7_drinks_184 ?_
                obtain ⟨g_34, h⟩ := gd_of h
                refine T_iaload hM hG (by decide) g_34 dX7_drinks_185 ?_
                refine V_iload hG 0 rfl dX7_drinks_186 ?_
                refine V_iadd hG dX7_drinks_188 ?_
                obtain ⟨g_35, h⟩ := gd_of h
                obtain ⟨S_36, eS_36, h⟩ := be_of h
                refine T_iastore hM hG eS_36 (by decide) g_35 dX7_drinks_189 ?_
                cases h
                subst eQ
                exact V_vret hG dX7_drinks_190
              refine V_icmp_le hG 139 dX7_drinks_121 (by decide) (fun c_37 => ?_) (fun c_37 => ?_)
              · have hj_25 := if_t c_37 hj_25
                refine V_iload hG 0 rfl dX7_drinks_139 ?_
                cases hj_25
                exact J_24
              · have hj_25 := if_f c_37 hj_25
                refine V_aload_n hG 3 rfl dX7_drinks_124 ?_
                refine g7_112 hM hG dX7_drinks_125 ?_
                refine V_bipush hG 6 (by decide) dX7_drinks_128 ?_
                refine V_iload_n hG 4 rfl dX7_drinks_130 ?_
                refine V_imul hG dX7_drinks_131 ?_
                refine V_iload hG 1 rfl dX7_drinks_132 ?_
                refine V_iadd hG dX7_drinks_134 ?_
                obtain ⟨g_38, hj_25⟩ := gd_of hj_25
                refine T_iaload hM hG (by decide) g_38 dX7_drinks_135 ?_
                refine V_goto hG 141 dX7_drinks_136 (by decide) ?_
                cases hj_25
                exact J_24
            refine V_icmp_le hG 103 dX7_drinks_91 (by decide) (fun c_39 => ?_) (fun c_39 => ?_)
            · have hj_21 := if_t c_39 hj_21
              refine V_iload hG 0 rfl dX7_drinks_103 ?_
              cases hj_21
              exact J_20
            · have hj_21 := if_f c_39 hj_21
              refine V_aload_n hG 3 rfl dX7_drinks_94 ?_
              refine g7_97 hM hG dX7_drinks_95 ?_
              refine V_iload_n hG 2 rfl dX7_drinks_98 ?_
              obtain ⟨g_40, hj_21⟩ := gd_of hj_21
              refine T_iaload hM hG (by decide) g_40 dX7_drinks_99 ?_
              refine V_goto hG 105 dX7_drinks_100 (by decide) ?_
              cases hj_21
              exact J_20
          · have h := if_t c_14 h
            cases h
            subst eQ
            exact V_vret hG dX7_drinks_71

def tw_number1 (p1 : Int32) (S : TS) : Option (Int32 × TS) :=
be (tsL S 0 67 ((((tL S 0 67) * 1103515245) + 12345) &&& 2147483647)) fun S_1 =>
gd (¬ Int32.toInt64 p1 = 0) (
some (Int64.toInt32 (((tL S_1 0 67) / 65536) - ((tL S_1 0 67) / 65536) / (Int32.toInt64 p1) * (Int32.toInt64 p1)), S_1))
def rm_tw_number1 : Room := { frames := 0, cells := 0, slots := 0, locals := 0 }
theorem ok_tw_number1 {E : En} (hE : EOk E) {o : Nat} {M0 : Mem} (hM : TwS o M0) {p1 : Int32} {S : TS} {r : Int32} {S' : TS} (h : tw_number1 p1 S = some (r, S')) : CM E yX7_number1 cX7_number1 2 (some .int) rm_tw_number1 [rf E o, .int p1] (tw o S M0) (some (.int r)) (tw o S' M0) := by
  unfold tw_number1 at h
  refine CM_intro (own := RX7) rfl (by decide) (Nat.le_of_ble_eq_true rfl) rfl (fun G hG => ?_)
  obtain ⟨Q, eQ⟩ : ∃ Q, Q = QM E G (some (.int r)) (tw o S' M0) 0 0 := ⟨_, rfl⟩
  show V E G (tw o S M0) 0 0 2 0 [(0, rf E o), (1, .int p1)] [] (QM E G (some (.int r)) (tw o S' M0) 0 0)
  rw [← eQ]
  refine V_aload_n hG 0 rfl dX7_number1_0 ?_
  refine V_aload_n hG 0 rfl dX7_number1_1 ?_
  refine g7_370 hM hG dX7_number1_2 ?_
  refine V_ldc2 hG q2074 dX7_number1_5 ?_
  refine V_lmul hG dX7_number1_8 ?_
  refine V_ldc2 hG q2075 dX7_number1_9 ?_
  refine V_ladd hG dX7_number1_12 ?_
  refine V_ldc2 hG q2076 dX7_number1_13 ?_
  refine V_land hG dX7_number1_16 ?_
  obtain ⟨S_1, eS_1, h⟩ := be_of h
  refine p7_370 hM hG eS_1 dX7_number1_17 ?_
  refine V_aload_n hG 0 rfl dX7_number1_20 ?_
  refine g7_370 hM hG dX7_number1_21 ?_
  refine V_ldc2 hG q2077 dX7_number1_24 ?_
  refine V_ldiv hG (by decide) dX7_number1_27 ?_
  refine V_iload_n hG 1 rfl dX7_number1_28 ?_
  refine V_i2l hG dX7_number1_29 ?_
  obtain ⟨g_2, h⟩ := gd_of h
  refine V_lrem hG g_2 dX7_number1_30 ?_
  refine V_l2i hG dX7_number1_31 ?_
  cases h
  subst eQ
  exact V_iret hG dX7_number1_32

def tw_isRain  (S : TS) : Option (Int32 × TS) :=
if tI S 0 70 = 0 then (
if tI S 4 (Int32.toNatClampNeg 0) = 0 then (
some (0, S))
else (
if tI S 4 (Int32.toNatClampNeg 0) = 100 then (
some (1, S))
else (
bd2 (if tI S 0 69 = 0 then (
if tI S 4 (Int32.toNatClampNeg 0) < 50 then (
some (0, S))
else (
some (1, S)))
else (
bd2 (tw_number1 100 S) fun r_13 S_12 =>
if tI S_12 4 (Int32.toNatClampNeg 0) ≤ r_13 then (
some (0, S_12))
else (
some (1, S_12))) : Option (Int32 × TS)) fun (t_4 : Int32) (S_5 : TS) =>
gd (t_4 = 0 ∨ t_4 = 1) (
some (t_4, S_5)))))
else (
some (0, S))
def rm_tw_isRain : Room := { frames := 1, cells := 0, slots := 0, locals := 21 }
theorem ok_tw_isRain {E : En} (hE : EOk E) {o : Nat} {M0 : Mem} (hM : TwS o M0)  {S : TS} {r : Int32} {S' : TS} (h : tw_isRain  S = some (r, S')) : CM E yX7_isRain cX7_isRain 1 (some .boolean) rm_tw_isRain [rf E o] (tw o S M0) (some (.int r)) (tw o S' M0) := by
  unfold tw_isRain at h
  refine CM_intro (own := RX7) rfl (by decide) (Nat.le_of_ble_eq_true rfl) rfl (fun G hG => ?_)
  obtain ⟨Q, eQ⟩ : ∃ Q, Q = QM E G (some (.int r)) (tw o S' M0) 0 0 := ⟨_, rfl⟩
  show V E G (tw o S M0) 0 0 1 0 [(0, rf E o)] [] (QM E G (some (.int r)) (tw o S' M0) 0 0)
  rw [← eQ]
  refine V_aload_n hG 0 rfl dX7_isRain_0 ?_
  refine g7_389 hM hG dX7_isRain_1 ?_
  refine V_if_ne hG 16 dX7_isRain_4 (by decide) (fun c_1 => ?_) (fun c_1 => ?_)
  · have h := if_f c_1 h
    refine V_iconst hG 0 rfl dX7_isRain_16 ?_
    cases h
    subst eQ
    exact V_zret hG (Or.inl rfl) dX7_isRain_17
  · have h := if_t c_1 h
    refine V_aload_n hG 0 rfl dX7_isRain_7 ?_
    refine g7_24 hM hG dX7_isRain_8 ?_
    refine V_iconst hG 0 rfl dX7_isRain_11 ?_
    refine T_iaload hM hG (by decide) (by decide) dX7_isRain_12 ?_
    refine V_if_ne hG 18 dX7_isRain_13 (by decide) (fun c_2 => ?_) (fun c_2 => ?_)
    · have h := if_f c_2 h
      refine V_aload_n hG 0 rfl dX7_isRain_18 ?_
      refine g7_24 hM hG dX7_isRain_19 ?_
      refine V_iconst hG 0 rfl dX7_isRain_22 ?_
      refine T_iaload hM hG (by decide) (by decide) dX7_isRain_23 ?_
      refine V_bipush hG 100 (by decide) dX7_isRain_24 ?_
      refine V_icmp_ne hG 31 dX7_isRain_26 (by decide) (fun c_3 => ?_) (fun c_3 => ?_)
      · have h := if_f c_3 h
        refine V_aload_n hG 0 rfl dX7_isRain_31 ?_
        refine g7_386 hM hG dX7_isRain_32 ?_
        obtain ⟨t_4, S_5, hj_7, h⟩ := bd2_of h
        have J_6 : V E G (tw o S_5 M0) 0 0 1 77 [(0, rf E o)] [.int t_4] Q := by
          obtain ⟨g_8, h⟩ := gd_of h
          cases h
          subst eQ
          exact V_zret hG g_8 dX7_isRain_77
        refine V_if_eq hG 61 dX7_isRain_35 (by decide) (fun c_9 => ?_) (fun c_9 => ?_)
        · have hj_7 := if_t c_9 hj_7
          refine V_aload_n hG 0 rfl dX7_isRain_61 ?_
          refine g7_24 hM hG dX7_isRain_62 ?_
          refine V_iconst hG 0 rfl dX7_isRain_65 ?_
          refine T_iaload hM hG (by decide) (by decide) dX7_isRain_66 ?_
          refine V_bipush hG 50 (by decide) dX7_isRain_67 ?_
          refine V_icmp_lt hG 76 dX7_isRain_69 (by decide) (fun c_10 => ?_) (fun c_10 => ?_)
          · have hj_7 := if_t c_10 hj_7
            refine V_iconst hG 0 rfl dX7_isRain_76 ?_
            cases hj_7
            exact J_6
          · have hj_7 := if_f c_10 hj_7
            refine V_iconst hG 1 rfl dX7_isRain_72 ?_
            refine V_goto hG 77 dX7_isRain_73 (by decide) ?_
            cases hj_7
            exact J_6
        · have hj_7 := if_f c_9 hj_7
          refine V_aload_n hG 0 rfl dX7_isRain_38 ?_
          refine V_bipush hG 100 (by decide) dX7_isRain_39 ?_
          obtain ⟨r_13, S_12, hc_11, hj_7⟩ := bd2_of hj_7
          refine V_callV0 hE hG (As := [.int 100]) (rest := []) (ok_tw_number1 hE hM hc_11) hM.1 (by decide) rfl hw7_431 hd_tw_number1 ⟨Nat.le_of_ble_eq_true rfl, Nat.le_of_ble_eq_true rfl⟩ rfl rfl (Nat.le_of_ble_eq_true rfl) rfl rfl dX7_isRain_41 ?_
          refine V_aload_n hG 0 rfl dX7_isRain_44 ?_
          refine g7_24 hM hG dX7_isRain_45 ?_
          refine V_iconst hG 0 rfl dX7_isRain_48 ?_
          refine T_iaload hM hG (by decide) (by decide) dX7_isRain_49 ?_
          refine V_icmp_ge hG 57 dX7_isRain_50 (by decide) (fun c_14 => ?_) (fun c_14 => ?_)
          · have hj_7 := if_t c_14 hj_7
            refine V_iconst hG 0 rfl dX7_isRain_57 ?_
            refine V_goto hG 77 dX7_isRain_58 (by decide) ?_
            cases hj_7
            exact J_6
          · have hj_7 := if_f c_14 hj_7
            refine V_iconst hG 1 rfl dX7_isRain_53 ?_
            refine V_goto hG 77 dX7_isRain_54 (by decide) ?_
            cases hj_7
            exact J_6
      · have h := if_t c_3 h
        refine V_iconst hG 1 rfl dX7_isRain_29 ?_
        cases h
        subst eQ
        exact V_zret hG (Or.inr rfl) dX7_isRain_30
    · have h := if_t c_2 h
      refine V_iconst hG 0 rfl dX7_isRain_16 ?_
      cases h
      subst eQ
      exact V_zret hG (Or.inl rfl) dX7_isRain_17

def tw_more (p1 : Int32) (p2 : Int32) (S : TS) : Option (Int32) :=
be (if p1 + p2 ≤ 9999 then (
p1 + p2)
else (
9999) : Int32) fun (y_4 : Int32) =>
some y_4
def rm_tw_more : Room := { frames := 0, cells := 0, slots := 0, locals := 0 }
theorem ok_tw_more {E : En} (hE : EOk E) {o : Nat} {M0 : Mem} (hM : TwS o M0) {p1 : Int32} {p2 : Int32} {S : TS} {r : Int32} (h : tw_more p1 p2 S = some r) : CM E yX7_more cX7_more 3 (some .int) rm_tw_more [rf E o, .int p1, .int p2] (tw o S M0) (some (.int r)) (tw o S M0) := by
  unfold tw_more at h
  refine CM_intro (own := RX7) rfl (by decide) (Nat.le_of_ble_eq_true rfl) rfl (fun G hG => ?_)
  obtain ⟨Q, eQ⟩ : ∃ Q, Q = QM E G (some (.int r)) (tw o S M0) 0 0 := ⟨_, rfl⟩
  show V E G (tw o S M0) 0 0 3 0 [(0, rf E o), (1, .int p1), (2, .int p2)] [] (QM E G (some (.int r)) (tw o S M0) 0 0)
  rw [← eQ]
  refine V_iload_n hG 1 rfl dX7_more_0 ?_
  refine V_iload_n hG 2 rfl dX7_more_1 ?_
  refine V_iadd hG dX7_more_2 ?_
  refine V_sipush hG 9999 (by decide) dX7_more_3 ?_
  obtain ⟨t_1, et_1, h⟩ := be_of h
  have J_2 : ∀ y_4 : Int32, y_4 = t_1 → V E G (tw o S M0) 0 0 3 18 [(0, rf E o), (1, .int p1), (2, .int p2)] [.int y_4] Q := by
    intro y_4 ey
    subst ey
    cases h
    subst eQ
    exact V_iret hG dX7_more_18
  refine V_icmp_le hG 15 dX7_more_6 (by decide) (fun c_3 => ?_) (fun c_3 => ?_)
  · refine V_iload_n hG 1 rfl dX7_more_15 ?_
    refine V_iload_n hG 2 rfl dX7_more_16 ?_
    refine V_iadd hG dX7_more_17 ?_
    exact J_2 _ (by rw [et_1, if_pos c_3])
  · refine V_sipush hG 9999 (by decide) dX7_more_9 ?_
    refine V_goto hG 18 dX7_more_12 (by decide) ?_
    exact J_2 _ (by rw [et_1, if_neg c_3])
