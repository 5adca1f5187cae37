set_option maxRecDepth 100000
set_option maxHeartbeats 4000000
def f_X1_ahead (N : Nat) (p0 : Nat) (p1 : Int32) (p2 : Int32) (p3 : Int32) (M : Mem) : Option (Int32 × Mem) :=
bd (f_X1_in (Int32.toInt64 p1) 0 200 M) fun (r_2 : Int32) =>
if r_2 = 0 then (
some ((-1), M))
else (
bd (f_X1_in (Int32.toInt64 p2) 0 4 M) fun (r_5 : Int32) =>
if r_5 = 0 then (
some ((-1), M))
else (
be (fun (u_9 : Unit) =>
be (fun (u_12 : Unit) =>
gd (mT M p0 = 0) (
bd (mR M p0 10) fun (a_14 : Nat) =>
bd (mR M p0 9) fun (a_16 : Nat) =>
gd (mT M a_14 = 5) (
bd (f_X6_become N a_14 a_16 M) fun (M_20 : Mem) =>
gd (mT M_20 p0 = 0) (
bd (mR M_20 p0 10) fun (a_22 : Nat) =>
gd (mT M_20 a_22 = 5) (
bd (f_X6_goesOn N a_22 p1 M_20) fun (M_26 : Mem) =>
if p2 = 0 then (
gd (mT M_26 p0 = 0) (
bd (mR M_26 p0 10) fun (a_29 : Nat) =>
gd (mT M_26 a_29 = 5) (
bd (mR M_26 p0 9) fun (a_32 : Nat) =>
gd (mT M_26 a_32 = 5) (
some ((mI M_26 a_29 8) - (mI M_26 a_32 8), M_26)))))
else (
if p2 = 1 then (
gd (mT M_26 p0 = 0) (
bd (mR M_26 p0 10) fun (a_37 : Nat) =>
gd (mT M_26 a_37 = 5) (
bd (mR M_26 p0 9) fun (a_40 : Nat) =>
gd (mT M_26 a_40 = 5) (
some ((mI M_26 a_37 9) - (mI M_26 a_40 9), M_26)))))
else (
if p2 = 2 then (
gd (mT M_26 p0 = 0) (
bd (mR M_26 p0 10) fun (a_45 : Nat) =>
gd (mT M_26 a_45 = 5) (
bd (mR M_26 a_45 1) fun (a_48 : Nat) =>
gd (mT M_26 a_48 = 100) (
gd (inb p3 (mLn M_26 a_48)) (
some (mI M_26 a_48 (Int32.toNatClampNeg p3), M_26))))))
else (
if p2 = 3 then (
gd (mT M_26 p0 = 0) (
bd (mR M_26 p0 10) fun (a_54 : Nat) =>
gd (mT M_26 a_54 = 5) (
bd (mR M_26 a_54 5) fun (a_57 : Nat) =>
gd (mT M_26 a_57 = 100) (
gd (inb p3 (mLn M_26 a_57)) (
some (mI M_26 a_57 (Int32.toNatClampNeg p3), M_26))))))
else (
gd (mT M_26 p0 = 0) (
bd (mR M_26 p0 10) fun (a_62 : Nat) =>
gd (mT M_26 a_62 = 5) (
bd (f_J18_bitCount (mI M_26 a_62 7) M_26) fun (r_66 : Int32) =>
some (r_66, M_26)))))))))))) fun (k_10 : Unit → Option (Int32 × Mem)) =>
if p2 = 3 then (
gd (mT M p0 = 0) (
bd (f_X1_isTrough p0 p3 M) fun (r_70 : Int32) =>
if r_70 = 0 then (
some ((-1), M))
else (
k_10 (()))))
else (
k_10 (()))) fun (k_7 : Unit → Option (Int32 × Mem)) =>
if p2 = 2 then (
gd (mT M p0 = 0) (
bd (f_X1_isHorse p0 p3 M) fun (r_75 : Int32) =>
if r_75 = 0 then (
some ((-1), M))
else (
k_7 (()))))
else (
k_7 (()))))
def rm_f_X1_ahead : Room := { frames := 206, cells := 0, slots := 0, locals := 4143 }
theorem ok_f_X1_ahead {E : En} (hE : EOk E) (hN : NOk E) {N : Nat} {p0 : Nat} {p1 : Int32} {p2 : Int32} {p3 : Int32} {M : Mem} {r : Int32} {M' : Mem} (h : f_X1_ahead N p0 p1 p2 p3 M = some (r, M')) : CM E yX1_ahead cX1_ahead 4 (some .int) rm_f_X1_ahead [rf E p0, .int p1, .int p2, .int p3] M (some (.int r)) M' := by
  unfold f_X1_ahead at h
  refine CM_introX (own := RX1) rfl (by decide +kernel) (Nat.le_of_ble_eq_true rfl) rfl (fun G hG hEn hI => ?_)
  obtain ⟨Q, eQ⟩ : ∃ Q, Q = QM E G (some (.int r)) M' 0 0 := ⟨_, rfl⟩
  show V E G M 0 0 4 0 [(0, rf E p0), (1, .int p1), (2, .int p2), (3, .int p3)] [] (QM E G (some (.int r)) M' 0 0)
  rw [← eQ]
  refine V_iload_n hG 1 rfl dX1_ahead_0 ?_
  refine V_i2l hG dX1_ahead_1 ?_
  refine V_lconst hG 0 rfl dX1_ahead_2 ?_
  refine V_ldc2 hG q1118 dX1_ahead_3 ?_
  obtain ⟨r_2, hc_1, h⟩ := bd_of h
  refine V_callS hE hG (As := [.long (Int32.toInt64 p1), .long 0, .long 200]) (rest := []) (ok_f_X1_in hE hN hc_1) hw_X1_144 hdc_X1_in ⟨Nat.le_of_ble_eq_true rfl, Nat.le_of_ble_eq_true rfl⟩ rfl rfl (Nat.le_of_ble_eq_true rfl) ⟨Nat.le_of_ble_eq_true rfl, Nat.le_of_ble_eq_true rfl⟩ dX1_ahead_6 (V_zero rfl rfl ?_)
  refine V_if_eq hG 50 dX1_ahead_9 (by decide) (fun c_3 => ?_) (fun c_3 => ?_)
  · have h := if_t c_3 h
    refine V_iconst hG (-1) rfl dX1_ahead_50 ?_
    cases h
    subst eQ
    exact V_iret hG dX1_ahead_51
  · have h := if_f c_3 h
    refine V_iload_n hG 2 rfl dX1_ahead_12 ?_
    refine V_i2l hG dX1_ahead_13 ?_
    refine V_lconst hG 0 rfl dX1_ahead_14 ?_
    refine V_ldc2 hG q1194 dX1_ahead_15 ?_
    obtain ⟨r_5, hc_4, h⟩ := bd_of h
    refine V_callS hE hG (As := [.long (Int32.toInt64 p2), .long 0, .long 4]) (rest := []) (ok_f_X1_in hE hN hc_4) hw_X1_144 hdc_X1_in ⟨Nat.le_of_ble_eq_true rfl, Nat.le_of_ble_eq_true rfl⟩ rfl rfl (Nat.le_of_ble_eq_true rfl) ⟨Nat.le_of_ble_eq_true rfl, Nat.le_of_ble_eq_true rfl⟩ dX1_ahead_18 (V_zero rfl rfl ?_)
    refine V_if_eq hG 50 dX1_ahead_21 (by decide) (fun c_6 => ?_) (fun c_6 => ?_)
    · have h := if_t c_6 h
      refine V_iconst hG (-1) rfl dX1_ahead_50 ?_
      cases h
      subst eQ
      exact V_iret hG dX1_ahead_51
    · have h := if_f c_6 h
      refine V_iload_n hG 2 rfl dX1_ahead_24 ?_
      refine V_iconst hG 2 rfl dX1_ahead_25 ?_
      obtain ⟨k_7, ek_7, h⟩ := bek1_of h
      have J_8 : ∀ (u_9 : Unit), k_7 u_9 = some (r, M') → V E G M 0 0 4 37 [(0, rf E p0), (1, .int p1), (2, .int p2), (3, .int p3)] [] Q := by
        intro u_9 h
        have h := ek_7 _ _ h
        refine V_iload_n hG 2 rfl dX1_ahead_37 ?_
        refine V_iconst hG 3 rfl dX1_ahead_38 ?_
        obtain ⟨k_10, ek_10, h⟩ := bek1_of h
        have J_11 : ∀ (u_12 : Unit), k_10 u_12 = some (r, M') → V E G M 0 0 4 52 [(0, rf E p0), (1, .int p1), (2, .int p2), (3, .int p3)] [] Q := by
          intro u_12 h
          have h := ek_10 _ _ h
          refine V_aload_n hG 0 rfl dX1_ahead_52 ?_
          obtain ⟨g_13, h⟩ := gd_of h
          obtain ⟨a_14, hr_15, h⟩ := bd_of h
          refine gf_X1_105 hN hG g_13 hr_15 dX1_ahead_53 ?_
          refine V_aload_n hG 0 rfl dX1_ahead_56 ?_
          obtain ⟨a_16, hr_17, h⟩ := bd_of h
          refine gf_X1_101 hN hG g_13 hr_17 dX1_ahead_57 ?_
          obtain ⟨g_18, h⟩ := gd_of h
          obtain ⟨M_20, hc_19, h⟩ := bd_of h
          refine V_callV hE hG (ci := 5) (As := [rf E a_16]) (rest := []) (ok_f_X6_become hE hN hc_19) g_18 (by decide) rfl hw_X1_254 hdv_X6_become ⟨Nat.le_of_ble_eq_true rfl, Nat.le_of_ble_eq_true rfl⟩ rfl rfl (Nat.le_of_ble_eq_true rfl) ⟨Nat.le_of_ble_eq_true rfl, Nat.le_of_ble_eq_true rfl⟩ dX1_ahead_60 (V_zero rfl rfl ?_)
          refine V_aload_n hG 0 rfl dX1_ahead_63 ?_
          obtain ⟨g_21, h⟩ := gd_of h
          obtain ⟨a_22, hr_23, h⟩ := bd_of h
          refine gf_X1_105 hN hG g_21 hr_23 dX1_ahead_64 ?_
          refine V_iload_n hG 1 rfl dX1_ahead_67 ?_
          obtain ⟨g_24, h⟩ := gd_of h
          obtain ⟨M_26, hc_25, h⟩ := bd_of h
          refine V_callV hE hG (ci := 5) (As := [.int p1]) (rest := []) (ok_f_X6_goesOn hE hN hc_25) g_24 (by decide) rfl hw_X1_283 hdv_X6_goesOn ⟨Nat.le_of_ble_eq_true rfl, Nat.le_of_ble_eq_true rfl⟩ rfl rfl (Nat.le_of_ble_eq_true rfl) ⟨Nat.le_of_ble_eq_true rfl, Nat.le_of_ble_eq_true rfl⟩ dX1_ahead_68 (V_zero rfl rfl ?_)
          refine V_iload_n hG 2 rfl dX1_ahead_71 ?_
          by_cases c_27 : p2 = 0
          · have h := if_t c_27 h
            refine V_tableIn hG 104 dX1_ahead_72 (by rw [c_27]; decide) (by rw [c_27]; decide) (by rw [c_27]; rfl) (by decide) ?_
            refine V_aload_n hG 0 rfl dX1_ahead_104 ?_
            obtain ⟨g_28, h⟩ := gd_of h
            obtain ⟨a_29, hr_30, h⟩ := bd_of h
            refine gf_X1_105 hN hG g_28 hr_30 dX1_ahead_105 ?_
            obtain ⟨g_31, h⟩ := gd_of h
            refine gf_X1_286 hN hG g_31 dX1_ahead_108 ?_
            refine V_aload_n hG 0 rfl dX1_ahead_111 ?_
            obtain ⟨a_32, hr_33, h⟩ := bd_of h
            refine gf_X1_101 hN hG g_28 hr_33 dX1_ahead_112 ?_
            obtain ⟨g_34, h⟩ := gd_of h
            refine gf_X1_286 hN hG g_34 dX1_ahead_115 ?_
            refine V_isub hG dX1_ahead_118 ?_
            cases h
            subst eQ
            exact V_iret hG dX1_ahead_119
          have h := if_f c_27 h
          by_cases c_35 : p2 = 1
          · have h := if_t c_35 h
            refine V_tableIn hG 120 dX1_ahead_72 (by rw [c_35]; decide) (by rw [c_35]; decide) (by rw [c_35]; rfl) (by decide) ?_
            refine V_aload_n hG 0 rfl dX1_ahead_120 ?_
            obtain ⟨g_36, h⟩ := gd_of h
            obtain ⟨a_37, hr_38, h⟩ := bd_of h
            refine gf_X1_105 hN hG g_36 hr_38 dX1_ahead_121 ?_
            obtain ⟨g_39, h⟩ := gd_of h
            refine gf_X1_289 hN hG g_39 dX1_ahead_124 ?_
            refine V_aload_n hG 0 rfl dX1_ahead_127 ?_
            obtain ⟨a_40, hr_41, h⟩ := bd_of h
            refine gf_X1_101 hN hG g_36 hr_41 dX1_ahead_128 ?_
            obtain ⟨g_42, h⟩ := gd_of h
            refine gf_X1_289 hN hG g_42 dX1_ahead_131 ?_
            refine V_isub hG dX1_ahead_134 ?_
            cases h
            subst eQ
            exact V_iret hG dX1_ahead_135
          have h := if_f c_35 h
          by_cases c_43 : p2 = 2
          · have h := if_t c_43 h
            refine V_tableIn hG 136 dX1_ahead_72 (by rw [c_43]; decide) (by rw [c_43]; decide) (by rw [c_43]; rfl) (by decide) ?_
            refine V_aload_n hG 0 rfl dX1_ahead_136 ?_
            obtain ⟨g_44, h⟩ := gd_of h
            obtain ⟨a_45, hr_46, h⟩ := bd_of h
            refine gf_X1_105 hN hG g_44 hr_46 dX1_ahead_137 ?_
            obtain ⟨g_47, h⟩ := gd_of h
            obtain ⟨a_48, hr_49, h⟩ := bd_of h
            refine gf_X1_203 hN hG g_47 hr_49 dX1_ahead_140 ?_
            refine V_iload_n hG 3 rfl dX1_ahead_143 ?_
            obtain ⟨g_50, h⟩ := gd_of h
            obtain ⟨g_51, h⟩ := gd_of h
            refine V_iaload hG g_50 g_51 dX1_ahead_144 ?_
            cases h
            subst eQ
            exact V_iret hG dX1_ahead_145
          have h := if_f c_43 h
          by_cases c_52 : p2 = 3
          · have h := if_t c_52 h
            refine V_tableIn hG 146 dX1_ahead_72 (by rw [c_52]; decide) (by rw [c_52]; decide) (by rw [c_52]; rfl) (by decide) ?_
            refine V_aload_n hG 0 rfl dX1_ahead_146 ?_
            obtain ⟨g_53, h⟩ := gd_of h
            obtain ⟨a_54, hr_55, h⟩ := bd_of h
            refine gf_X1_105 hN hG g_53 hr_55 dX1_ahead_147 ?_
            obtain ⟨g_56, h⟩ := gd_of h
            obtain ⟨a_57, hr_58, h⟩ := bd_of h
            refine gf_X1_236 hN hG g_56 hr_58 dX1_ahead_150 ?_
            refine V_iload_n hG 3 rfl dX1_ahead_153 ?_
            obtain ⟨g_59, h⟩ := gd_of h
            obtain ⟨g_60, h⟩ := gd_of h
            refine V_iaload hG g_59 g_60 dX1_ahead_154 ?_
            cases h
            subst eQ
            exact V_iret hG dX1_ahead_155
          have h := if_f c_52 h
          refine V_tableOut hG 156 dX1_ahead_72 (by have := lv_neT c_27 (show Int32.toInt 0 = 0 from rfl); have := lv_neT c_35 (show Int32.toInt 1 = 1 from rfl); have := lv_neT c_43 (show Int32.toInt 2 = 2 from rfl); have := lv_neT c_52 (show Int32.toInt 3 = 3 from rfl); omega) (by decide) ?_
          refine V_aload_n hG 0 rfl dX1_ahead_156 ?_
          obtain ⟨g_61, h⟩ := gd_of h
          obtain ⟨a_62, hr_63, h⟩ := bd_of h
          refine gf_X1_105 hN hG g_61 hr_63 dX1_ahead_157 ?_
          obtain ⟨g_64, h⟩ := gd_of h
          refine gf_X1_292 hN hG g_64 dX1_ahead_160 ?_
          obtain ⟨r_66, hc_65, h⟩ := bd_of h
          refine V_callS hE hG (As := [.int (mI M_26 a_62 7)]) (rest := []) (ok_f_J18_bitCount hE hN hc_65) hw_X1_295 hdc_J18_bitCount ⟨Nat.le_of_ble_eq_true rfl, Nat.le_of_ble_eq_true rfl⟩ rfl rfl (Nat.le_of_ble_eq_true rfl) ⟨Nat.le_of_ble_eq_true rfl, Nat.le_of_ble_eq_true rfl⟩ dX1_ahead_163 (V_zero rfl rfl ?_)
          cases h
          subst eQ
          exact V_iret hG dX1_ahead_166
        refine V_icmp_ne hG 52 dX1_ahead_39 (by decide) (fun c_67 => ?_) (fun c_67 => ?_)
        · have h := if_f c_67 h
          exact J_11 (()) h
        · have h := if_t c_67 h
          refine V_aload_n hG 0 rfl dX1_ahead_42 ?_
          refine V_iload_n hG 3 rfl dX1_ahead_43 ?_
          obtain ⟨g_68, h⟩ := gd_of h
          obtain ⟨r_70, hc_69, h⟩ := bd_of h
          refine V_callV hE hG (ci := 0) (As := [.int p3]) (rest := []) (ok_f_X1_isTrough hE hN hc_69) g_68 (by decide) rfl hw_X1_233 hdv_X1_isTrough ⟨Nat.le_of_ble_eq_true rfl, Nat.le_of_ble_eq_true rfl⟩ rfl rfl (Nat.le_of_ble_eq_true rfl) ⟨Nat.le_of_ble_eq_true rfl, Nat.le_of_ble_eq_true rfl⟩ dX1_ahead_44 (V_zero rfl rfl ?_)
          refine V_if_ne hG 52 dX1_ahead_47 (by decide) (fun c_71 => ?_) (fun c_71 => ?_)
          · have h := if_f c_71 h
            exact J_11 (()) h
          · have h := if_t c_71 h
            refine V_iconst hG (-1) rfl dX1_ahead_50 ?_
            cases h
            subst eQ
            exact V_iret hG dX1_ahead_51
      refine V_icmp_ne hG 37 dX1_ahead_26 (by decide) (fun c_72 => ?_) (fun c_72 => ?_)
      · have h := if_f c_72 h
        exact J_8 (()) h
      · have h := if_t c_72 h
        refine V_aload_n hG 0 rfl dX1_ahead_29 ?_
        refine V_iload_n hG 3 rfl dX1_ahead_30 ?_
        obtain ⟨g_73, h⟩ := gd_of h
        obtain ⟨r_75, hc_74, h⟩ := bd_of h
        refine V_callV hE hG (ci := 0) (As := [.int p3]) (rest := []) (ok_f_X1_isHorse hE hN hc_74) g_73 (by decide) rfl hw_X1_186 hdv_X1_isHorse ⟨Nat.le_of_ble_eq_true rfl, Nat.le_of_ble_eq_true rfl⟩ rfl rfl (Nat.le_of_ble_eq_true rfl) ⟨Nat.le_of_ble_eq_true rfl, Nat.le_of_ble_eq_true rfl⟩ dX1_ahead_31 (V_zero rfl rfl ?_)
        refine V_if_eq hG 50 dX1_ahead_34 (by decide) (fun c_76 => ?_) (fun c_76 => ?_)
        · have h := if_t c_76 h
          refine V_iconst hG (-1) rfl dX1_ahead_50 ?_
          cases h
          subst eQ
          exact V_iret hG dX1_ahead_51
        · have h := if_f c_76 h
          exact J_8 (()) h

def f_X1_chance_b2 (N : Nat) (x7_17 : Int32) (x6_18 : Int32) (x5_19 : Int32) (p0 : Nat) (p1 : Int32) (p2 : Int32) (p3 : Int32) (p4 : Int32) (x8_49 : Int32) (S_50 : Mem) : Option ((Int32 × Mem) ⊕ (Int32 × Mem)) :=
if p2 ≤ x8_49 then (
some (.inl (x8_49, S_50)))
else (
gd (mT S_50 p0 = 0) (
bd (mR S_50 p0 10) fun (a_76 : Nat) =>
gd (mT S_50 a_76 = 5) (
bd (f_X6_pass N a_76 1 S_50) fun (M_80 : Mem) =>
be (x8_49 + 1) fun (x8_81 : Int32) =>
some (.inr (x8_81, M_80)))))
def f_X1_chance_b1 (N : Nat) (p0 : Nat) (p1 : Int32) (p2 : Int32) (p3 : Int32) (p4 : Int32) (x7_17 : Int32) (x6_18 : Int32) (x5_19 : Int32) (S_20 : Mem) : Option ((Int32 × Int32 × Int32 × Mem) ⊕ (Int32 × Int32 × Int32 × Mem)) :=
if 10 ≤ x7_17 then (
some (.inl (x7_17, x6_18, x5_19, S_20)))
else (
gd (mT S_20 p0 = 0) (
bd (mR S_20 p0 10) fun (a_30 : Nat) =>
bd (mR S_20 p0 9) fun (a_32 : Nat) =>
gd (mT S_20 a_30 = 5) (
bd (f_X6_become N a_30 a_32 S_20) fun (M_36 : Mem) =>
gd (mT M_36 p0 = 0) (
bd (mR M_36 p0 10) fun (a_38 : Nat) =>
gd (mT M_36 a_38 = 5) (
be (sI M_36 a_38 11 x6_18) fun (M_41 : Mem) =>
bd2 (lp N (fun s_73 : Int32 × Mem => f_X1_chance_b2 N x7_17 x6_18 x5_19 p0 p1 p2 p3 p4 s_73.1 s_73.2) (0, M_41)) fun (x8_51 : Int32) (S_52 : Mem) =>
gd (mT S_52 p0 = 0) (
bd (mR S_52 p0 10) fun (a_56 : Nat) =>
gd (mT S_52 a_56 = 5) (
be (mI S_52 a_56 11) fun (x6_59 : Int32) =>
bd (mR S_52 p0 10) fun (a_60 : Nat) =>
gd (mT S_52 a_60 = 5) (
bd (mR S_52 a_60 5) fun (a_63 : Nat) =>
gd (mT S_52 a_63 = 100) (
gd (inb p3 (mLn S_52 a_63)) (
be (if mI S_52 a_63 (Int32.toNatClampNeg p3) < p4 then (
0)
else (
1) : Int32) fun (y_70 : Int32) =>
be (x5_19 + y_70) fun (x5_71 : Int32) =>
be (x7_17 + 1) fun (x7_72 : Int32) =>
some (.inr (x7_72, x6_59, x5_71, S_52))))))))))))
def f_X1_chance (N : Nat) (p0 : Nat) (p1 : Int32) (p2 : Int32) (p3 : Int32) (p4 : Int32) (M : Mem) : Option (Int32 × Mem) :=
if p1 < 0 then (
some ((-1), M))
else (
bd (f_X1_in (Int32.toInt64 p2) 1 99 M) fun (r_3 : Int32) =>
if r_3 = 0 then (
some ((-1), M))
else (
gd (mT M p0 = 0) (
bd (f_X1_isTrough p0 p3 M) fun (r_7 : Int32) =>
if r_7 = 0 then (
some ((-1), M))
else (
bd (f_X1_in (Int32.toInt64 p4) 0 99 M) fun (r_10 : Int32) =>
if r_10 = 0 then (
some ((-1), M))
else (
bd4 (lp N (fun s_27 : Int32 × Int32 × Int32 × Mem => f_X1_chance_b1 N p0 p1 p2 p3 p4 s_27.1 s_27.2.1 s_27.2.2.1 s_27.2.2.2) (0, p1, 0, M)) fun (x7_21 : Int32) (x6_22 : Int32) (x5_23 : Int32) (S_24 : Mem) =>
some (x5_23, S_24))))))
def rm_f_X1_chance : Room := { frames := 205, cells := 0, slots := 0, locals := 4121 }
theorem ok_f_X1_chance {E : En} (hE : EOk E) (hN : NOk E) {N : Nat} {p0 : Nat} {p1 : Int32} {p2 : Int32} {p3 : Int32} {p4 : Int32} {M : Mem} {r : Int32} {M' : Mem} (h : f_X1_chance N p0 p1 p2 p3 p4 M = some (r, M')) : CM E yX1_chance cX1_chance 9 (some .int) rm_f_X1_chance [rf E p0, .int p1, .int p2, .int p3, .int p4] M (some (.int r)) M' := by
  unfold f_X1_chance at h
  refine CM_introX (own := RX1) rfl (by decide +kernel) (Nat.le_of_ble_eq_true rfl) rfl (fun G hG hEn hI => ?_)
  obtain ⟨Q, eQ⟩ : ∃ Q, Q = QM E G (some (.int r)) M' 0 0 := ⟨_, rfl⟩
  show V E G M 0 0 9 0 [(0, rf E p0), (1, .int p1), (2, .int p2), (3, .int p3), (4, .int p4)] [] (QM E G (some (.int r)) M' 0 0)
  rw [← eQ]
  refine V_iload_n hG 1 rfl dX1_chance_0 ?_
  refine V_if_lt hG 37 dX1_chance_1 (by decide) (fun c_1 => ?_) (fun c_1 => ?_)
  · have h := if_t c_1 h
    refine V_iconst hG (-1) rfl dX1_chance_37 ?_
    cases h
    subst eQ
    exact V_iret hG dX1_chance_38
  · have h := if_f c_1 h
    refine V_iload_n hG 2 rfl dX1_chance_4 ?_
    refine V_i2l hG dX1_chance_5 ?_
    refine V_lconst hG 1 rfl dX1_chance_6 ?_
    refine V_ldc2 hG q1108 dX1_chance_7 ?_
    obtain ⟨r_3, hc_2, h⟩ := bd_of h
    refine V_callS hE hG (As := [.long (Int32.toInt64 p2), .long 1, .long 99]) (rest := []) (ok_f_X1_in hE hN hc_2) hw_X1_144 hdc_X1_in ⟨Nat.le_of_ble_eq_true rfl, Nat.le_of_ble_eq_true rfl⟩ rfl rfl (Nat.le_of_ble_eq_true rfl) ⟨Nat.le_of_ble_eq_true rfl, Nat.le_of_ble_eq_true rfl⟩ dX1_chance_10 (V_zero rfl rfl ?_)
    refine V_if_eq hG 37 dX1_chance_13 (by decide) (fun c_4 => ?_) (fun c_4 => ?_)
    · have h := if_t c_4 h
      refine V_iconst hG (-1) rfl dX1_chance_37 ?_
      cases h
      subst eQ
      exact V_iret hG dX1_chance_38
    · have h := if_f c_4 h
      refine V_aload_n hG 0 rfl dX1_chance_16 ?_
      refine V_iload_n hG 3 rfl dX1_chance_17 ?_
      obtain ⟨g_5, h⟩ := gd_of h
      obtain ⟨r_7, hc_6, h⟩ := bd_of h
      refine V_callV hE hG (ci := 0) (As := [.int p3]) (rest := []) (ok_f_X1_isTrough hE hN hc_6) g_5 (by decide) rfl hw_X1_233 hdv_X1_isTrough ⟨Nat.le_of_ble_eq_true rfl, Nat.le_of_ble_eq_true rfl⟩ rfl rfl (Nat.le_of_ble_eq_true rfl) ⟨Nat.le_of_ble_eq_true rfl, Nat.le_of_ble_eq_true rfl⟩ dX1_chance_18 (V_zero rfl rfl ?_)
      refine V_if_eq hG 37 dX1_chance_21 (by decide) (fun c_8 => ?_) (fun c_8 => ?_)
      · have h := if_t c_8 h
        refine V_iconst hG (-1) rfl dX1_chance_37 ?_
        cases h
        subst eQ
        exact V_iret hG dX1_chance_38
      · have h := if_f c_8 h
        refine V_iload hG 4 rfl dX1_chance_24 ?_
        refine V_i2l hG dX1_chance_26 ?_
        refine V_lconst hG 0 rfl dX1_chance_27 ?_
        refine V_ldc2 hG q1108 dX1_chance_28 ?_
        obtain ⟨r_10, hc_9, h⟩ := bd_of h
        refine V_callS hE hG (As := [.long (Int32.toInt64 p4), .long 0, .long 99]) (rest := []) (ok_f_X1_in hE hN hc_9) hw_X1_144 hdc_X1_in ⟨Nat.le_of_ble_eq_true rfl, Nat.le_of_ble_eq_true rfl⟩ rfl rfl (Nat.le_of_ble_eq_true rfl) ⟨Nat.le_of_ble_eq_true rfl, Nat.le_of_ble_eq_true rfl⟩ dX1_chance_31 (V_zero rfl rfl ?_)
        refine V_if_ne hG 39 dX1_chance_34 (by decide) (fun c_11 => ?_) (fun c_11 => ?_)
        · have h := if_f c_11 h
          refine V_iconst hG 0 rfl dX1_chance_39 ?_
          refine V_istore hG [(5, .int 0), (0, rf E p0), (1, .int p1), (2, .int p2), (3, .int p3), (4, .int p4)] dX1_chance_40 (Nat.le_of_ble_eq_true rfl) rfl ?_
          refine V_iload_n hG 2 rfl dX1_chance_42 ?_
          refine V_istore hG [(6, .int p1), (5, .int 0), (0, rf E p0), (1, .int p1), (2, .int p2), (3, .int p3), (4, .int p4)] dX1_chance_43 (Nat.le_of_ble_eq_true rfl) rfl ?_
          refine V_iconst hG 0 rfl dX1_chance_45 ?_
          refine V_istore hG [(7, .int 0), (6, .int p1), (5, .int 0), (0, rf E p0), (1, .int p1), (2, .int p2), (3, .int p3), (4, .int p4)] dX1_chance_46 (Nat.le_of_ble_eq_true rfl) rfl ?_
          obtain ⟨x7_21, x6_22, x5_23, S_24, hL_25, h⟩ := bd4_of h
          have J_16 : ∀ q_26 : Int32 × Int32 × Int32 × Mem, q_26 = (x7_21, x6_22, x5_23, S_24) → V E G q_26.2.2.2 0 0 9 137 [(7, .int q_26.1), (6, .int q_26.2.1), (5, .int q_26.2.2.1), (0, rf E p0), (1, .int p1), (2, .int p2), (3, .int p3), (4, .int p4)] [] Q := by
            intro q_26 e9
            subst q_26
            show V E G S_24 0 0 9 137 [(7, .int x7_21), (6, .int x6_22), (5, .int x5_23), (0, rf E p0), (1, .int p1), (2, .int p2), (3, .int p3), (4, .int p4)] [] Q
            refine V_iload hG 2 rfl dX1_chance_137 ?_
            cases h
            subst eQ
            exact V_iret hG dX1_chance_139
          refine lp_walk (W := fun s_27 : Int32 × Int32 × Int32 × Mem => V E G s_27.2.2.2 0 0 9 48 [(7, .int s_27.1), (6, .int s_27.2.1), (5, .int s_27.2.2.1), (0, rf E p0), (1, .int p1), (2, .int p2), (3, .int p3), (4, .int p4)] [] Q) ?_ N (0, p1, 0, M) hL_25
          intro s_27 b_12 hb_13 hk_14 hx_15
          obtain ⟨x7_17, x6_18, x5_19, S_20⟩ := s_27
          have hb_13 : f_X1_chance_b1 N p0 p1 p2 p3 p4 x7_17 x6_18 x5_19 S_20 = some b_12 := hb_13
          unfold f_X1_chance_b1 at hb_13
          show V E G S_20 0 0 9 48 [(7, .int x7_17), (6, .int x6_18), (5, .int x5_19), (0, rf E p0), (1, .int p1), (2, .int p2), (3, .int p3), (4, .int p4)] [] Q
          refine V_iload hG 0 rfl dX1_chance_48 ?_
          refine V_bipush hG 10 (by decide) dX1_chance_50 ?_
          refine V_icmp_ge hG 137 dX1_chance_52 (by decide) (fun c_28 => ?_) (fun c_28 => ?_)
          · have hb_13 := if_t c_28 hb_13
            cases hb_13
            exact J_16 _ (hx_15 _ rfl)
          · have hb_13 := if_f c_28 hb_13
            refine V_aload_n hG 3 rfl dX1_chance_55 ?_
            obtain ⟨g_29, hb_13⟩ := gd_of hb_13
            obtain ⟨a_30, hr_31, hb_13⟩ := bd_of hb_13
            refine gf_X1_105 hN hG g_29 hr_31 dX1_chance_56 ?_
            refine V_aload_n hG 3 rfl dX1_chance_59 ?_
            obtain ⟨a_32, hr_33, hb_13⟩ := bd_of hb_13
            refine gf_X1_101 hN hG g_29 hr_33 dX1_chance_60 ?_
            obtain ⟨g_34, hb_13⟩ := gd_of hb_13
            obtain ⟨M_36, hc_35, hb_13⟩ := bd_of hb_13
            refine V_callV hE hG (ci := 5) (As := [rf E a_32]) (rest := []) (ok_f_X6_become hE hN hc_35) g_34 (by decide) rfl hw_X1_254 hdv_X6_become ⟨Nat.le_of_ble_eq_true rfl, Nat.le_of_ble_eq_true rfl⟩ rfl rfl (Nat.le_of_ble_eq_true rfl) ⟨Nat.le_of_ble_eq_true rfl, Nat.le_of_ble_eq_true rfl⟩ dX1_chance_63 (V_zero rfl rfl ?_)
            refine V_aload_n hG 3 rfl dX1_chance_66 ?_
            obtain ⟨g_37, hb_13⟩ := gd_of hb_13
            obtain ⟨a_38, hr_39, hb_13⟩ := bd_of hb_13
            refine gf_X1_105 hN hG g_37 hr_39 dX1_chance_67 ?_
            refine V_iload hG 1 rfl dX1_chance_70 ?_
            obtain ⟨g_40, hb_13⟩ := gd_of hb_13
            obtain ⟨M_41, eM_41, hb_13⟩ := be_of hb_13
            refine pf_X1_400 hN hG g_40 eM_41 dX1_chance_72 ?_
            have g_42 : mT M_41 p0 = 0 := by rw [eM_41]; exact g_37
            have g_43 : mT M_41 a_38 = 5 := by rw [eM_41]; exact g_40
            refine V_iconst hG 0 rfl dX1_chance_75 ?_
            refine V_istore hG [(8, .int 0), (7, .int x7_17), (6, .int x6_18), (5, .int x5_19), (0, rf E p0), (1, .int p1), (2, .int p2), (3, .int p3), (4, .int p4)] dX1_chance_76 (Nat.le_of_ble_eq_true rfl) rfl ?_
            obtain ⟨x8_51, S_52, hL_53, hb_13⟩ := bd2_of hb_13
            have J_48 : ∀ q_54 : Int32 × Mem, q_54 = (x8_51, S_52) → V E G q_54.2 0 0 9 98 [(8, .int q_54.1), (7, .int x7_17), (6, .int x6_18), (5, .int x5_19), (0, rf E p0), (1, .int p1), (2, .int p2), (3, .int p3), (4, .int p4)] [] Q := by
              intro q_54 e9
              subst q_54
              show V E G S_52 0 0 9 98 [(8, .int x8_51), (7, .int x7_17), (6, .int x6_18), (5, .int x5_19), (0, rf E p0), (1, .int p1), (2, .int p2), (3, .int p3), (4, .int p4)] [] Q
              refine V_aload_n hG 4 rfl dX1_chance_98 ?_
              obtain ⟨g_55, hb_13⟩ := gd_of hb_13
              obtain ⟨a_56, hr_57, hb_13⟩ := bd_of hb_13
              refine gf_X1_105 hN hG g_55 hr_57 dX1_chance_99 ?_
              obtain ⟨g_58, hb_13⟩ := gd_of hb_13
              refine gf_X1_400 hN hG g_58 dX1_chance_102 ?_
              obtain ⟨x6_59, ex6_59, hb_13⟩ := be_of hb_13
              refine V_topi ex6_59 ?_
              refine V_istore hG [(6, .int x6_59), (8, .int x8_51), (7, .int x7_17), (5, .int x5_19), (0, rf E p0), (1, .int p1), (2, .int p2), (3, .int p3), (4, .int p4)] dX1_chance_105 (Nat.le_of_ble_eq_true rfl) rfl ?_
              refine V_iload hG 3 rfl dX1_chance_107 ?_
              refine V_aload_n hG 4 rfl dX1_chance_109 ?_
              obtain ⟨a_60, hr_61, hb_13⟩ := bd_of hb_13
              refine gf_X1_105 hN hG g_55 hr_61 dX1_chance_110 ?_
              obtain ⟨g_62, hb_13⟩ := gd_of hb_13
              obtain ⟨a_63, hr_64, hb_13⟩ := bd_of hb_13
              refine gf_X1_236 hN hG g_62 hr_64 dX1_chance_113 ?_
              refine V_iload_n hG 7 rfl dX1_chance_116 ?_
              obtain ⟨g_65, hb_13⟩ := gd_of hb_13
              obtain ⟨g_66, hb_13⟩ := gd_of hb_13
              refine V_iaload hG g_65 g_66 dX1_chance_117 ?_
              refine V_iload hG 8 rfl dX1_chance_118 ?_
              obtain ⟨t_67, et_67, hb_13⟩ := be_of hb_13
              have J_68 : ∀ y_70 : Int32, y_70 = t_67 → V E G S_52 0 0 9 128 [(6, .int x6_59), (8, .int x8_51), (7, .int x7_17), (5, .int x5_19), (0, rf E p0), (1, .int p1), (2, .int p2), (3, .int p3), (4, .int p4)] [.int y_70, .int x5_19] Q := by
                intro y_70 ey
                subst ey
                refine V_iadd hG dX1_chance_128 ?_
                obtain ⟨x5_71, ex5_71, hb_13⟩ := be_of hb_13
                refine V_topi ex5_71 ?_
                refine V_istore hG [(5, .int x5_71), (6, .int x6_59), (8, .int x8_51), (7, .int x7_17), (0, rf E p0), (1, .int p1), (2, .int p2), (3, .int p3), (4, .int p4)] dX1_chance_129 (Nat.le_of_ble_eq_true rfl) rfl ?_
                obtain ⟨x7_72, ex7_72, hb_13⟩ := be_of hb_13
                refine V_iinc hG 3 x7_72 rfl (by rw [ex7_72]; rfl) [(7, .int x7_72), (5, .int x5_71), (6, .int x6_59), (8, .int x8_51), (0, rf E p0), (1, .int p1), (2, .int p2), (3, .int p3), (4, .int p4)] dX1_chance_131 (Nat.le_of_ble_eq_true rfl) rfl ?_
                refine V_goto hG 48 dX1_chance_134 (by decide) ?_
                cases hb_13
                exact V_lv [0, 2, 1, 4, 5, 6, 7, 8] rfl (hk_14 _ rfl)
              refine V_icmp_lt hG 127 dX1_chance_120 (by decide) (fun c_69 => ?_) (fun c_69 => ?_)
              · refine V_iconst hG 0 rfl dX1_chance_127 ?_
                exact J_68 _ (by rw [et_67, if_pos c_69])
              · refine V_iconst hG 1 rfl dX1_chance_123 ?_
                refine V_goto hG 128 dX1_chance_124 (by decide) ?_
                exact J_68 _ (by rw [et_67, if_neg c_69])
            refine lp_walk (W := fun s_73 : Int32 × Mem => V E G s_73.2 0 0 9 78 [(8, .int s_73.1), (7, .int x7_17), (6, .int x6_18), (5, .int x5_19), (0, rf E p0), (1, .int p1), (2, .int p2), (3, .int p3), (4, .int p4)] [] Q) ?_ N (0, M_41) hL_53
            intro s_73 b_44 hb_45 hk_46 hx_47
            obtain ⟨x8_49, S_50⟩ := s_73
            have hb_45 : f_X1_chance_b2 N x7_17 x6_18 x5_19 p0 p1 p2 p3 p4 x8_49 S_50 = some b_44 := hb_45
            unfold f_X1_chance_b2 at hb_45
            show V E G S_50 0 0 9 78 [(8, .int x8_49), (7, .int x7_17), (6, .int x6_18), (5, .int x5_19), (0, rf E p0), (1, .int p1), (2, .int p2), (3, .int p3), (4, .int p4)] [] Q
            refine V_iload hG 0 rfl dX1_chance_78 ?_
            refine V_iload_n hG 6 rfl dX1_chance_80 ?_
            refine V_icmp_ge hG 98 dX1_chance_81 (by decide) (fun c_74 => ?_) (fun c_74 => ?_)
            · have hb_45 := if_t c_74 hb_45
              cases hb_45
              exact J_48 _ (hx_47 _ rfl)
            · have hb_45 := if_f c_74 hb_45
              refine V_aload_n hG 4 rfl dX1_chance_84 ?_
              obtain ⟨g_75, hb_45⟩ := gd_of hb_45
              obtain ⟨a_76, hr_77, hb_45⟩ := bd_of hb_45
              refine gf_X1_105 hN hG g_75 hr_77 dX1_chance_85 ?_
              refine V_iconst hG 1 rfl dX1_chance_88 ?_
              obtain ⟨g_78, hb_45⟩ := gd_of hb_45
              obtain ⟨M_80, hc_79, hb_45⟩ := bd_of hb_45
              refine V_callV hE hG (ci := 5) (As := [.int 1]) (rest := []) (ok_f_X6_pass hE hN hc_79) g_78 (by decide) rfl hw_X1_277 hdv_X6_pass ⟨Nat.le_of_ble_eq_true rfl, Nat.le_of_ble_eq_true rfl⟩ rfl rfl (Nat.le_of_ble_eq_true rfl) ⟨Nat.le_of_ble_eq_true rfl, Nat.le_of_ble_eq_true rfl⟩ dX1_chance_89 (V_zero rfl rfl ?_)
              obtain ⟨x8_81, ex8_81, hb_45⟩ := be_of hb_45
              refine V_iinc hG 0 x8_81 rfl (by rw [ex8_81]; rfl) [(8, .int x8_81), (7, .int x7_17), (6, .int x6_18), (5, .int x5_19), (0, rf E p0), (1, .int p1), (2, .int p2), (3, .int p3), (4, .int p4)] dX1_chance_92 (Nat.le_of_ble_eq_true rfl) rfl ?_
              refine V_goto hG 78 dX1_chance_95 (by decide) ?_
              cases hb_45
              exact hk_46 _ rfl
        · have h := if_t c_11 h
          refine V_iconst hG (-1) rfl dX1_chance_37 ?_
          cases h
          subst eQ
          exact V_iret hG dX1_chance_38

def f_X1_falls_b1 (N : Nat) (p0 : Nat) (p1 : Int32) (x2_17 : Int32) (S_18 : Mem) : Option (((Int32 × Mem) ⊕ (Int32 × Mem)) ⊕ (Int32 × Mem)) :=
if 199 < x2_17 then (
some (.inl (.inl (x2_17, S_18))))
else (
gd (mT S_18 p0 = 0) (
bd (mR S_18 p0 10) fun (a_29 : Nat) =>
gd (mT S_18 a_29 = 5) (
bd (f_X6_isOn a_29 p1 S_18) fun (r_33 : Int32) =>
if r_33 = 0 then (
some (.inl (.inr (x2_17, S_18))))
else (
bd (mR S_18 p0 10) fun (a_35 : Nat) =>
gd (mT S_18 a_35 = 5) (
bd (f_X6_pass N a_35 0 S_18) fun (M_39 : Mem) =>
be (x2_17 + 1) fun (x2_40 : Int32) =>
some (.inr (x2_40, M_39)))))))
def f_X1_falls (N : Nat) (p0 : Nat) (p1 : Int32) (M : Mem) : Option (Int32 × Mem) :=
gd (mT M p0 = 0) (
bd (f_X1_isHorse p0 p1 M) fun (r_3 : Int32) =>
if r_3 = 0 then (
some ((-1), M))
else (
bd (mR M p0 10) fun (a_5 : Nat) =>
bd (mR M p0 9) fun (a_7 : Nat) =>
gd (mT M a_5 = 5) (
bd (f_X6_become N a_5 a_7 M) fun (M_11 : Mem) =>
bx2 (lp N (fun s_26 : Int32 × Mem => f_X1_falls_b1 N p0 p1 s_26.1 s_26.2) (0, M_11)) (fun (x2_20 : Int32) (S_21 : Mem) =>
some ((-2), S_21)) (fun (w_43 : Int32 × Mem) => some w_43))))
def rm_f_X1_falls : Room := { frames := 205, cells := 0, slots := 0, locals := 4121 }
theorem ok_f_X1_falls {E : En} (hE : EOk E) (hN : NOk E) {N : Nat} {p0 : Nat} {p1 : Int32} {M : Mem} {r : Int32} {M' : Mem} (h : f_X1_falls N p0 p1 M = some (r, M')) : CM E yX1_falls cX1_falls 3 (some .int) rm_f_X1_falls [rf E p0, .int p1] M (some (.int r)) M' := by
  unfold f_X1_falls at h
  refine CM_introX (own := RX1) rfl (by decide +kernel) (Nat.le_of_ble_eq_true rfl) rfl (fun G hG hEn hI => ?_)
  obtain ⟨Q, eQ⟩ : ∃ Q, Q = QM E G (some (.int r)) M' 0 0 := ⟨_, rfl⟩
  show V E G M 0 0 3 0 [(0, rf E p0), (1, .int p1)] [] (QM E G (some (.int r)) M' 0 0)
  rw [← eQ]
  refine V_aload_n hG 0 rfl dX1_falls_0 ?_
  refine V_iload_n hG 1 rfl dX1_falls_1 ?_
  obtain ⟨g_1, h⟩ := gd_of h
  obtain ⟨r_3, hc_2, h⟩ := bd_of h
  refine V_callV hE hG (ci := 0) (As := [.int p1]) (rest := []) (ok_f_X1_isHorse hE hN hc_2) g_1 (by decide) rfl hw_X1_186 hdv_X1_isHorse ⟨Nat.le_of_ble_eq_true rfl, Nat.le_of_ble_eq_true rfl⟩ rfl rfl (Nat.le_of_ble_eq_true rfl) ⟨Nat.le_of_ble_eq_true rfl, Nat.le_of_ble_eq_true rfl⟩ dX1_falls_2 (V_zero rfl rfl ?_)
  refine V_if_ne hG 10 dX1_falls_5 (by decide) (fun c_4 => ?_) (fun c_4 => ?_)
  · have h := if_f c_4 h
    refine V_aload_n hG 0 rfl dX1_falls_10 ?_
    obtain ⟨a_5, hr_6, h⟩ := bd_of h
    refine gf_X1_105 hN hG g_1 hr_6 dX1_falls_11 ?_
    refine V_aload_n hG 0 rfl dX1_falls_14 ?_
    obtain ⟨a_7, hr_8, h⟩ := bd_of h
    refine gf_X1_101 hN hG g_1 hr_8 dX1_falls_15 ?_
    obtain ⟨g_9, h⟩ := gd_of h
    obtain ⟨M_11, hc_10, h⟩ := bd_of h
    refine V_callV hE hG (ci := 5) (As := [rf E a_7]) (rest := []) (ok_f_X6_become hE hN hc_10) g_9 (by decide) rfl hw_X1_254 hdv_X6_become ⟨Nat.le_of_ble_eq_true rfl, Nat.le_of_ble_eq_true rfl⟩ rfl rfl (Nat.le_of_ble_eq_true rfl) ⟨Nat.le_of_ble_eq_true rfl, Nat.le_of_ble_eq_true rfl⟩ dX1_falls_18 (V_zero rfl rfl ?_)
    refine V_iconst hG 0 rfl dX1_falls_21 ?_
    refine V_istore_n hG rfl [(2, .int 0), (0, rf E p0), (1, .int p1)] dX1_falls_22 (Nat.le_of_ble_eq_true rfl) rfl ?_
    obtain ⟨rr_23, hL_22, hl_24, hr_19⟩ := bx2_of h
    have J_16 : ∀ q_25 : Int32 × Mem, Sum.inl q_25 = rr_23 → V E G q_25.2 0 0 3 57 [(2, .int q_25.1), (0, rf E p0), (1, .int p1)] [] Q := by
      intro q_25 e9
      obtain ⟨x2_20, S_21⟩ := q_25
      have h := hl_24 x2_20 S_21 e9.symm
      show V E G S_21 0 0 3 57 [(2, .int x2_20), (0, rf E p0), (1, .int p1)] [] Q
      refine V_bipush hG (-2) (by decide) dX1_falls_57 ?_
      cases h
      subst eQ
      exact V_iret hG dX1_falls_59
    refine lp_walk (W := fun s_26 : Int32 × Mem => V E G s_26.2 0 0 3 23 [(2, .int s_26.1), (0, rf E p0), (1, .int p1)] [] Q) ?_ N (0, M_11) hL_22
    intro s_26 b_12 hb_13 hk_14 hx_15
    obtain ⟨x2_17, S_18⟩ := s_26
    have hb_13 : f_X1_falls_b1 N p0 p1 x2_17 S_18 = some b_12 := hb_13
    unfold f_X1_falls_b1 at hb_13
    show V E G S_18 0 0 3 23 [(2, .int x2_17), (0, rf E p0), (1, .int p1)] [] Q
    refine V_iload_n hG 0 rfl dX1_falls_23 ?_
    refine V_sipush hG 199 (by decide) dX1_falls_24 ?_
    refine V_icmp_gt hG 57 dX1_falls_27 (by decide) (fun c_27 => ?_) (fun c_27 => ?_)
    · have hb_13 := if_t c_27 hb_13
      cases hb_13
      exact J_16 _ (hx_15 _ rfl)
    · have hb_13 := if_f c_27 hb_13
      refine V_aload_n hG 1 rfl dX1_falls_30 ?_
      obtain ⟨g_28, hb_13⟩ := gd_of hb_13
      obtain ⟨a_29, hr_30, hb_13⟩ := bd_of hb_13
      refine gf_X1_105 hN hG g_28 hr_30 dX1_falls_31 ?_
      refine V_iload_n hG 2 rfl dX1_falls_34 ?_
      obtain ⟨g_31, hb_13⟩ := gd_of hb_13
      obtain ⟨r_33, hc_32, hb_13⟩ := bd_of hb_13
      refine V_callV hE hG (ci := 5) (As := [.int p1]) (rest := []) (ok_f_X6_isOn hE hN hc_32) g_31 (by decide) rfl hw_X1_219 hdv_X6_isOn ⟨Nat.le_of_ble_eq_true rfl, Nat.le_of_ble_eq_true rfl⟩ rfl rfl (Nat.le_of_ble_eq_true rfl) ⟨Nat.le_of_ble_eq_true rfl, Nat.le_of_ble_eq_true rfl⟩ dX1_falls_35 (V_zero rfl rfl ?_)
      refine V_if_ne hG 43 dX1_falls_38 (by decide) (fun c_34 => ?_) (fun c_34 => ?_)
      · have hb_13 := if_f c_34 hb_13
        refine V_aload_n hG 1 rfl dX1_falls_43 ?_
        obtain ⟨a_35, hr_36, hb_13⟩ := bd_of hb_13
        refine gf_X1_105 hN hG g_28 hr_36 dX1_falls_44 ?_
        refine V_iconst hG 0 rfl dX1_falls_47 ?_
        obtain ⟨g_37, hb_13⟩ := gd_of hb_13
        obtain ⟨M_39, hc_38, hb_13⟩ := bd_of hb_13
        refine V_callV hE hG (ci := 5) (As := [.int 0]) (rest := []) (ok_f_X6_pass hE hN hc_38) g_37 (by decide) rfl hw_X1_277 hdv_X6_pass ⟨Nat.le_of_ble_eq_true rfl, Nat.le_of_ble_eq_true rfl⟩ rfl rfl (Nat.le_of_ble_eq_true rfl) ⟨Nat.le_of_ble_eq_true rfl, Nat.le_of_ble_eq_true rfl⟩ dX1_falls_48 (V_zero rfl rfl ?_)
        obtain ⟨x2_40, ex2_40, hb_13⟩ := be_of hb_13
        refine V_iinc hG 0 x2_40 rfl (by rw [ex2_40]; rfl) [(2, .int x2_40), (0, rf E p0), (1, .int p1)] dX1_falls_51 (Nat.le_of_ble_eq_true rfl) rfl ?_
        refine V_goto hG 23 dX1_falls_54 (by decide) ?_
        cases hb_13
        exact hk_14 _ rfl
      · have hb_13 := if_t c_34 hb_13
        refine V_iload_n hG 0 rfl dX1_falls_41 ?_
        cases hb_13
        have e_41 := hx_15 _ rfl
        have h_42 : some (x2_17, S_18) = some (r, M') := hr_19 _ e_41.symm
        cases h_42
        subst eQ
        exact V_iret hG dX1_falls_42
  · have h := if_t c_4 h
    refine V_iconst hG (-1) rfl dX1_falls_8 ?_
    cases h
    subst eQ
    exact V_iret hG dX1_falls_9

def f_X1_go_b1 (N : Nat) (p0 : Nat) (p1 : Int32) (x2_17 : Int32) (S_18 : Mem) : Option ((Int32 × Mem) ⊕ (Int32 × Mem)) :=
if p1 ≤ x2_17 then (
some (.inl (x2_17, S_18)))
else (
gd (mT S_18 p0 = 0) (
bd (mR S_18 p0 9) fun (a_30 : Nat) =>
gd (mT S_18 a_30 = 5) (
bd (f_X6_pass N a_30 1 S_18) fun (M_34 : Mem) =>
be (x2_17 + 1) fun (x2_35 : Int32) =>
some (.inr (x2_35, M_34)))))
def f_X1_go (N : Nat) (p0 : Nat) (p1 : Int32) (M : Mem) : Option (Int32 × Mem) :=
bd (f_X1_in (Int32.toInt64 p1) 0 200 M) fun (r_2 : Int32) =>
if r_2 = 0 then (
some ((-1), M))
else (
gd (mT M p0 = 0) (
bd (mR M p0 9) fun (a_5 : Nat) =>
gd (mT M a_5 = 5) (
if (mI M a_5 6) + p1 ≤ 9000 then (
bd (if p1 ≤ 0 then (
some M)
else (
be (sI M p0 4 0) fun (M_37 : Mem) =>
some M_37) : Option (Mem)) fun (M_9 : Mem) =>
bd2 (lp N (fun s_27 : Int32 × Mem => f_X1_go_b1 N p0 p1 s_27.1 s_27.2) (0, M_9)) fun (x2_19 : Int32) (S_20 : Mem) =>
gd (mT S_20 p0 = 0) (
bd (mR S_20 p0 9) fun (a_24 : Nat) =>
gd (mT S_20 a_24 = 5) (
some (mI S_20 a_24 6, S_20))))
else (
some ((-1), M)))))
def rm_f_X1_go : Room := { frames := 205, cells := 0, slots := 0, locals := 4121 }
theorem ok_f_X1_go {E : En} (hE : EOk E) (hN : NOk E) {N : Nat} {p0 : Nat} {p1 : Int32} {M : Mem} {r : Int32} {M' : Mem} (h : f_X1_go N p0 p1 M = some (r, M')) : CM E yX1_go cX1_go 3 (some .int) rm_f_X1_go [rf E p0, .int p1] M (some (.int r)) M' := by
  unfold f_X1_go at h
  refine CM_introX (own := RX1) rfl (by decide +kernel) (Nat.le_of_ble_eq_true rfl) rfl (fun G hG hEn hI => ?_)
  obtain ⟨Q, eQ⟩ : ∃ Q, Q = QM E G (some (.int r)) M' 0 0 := ⟨_, rfl⟩
  show V E G M 0 0 3 0 [(0, rf E p0), (1, .int p1)] [] (QM E G (some (.int r)) M' 0 0)
  rw [← eQ]
  refine V_iload_n hG 1 rfl dX1_go_0 ?_
  refine V_i2l hG dX1_go_1 ?_
  refine V_lconst hG 0 rfl dX1_go_2 ?_
  refine V_ldc2 hG q1118 dX1_go_3 ?_
  obtain ⟨r_2, hc_1, h⟩ := bd_of h
  refine V_callS hE hG (As := [.long (Int32.toInt64 p1), .long 0, .long 200]) (rest := []) (ok_f_X1_in hE hN hc_1) hw_X1_144 hdc_X1_in ⟨Nat.le_of_ble_eq_true rfl, Nat.le_of_ble_eq_true rfl⟩ rfl rfl (Nat.le_of_ble_eq_true rfl) ⟨Nat.le_of_ble_eq_true rfl, Nat.le_of_ble_eq_true rfl⟩ dX1_go_6 (V_zero rfl rfl ?_)
  refine V_if_eq hG 27 dX1_go_9 (by decide) (fun c_3 => ?_) (fun c_3 => ?_)
  · have h := if_t c_3 h
    refine V_iconst hG (-1) rfl dX1_go_27 ?_
    cases h
    subst eQ
    exact V_iret hG dX1_go_28
  · have h := if_f c_3 h
    refine V_aload_n hG 0 rfl dX1_go_12 ?_
    obtain ⟨g_4, h⟩ := gd_of h
    obtain ⟨a_5, hr_6, h⟩ := bd_of h
    refine gf_X1_101 hN hG g_4 hr_6 dX1_go_13 ?_
    obtain ⟨g_7, h⟩ := gd_of h
    refine gf_X1_274 hN hG g_7 dX1_go_16 ?_
    refine V_iload_n hG 1 rfl dX1_go_19 ?_
    refine V_iadd hG dX1_go_20 ?_
    refine V_sipush hG 9000 (by decide) dX1_go_21 ?_
    refine V_icmp_le hG 29 dX1_go_24 (by decide) (fun c_8 => ?_) (fun c_8 => ?_)
    · have h := if_t c_8 h
      refine V_iload_n hG 1 rfl dX1_go_29 ?_
      obtain ⟨M_9, hj_11, h⟩ := bd_of h
      have J_10 : V E G M_9 0 0 3 38 [(0, rf E p0), (1, .int p1)] [] Q := by
        refine V_iconst hG 0 rfl dX1_go_38 ?_
        refine V_istore_n hG rfl [(2, .int 0), (0, rf E p0), (1, .int p1)] dX1_go_39 (Nat.le_of_ble_eq_true rfl) rfl ?_
        obtain ⟨x2_19, S_20, hL_21, h⟩ := bd2_of h
        have J_16 : ∀ q_22 : Int32 × Mem, q_22 = (x2_19, S_20) → V E G q_22.2 0 0 3 59 [(2, .int q_22.1), (0, rf E p0), (1, .int p1)] [] Q := by
          intro q_22 e9
          subst q_22
          show V E G S_20 0 0 3 59 [(2, .int x2_19), (0, rf E p0), (1, .int p1)] [] Q
          refine V_aload_n hG 1 rfl dX1_go_59 ?_
          obtain ⟨g_23, h⟩ := gd_of h
          obtain ⟨a_24, hr_25, h⟩ := bd_of h
          refine gf_X1_101 hN hG g_23 hr_25 dX1_go_60 ?_
          obtain ⟨g_26, h⟩ := gd_of h
          refine gf_X1_274 hN hG g_26 dX1_go_63 ?_
          cases h
          subst eQ
          exact V_iret hG dX1_go_66
        refine lp_walk (W := fun s_27 : Int32 × Mem => V E G s_27.2 0 0 3 40 [(2, .int s_27.1), (0, rf E p0), (1, .int p1)] [] Q) ?_ N (0, M_9) hL_21
        intro s_27 b_12 hb_13 hk_14 hx_15
        obtain ⟨x2_17, S_18⟩ := s_27
        have hb_13 : f_X1_go_b1 N p0 p1 x2_17 S_18 = some b_12 := hb_13
        unfold f_X1_go_b1 at hb_13
        show V E G S_18 0 0 3 40 [(2, .int x2_17), (0, rf E p0), (1, .int p1)] [] Q
        refine V_iload_n hG 0 rfl dX1_go_40 ?_
        refine V_iload_n hG 2 rfl dX1_go_41 ?_
        refine V_icmp_ge hG 59 dX1_go_42 (by decide) (fun c_28 => ?_) (fun c_28 => ?_)
        · have hb_13 := if_t c_28 hb_13
          cases hb_13
          exact J_16 _ (hx_15 _ rfl)
        · have hb_13 := if_f c_28 hb_13
          refine V_aload_n hG 1 rfl dX1_go_45 ?_
          obtain ⟨g_29, hb_13⟩ := gd_of hb_13
          obtain ⟨a_30, hr_31, hb_13⟩ := bd_of hb_13
          refine gf_X1_101 hN hG g_29 hr_31 dX1_go_46 ?_
          refine V_iconst hG 1 rfl dX1_go_49 ?_
          obtain ⟨g_32, hb_13⟩ := gd_of hb_13
          obtain ⟨M_34, hc_33, hb_13⟩ := bd_of hb_13
          refine V_callV hE hG (ci := 5) (As := [.int 1]) (rest := []) (ok_f_X6_pass hE hN hc_33) g_32 (by decide) rfl hw_X1_277 hdv_X6_pass ⟨Nat.le_of_ble_eq_true rfl, Nat.le_of_ble_eq_true rfl⟩ rfl rfl (Nat.le_of_ble_eq_true rfl) ⟨Nat.le_of_ble_eq_true rfl, Nat.le_of_ble_eq_true rfl⟩ dX1_go_50 (V_zero rfl rfl ?_)
          obtain ⟨x2_35, ex2_35, hb_13⟩ := be_of hb_13
          refine V_iinc hG 0 x2_35 rfl (by rw [ex2_35]; rfl) [(2, .int x2_35), (0, rf E p0), (1, .int p1)] dX1_go_53 (Nat.le_of_ble_eq_true rfl) rfl ?_
          refine V_goto hG 40 dX1_go_56 (by decide) ?_
          cases hb_13
          exact hk_14 _ rfl
      refine V_if_le hG 38 dX1_go_30 (by decide) (fun c_36 => ?_) (fun c_36 => ?_)
      · have hj_11 := if_t c_36 hj_11
        cases hj_11
        exact J_10
      · have hj_11 := if_f c_36 hj_11
        refine V_aload_n hG 0 rfl dX1_go_33 ?_
        refine V_iconst hG 0 rfl dX1_go_34 ?_
        obtain ⟨M_37, eM_37, hj_11⟩ := be_of hj_11
        refine pf_X1_163 hN hG g_4 eM_37 dX1_go_35 ?_
        have g_38 : mT M_37 p0 = 0 := by rw [eM_37]; exact g_4
        have g_39 : mT M_37 a_5 = 5 := by rw [eM_37]; exact g_7
        cases hj_11
        exact J_10
    · have h := if_f c_8 h
      refine V_iconst hG (-1) rfl dX1_go_27 ?_
      cases h
      subst eQ
      exact V_iret hG dX1_go_28

def f_X1_isPumped_b1 (N : Nat) (p0 : Nat) (p1 : Int32) (p2 : Int32) (x3_14 : Int32) (S_15 : Mem) : Option ((Int32 × Mem) ⊕ (Int32 × Mem)) :=
gd (mT S_15 p0 = 0) (
bd (f_X1_troughs p0 S_15) fun (r_41 : Int32) =>
if r_41 ≤ x3_14 then (
some (.inl (x3_14, S_15)))
else (
bd (if (p1 >>> (x3_14 &&& 31)) &&& 1 = 1 then (
bd (mR S_15 p0 10) fun (a_48 : Nat) =>
gd (mT S_15 a_48 = 5) (
bd (mR S_15 a_48 5) fun (a_51 : Nat) =>
gd (mT S_15 a_51 = 100) (
gd (inb x3_14 (mLn S_15 a_51)) (
be (sI S_15 a_51 (Int32.toNatClampNeg x3_14) 99) fun (M_55 : Mem) =>
some M_55))))
else (
some S_15) : Option (Mem)) fun (M_43 : Mem) =>
be (x3_14 + 1) fun (x3_46 : Int32) =>
some (.inr (x3_46, M_43))))
def f_X1_isPumped (N : Nat) (p0 : Nat) (p1 : Int32) (p2 : Int32) (M : Mem) : Option (Int32 × Mem) :=
gd (mT M p0 = 0) (
bd (mR M p0 10) fun (a_2 : Nat) =>
bd (mR M p0 9) fun (a_4 : Nat) =>
gd (mT M a_2 = 5) (
bd (f_X6_become N a_2 a_4 M) fun (M_8 : Mem) =>
bd2 (lp N (fun s_38 : Int32 × Mem => f_X1_isPumped_b1 N p0 p1 p2 s_38.1 s_38.2) (0, M_8)) fun (x3_16 : Int32) (S_17 : Mem) =>
gd (mT S_17 p0 = 0) (
bd (mR S_17 p0 10) fun (a_21 : Nat) =>
gd (mT S_17 a_21 = 5) (
bd (f_X6_goesOn N a_21 p2 S_17) fun (M_25 : Mem) =>
gd (mT M_25 p0 = 0) (
bd (mR M_25 p0 10) fun (a_27 : Nat) =>
gd (mT M_25 a_27 = 5) (
bd (mR M_25 p0 9) fun (a_30 : Nat) =>
gd (mT M_25 a_30 = 5) (
be (if mI M_25 a_27 7 = mI M_25 a_30 7 then (
1)
else (
0) : Int32) fun (y_36 : Int32) =>
gd (y_36 = 0 ∨ y_36 = 1) (
some (y_36, M_25)))))))))
def rm_f_X1_isPumped : Room := { frames := 206, cells := 0, slots := 0, locals := 4143 }
theorem ok_f_X1_isPumped {E : En} (hE : EOk E) (hN : NOk E) {N : Nat} {p0 : Nat} {p1 : Int32} {p2 : Int32} {M : Mem} {r : Int32} {M' : Mem} (h : f_X1_isPumped N p0 p1 p2 M = some (r, M')) : CM E yX1_isPumped cX1_isPumped 4 (some .boolean) rm_f_X1_isPumped [rf E p0, .int p1, .int p2] M (some (.int r)) M' := by
  unfold f_X1_isPumped at h
  refine CM_introX (own := RX1) rfl (by decide +kernel) (Nat.le_of_ble_eq_true rfl) rfl (fun G hG hEn hI => ?_)
  obtain ⟨Q, eQ⟩ : ∃ Q, Q = QM E G (some (.int r)) M' 0 0 := ⟨_, rfl⟩
  show V E G M 0 0 4 0 [(0, rf E p0), (1, .int p1), (2, .int p2)] [] (QM E G (some (.int r)) M' 0 0)
  rw [← eQ]
  refine V_aload_n hG 0 rfl dX1_isPumped_0 ?_
  obtain ⟨g_1, h⟩ := gd_of h
  obtain ⟨a_2, hr_3, h⟩ := bd_of h
  refine gf_X1_105 hN hG g_1 hr_3 dX1_isPumped_1 ?_
  refine V_aload_n hG 0 rfl dX1_isPumped_4 ?_
  obtain ⟨a_4, hr_5, h⟩ := bd_of h
  refine gf_X1_101 hN hG g_1 hr_5 dX1_isPumped_5 ?_
  obtain ⟨g_6, h⟩ := gd_of h
  obtain ⟨M_8, hc_7, h⟩ := bd_of h
  refine V_callV hE hG (ci := 5) (As := [rf E a_4]) (rest := []) (ok_f_X6_become hE hN hc_7) g_6 (by decide) rfl hw_X1_254 hdv_X6_become ⟨Nat.le_of_ble_eq_true rfl, Nat.le_of_ble_eq_true rfl⟩ rfl rfl (Nat.le_of_ble_eq_true rfl) ⟨Nat.le_of_ble_eq_true rfl, Nat.le_of_ble_eq_true rfl⟩ dX1_isPumped_8 (V_zero rfl rfl ?_)
  refine V_iconst hG 0 rfl dX1_isPumped_11 ?_
  refine V_istore_n hG rfl [(3, .int 0), (0, rf E p0), (1, .int p1), (2, .int p2)] dX1_isPumped_12 (Nat.le_of_ble_eq_true rfl) rfl ?_
  obtain ⟨x3_16, S_17, hL_18, h⟩ := bd2_of h
  have J_13 : ∀ q_19 : Int32 × Mem, q_19 = (x3_16, S_17) → V E G q_19.2 0 0 4 47 [(3, .int q_19.1), (0, rf E p0), (1, .int p1), (2, .int p2)] [] Q := by
    intro q_19 e9
    subst q_19
    show V E G S_17 0 0 4 47 [(3, .int x3_16), (0, rf E p0), (1, .int p1), (2, .int p2)] [] Q
    refine V_aload_n hG 1 rfl dX1_isPumped_47 ?_
    obtain ⟨g_20, h⟩ := gd_of h
    obtain ⟨a_21, hr_22, h⟩ := bd_of h
    refine gf_X1_105 hN hG g_20 hr_22 dX1_isPumped_48 ?_
    refine V_iload_n hG 3 rfl dX1_isPumped_51 ?_
    obtain ⟨g_23, h⟩ := gd_of h
    obtain ⟨M_25, hc_24, h⟩ := bd_of h
    refine V_callV hE hG (ci := 5) (As := [.int p2]) (rest := []) (ok_f_X6_goesOn hE hN hc_24) g_23 (by decide) rfl hw_X1_283 hdv_X6_goesOn ⟨Nat.le_of_ble_eq_true rfl, Nat.le_of_ble_eq_true rfl⟩ rfl rfl (Nat.le_of_ble_eq_true rfl) ⟨Nat.le_of_ble_eq_true rfl, Nat.le_of_ble_eq_true rfl⟩ dX1_isPumped_52 (V_zero rfl rfl ?_)
    refine V_aload_n hG 1 rfl dX1_isPumped_55 ?_
    obtain ⟨g_26, h⟩ := gd_of h
    obtain ⟨a_27, hr_28, h⟩ := bd_of h
    refine gf_X1_105 hN hG g_26 hr_28 dX1_isPumped_56 ?_
    obtain ⟨g_29, h⟩ := gd_of h
    refine gf_X1_292 hN hG g_29 dX1_isPumped_59 ?_
    refine V_aload_n hG 1 rfl dX1_isPumped_62 ?_
    obtain ⟨a_30, hr_31, h⟩ := bd_of h
    refine gf_X1_101 hN hG g_26 hr_31 dX1_isPumped_63 ?_
    obtain ⟨g_32, h⟩ := gd_of h
    refine gf_X1_292 hN hG g_32 dX1_isPumped_66 ?_
    obtain ⟨t_33, et_33, h⟩ := be_of h
    have J_34 : ∀ y_36 : Int32, y_36 = t_33 → V E G M_25 0 0 4 77 [(3, .int x3_16), (0, rf E p0), (1, .int p1), (2, .int p2)] [.int y_36] Q := by
      intro y_36 ey
      subst ey
      obtain ⟨g_37, h⟩ := gd_of h
      cases h
      subst eQ
      exact V_zret hG g_37 dX1_isPumped_77
    refine V_icmp_ne hG 76 dX1_isPumped_69 (by decide) (fun c_35 => ?_) (fun c_35 => ?_)
    · refine V_iconst hG 0 rfl dX1_isPumped_76 ?_
      exact J_34 _ (by rw [et_33, if_neg c_35])
    · refine V_iconst hG 1 rfl dX1_isPumped_72 ?_
      refine V_goto hG 77 dX1_isPumped_73 (by decide) ?_
      exact J_34 _ (by rw [et_33, if_pos c_35])
  refine lp_walk (W := fun s_38 : Int32 × Mem => V E G s_38.2 0 0 4 13 [(3, .int s_38.1), (0, rf E p0), (1, .int p1), (2, .int p2)] [] Q) ?_ N (0, M_8) hL_18
  intro s_38 b_9 hb_10 hk_11 hx_12
  obtain ⟨x3_14, S_15⟩ := s_38
  have hb_10 : f_X1_isPumped_b1 N p0 p1 p2 x3_14 S_15 = some b_9 := hb_10
  unfold f_X1_isPumped_b1 at hb_10
  show V E G S_15 0 0 4 13 [(3, .int x3_14), (0, rf E p0), (1, .int p1), (2, .int p2)] [] Q
  refine V_iload_n hG 0 rfl dX1_isPumped_13 ?_
  refine V_aload_n hG 1 rfl dX1_isPumped_14 ?_
  obtain ⟨g_39, hb_10⟩ := gd_of hb_10
  obtain ⟨r_41, hc_40, hb_10⟩ := bd_of hb_10
  refine V_callV hE hG (ci := 0) (As := []) (rest := [.int x3_14]) (ok_f_X1_troughs hE hN hc_40) g_39 (by decide) rfl hw_X1_182 hdv_X1_troughs ⟨Nat.le_of_ble_eq_true rfl, Nat.le_of_ble_eq_true rfl⟩ rfl rfl (Nat.le_of_ble_eq_true rfl) ⟨Nat.le_of_ble_eq_true rfl, Nat.le_of_ble_eq_true rfl⟩ dX1_isPumped_15 (V_zero rfl rfl ?_)
  refine V_icmp_ge hG 47 dX1_isPumped_18 (by decide) (fun c_42 => ?_) (fun c_42 => ?_)
  · have hb_10 := if_t c_42 hb_10
    cases hb_10
    exact J_13 _ (hx_12 _ rfl)
  · have hb_10 := if_f c_42 hb_10
    refine V_iload_n hG 2 rfl dX1_isPumped_21 ?_
    refine V_iload_n hG 0 rfl dX1_isPumped_22 ?_
    refine V_ishr hG dX1_isPumped_23 ?_
    refine V_iconst hG 1 rfl dX1_isPumped_24 ?_
    refine V_iand hG dX1_isPumped_25 ?_
    refine V_iconst hG 1 rfl dX1_isPumped_26 ?_
    obtain ⟨M_43, hj_45, hb_10⟩ := bd_of hb_10
    have J_44 : V E G M_43 0 0 4 41 [(3, .int x3_14), (0, rf E p0), (1, .int p1), (2, .int p2)] [] Q := by
      obtain ⟨x3_46, ex3_46, hb_10⟩ := be_of hb_10
      refine V_iinc hG 0 x3_46 rfl (by rw [ex3_46]; rfl) [(3, .int x3_46), (0, rf E p0), (1, .int p1), (2, .int p2)] dX1_isPumped_41 (Nat.le_of_ble_eq_true rfl) rfl ?_
      refine V_goto hG 13 dX1_isPumped_44 (by decide) ?_
      cases hb_10
      exact hk_11 _ rfl
    refine V_icmp_ne hG 41 dX1_isPumped_27 (by decide) (fun c_47 => ?_) (fun c_47 => ?_)
    · have hj_45 := if_f c_47 hj_45
      cases hj_45
      exact J_44
    · have hj_45 := if_t c_47 hj_45
      refine V_aload_n hG 1 rfl dX1_isPumped_30 ?_
      obtain ⟨a_48, hr_49, hj_45⟩ := bd_of hj_45
      refine gf_X1_105 hN hG g_39 hr_49 dX1_isPumped_31 ?_
      obtain ⟨g_50, hj_45⟩ := gd_of hj_45
      obtain ⟨a_51, hr_52, hj_45⟩ := bd_of hj_45
      refine gf_X1_236 hN hG g_50 hr_52 dX1_isPumped_34 ?_
      refine V_iload_n hG 0 rfl dX1_isPumped_37 ?_
      refine V_bipush hG 99 (by decide) dX1_isPumped_38 ?_
      obtain ⟨g_53, hj_45⟩ := gd_of hj_45
      obtain ⟨g_54, hj_45⟩ := gd_of hj_45
      obtain ⟨M_55, eM_55, hj_45⟩ := be_of hj_45
      refine W_iastore hG g_53 g_54 M_55 eM_55 dX1_isPumped_40 ?_
      have g_56 : mT M_55 p0 = 0 := by rw [eM_55]; exact g_39
      have g_57 : mT M_55 a_48 = 5 := by rw [eM_55]; exact g_50
      have g_58 : mT M_55 a_51 = 100 := by rw [eM_55]; exact g_53
      cases hj_45
      exact J_44

def f_X1_isThirst_b2 (N : Nat) (x4_24 : Int32) (p0 : Nat) (p1 : Int32) (p2 : Int32) (p3 : Int32) (M_40 : Mem) (x5_46 : Int32) : Option (((Int32) ⊕ (Int32 × Mem)) ⊕ (Int32)) :=
gd (mT M_40 p0 = 0) (
bd (f_X1_knownMany p0 M_40) fun (r_57 : Int32) =>
if r_57 ≤ x5_46 then (
some (.inl (.inl x5_46)))
else (
bd (mR M_40 p0 17) fun (a_59 : Nat) =>
gd (mT M_40 a_59 = 102) (
gd (inb x5_46 (mLn M_40 a_59)) (
if mI M_40 a_59 (Int32.toNatClampNeg x5_46) = 0 then (
bd (mR M_40 p0 16) fun (a_65 : Nat) =>
gd (mT M_40 a_65 = 3) (
bd (f_J2_get a_65 x5_46 M_40) fun (r_69 : Nat) =>
gd (mT M_40 r_69 = 14 ∨ mT M_40 r_69 = 15) (
bd (fd_hours r_69 M_40) fun (r_73 : Int32) =>
if r_73 = x4_24 then (
bd (mR M_40 p0 16) fun (a_76 : Nat) =>
gd (mT M_40 a_76 = 3) (
bd (f_J2_get a_76 x5_46 M_40) fun (r_80 : Nat) =>
gd (mT M_40 r_80 = 14 ∨ mT M_40 r_80 = 15) (
bd (mR M_40 p0 10) fun (a_82 : Nat) =>
bd (fd_isSo r_80 a_82 M_40) fun (r_86 : Int32) =>
if r_86 = 0 then (
some (.inl (.inr (0, M_40))))
else (
be (x5_46 + 1) fun (x5_88 : Int32) =>
some (.inr x5_88)))))
else (
be (x5_46 + 1) fun (x5_75 : Int32) =>
some (.inr x5_75)))))
else (
be (x5_46 + 1) fun (x5_64 : Int32) =>
some (.inr x5_64))))))
def f_X1_isThirst_b1 (N : Nat) (p0 : Nat) (p1 : Int32) (p2 : Int32) (p3 : Int32) (x4_24 : Int32) (S_25 : Mem) : Option (((Int32 × Mem) ⊕ (Int32 × Mem)) ⊕ (Int32 × Mem)) :=
if p3 < x4_24 then (
some (.inl (.inl (x4_24, S_25))))
else (
gd (mT S_25 p0 = 0) (
bd (mR S_25 p0 10) fun (a_36 : Nat) =>
gd (mT S_25 a_36 = 5) (
bd (f_X6_pass N a_36 0 S_25) fun (M_40 : Mem) =>
bx (lp N (fun s_54 : Int32 => f_X1_isThirst_b2 N x4_24 p0 p1 p2 p3 M_40 s_54) 0) (fun (x5_48 : Int32) =>
be (x4_24 + 1) fun (x4_53 : Int32) =>
some (.inr (x4_53, M_40))) (fun (w_93 : Int32 × Mem) => some (.inl (.inr w_93))))))
def f_X1_isThirst (N : Nat) (p0 : Nat) (p1 : Int32) (p2 : Int32) (p3 : Int32) (M : Mem) : Option (Int32 × Mem) :=
gd (mT M p0 = 0) (
bd (mR M p0 10) fun (a_2 : Nat) =>
gd (mT M a_2 = 5) (
bd (f_X6_begin N a_2 M) fun (M_6 : Mem) =>
gd (mT M_6 p0 = 0) (
bd (mR M_6 p0 10) fun (a_8 : Nat) =>
gd (mT M_6 a_8 = 5) (
bd (mR M_6 a_8 1) fun (a_11 : Nat) =>
gd (mT M_6 a_11 = 100) (
gd (inb p1 (mLn M_6 a_11)) (
be (sI M_6 a_11 (Int32.toNatClampNeg p1) p2) fun (M_15 : Mem) =>
bx2 (lp N (fun s_33 : Int32 × Mem => f_X1_isThirst_b1 N p0 p1 p2 p3 s_33.1 s_33.2) (1, M_15)) (fun (x4_27 : Int32) (S_28 : Mem) =>
some (1, S_28)) (fun (w_94 : Int32 × Mem) => some w_94)))))))
def rm_f_X1_isThirst : Room := { frames := 205, cells := 0, slots := 0, locals := 4121 }
theorem ok_f_X1_isThirst {E : En} (hE : EOk E) (hN : NOk E) {N : Nat} {p0 : Nat} {p1 : Int32} {p2 : Int32} {p3 : Int32} {M : Mem} {r : Int32} {M' : Mem} (h : f_X1_isThirst N p0 p1 p2 p3 M = some (r, M')) : CM E yX1_isThirst cX1_isThirst 6 (some .boolean) rm_f_X1_isThirst [rf E p0, .int p1, .int p2, .int p3] M (some (.int r)) M' := by
  unfold f_X1_isThirst at h
  refine CM_introX (own := RX1) rfl (by decide +kernel) (Nat.le_of_ble_eq_true rfl) rfl (fun G hG hEn hI => ?_)
  obtain ⟨Q, eQ⟩ : ∃ Q, Q = QM E G (some (.int r)) M' 0 0 := ⟨_, rfl⟩
  show V E G M 0 0 6 0 [(0, rf E p0), (1, .int p1), (2, .int p2), (3, .int p3)] [] (QM E G (some (.int r)) M' 0 0)
  rw [← eQ]
  refine V_aload_n hG 0 rfl dX1_isThirst_0 ?_
  obtain ⟨g_1, h⟩ := gd_of h
  obtain ⟨a_2, hr_3, h⟩ := bd_of h
  refine gf_X1_105 hN hG g_1 hr_3 dX1_isThirst_1 ?_
  obtain ⟨g_4, h⟩ := gd_of h
  obtain ⟨M_6, hc_5, h⟩ := bd_of h
  refine V_callV hE hG (ci := 5) (As := []) (rest := []) (ok_f_X6_begin hE hN hc_5) g_4 (by decide) rfl hw_X1_135 hdv_X6_begin ⟨Nat.le_of_ble_eq_true rfl, Nat.le_of_ble_eq_true rfl⟩ rfl rfl (Nat.le_of_ble_eq_true rfl) ⟨Nat.le_of_ble_eq_true rfl, Nat.le_of_ble_eq_true rfl⟩ dX1_isThirst_4 (V_zero rfl rfl ?_)
  refine V_aload_n hG 0 rfl dX1_isThirst_7 ?_
  obtain ⟨g_7, h⟩ := gd_of h
  obtain ⟨a_8, hr_9, h⟩ := bd_of h
  refine gf_X1_105 hN hG g_7 hr_9 dX1_isThirst_8 ?_
  obtain ⟨g_10, h⟩ := gd_of h
  obtain ⟨a_11, hr_12, h⟩ := bd_of h
  refine gf_X1_203 hN hG g_10 hr_12 dX1_isThirst_11 ?_
  refine V_iload_n hG 1 rfl dX1_isThirst_14 ?_
  refine V_iload_n hG 2 rfl dX1_isThirst_15 ?_
  obtain ⟨g_13, h⟩ := gd_of h
  obtain ⟨g_14, h⟩ := gd_of h
  obtain ⟨M_15, eM_15, h⟩ := be_of h
  refine W_iastore hG g_13 g_14 M_15 eM_15 dX1_isThirst_16 ?_
  have g_16 : mT M_15 p0 = 0 := by rw [eM_15]; exact g_7
  have g_17 : mT M_15 a_8 = 5 := by rw [eM_15]; exact g_10
  have g_18 : mT M_15 a_11 = 100 := by rw [eM_15]; exact g_13
  refine V_iconst hG 1 rfl dX1_isThirst_17 ?_
  refine V_istore hG [(4, .int 1), (0, rf E p0), (1, .int p1), (2, .int p2), (3, .int p3)] dX1_isThirst_18 (Nat.le_of_ble_eq_true rfl) rfl ?_
  obtain ⟨rr_30, hL_29, hl_31, hr_26⟩ := bx2_of h
  have J_23 : ∀ q_32 : Int32 × Mem, Sum.inl q_32 = rr_30 → V E G q_32.2 0 0 6 112 [(4, .int q_32.1), (0, rf E p0), (1, .int p1), (2, .int p2), (3, .int p3)] [] Q := by
    intro q_32 e9
    obtain ⟨x4_27, S_28⟩ := q_32
    have h := hl_31 x4_27 S_28 e9.symm
    show V E G S_28 0 0 6 112 [(4, .int x4_27), (0, rf E p0), (1, .int p1), (2, .int p2), (3, .int p3)] [] Q
    refine V_iconst hG 1 rfl dX1_isThirst_112 ?_
    cases h
    subst eQ
    exact V_zret hG (Or.inr rfl) dX1_isThirst_113
  refine lp_walk (W := fun s_33 : Int32 × Mem => V E G s_33.2 0 0 6 20 [(4, .int s_33.1), (0, rf E p0), (1, .int p1), (2, .int p2), (3, .int p3)] [] Q) ?_ N (1, M_15) hL_29
  intro s_33 b_19 hb_20 hk_21 hx_22
  obtain ⟨x4_24, S_25⟩ := s_33
  have hb_20 : f_X1_isThirst_b1 N p0 p1 p2 p3 x4_24 S_25 = some b_19 := hb_20
  unfold f_X1_isThirst_b1 at hb_20
  show V E G S_25 0 0 6 20 [(4, .int x4_24), (0, rf E p0), (1, .int p1), (2, .int p2), (3, .int p3)] [] Q
  refine V_iload hG 0 rfl dX1_isThirst_20 ?_
  refine V_iload_n hG 4 rfl dX1_isThirst_22 ?_
  refine V_icmp_gt hG 112 dX1_isThirst_23 (by decide) (fun c_34 => ?_) (fun c_34 => ?_)
  · have hb_20 := if_t c_34 hb_20
    cases hb_20
    exact J_23 _ (hx_22 _ rfl)
  · have hb_20 := if_f c_34 hb_20
    refine V_aload_n hG 1 rfl dX1_isThirst_26 ?_
    obtain ⟨g_35, hb_20⟩ := gd_of hb_20
    obtain ⟨a_36, hr_37, hb_20⟩ := bd_of hb_20
    refine gf_X1_105 hN hG g_35 hr_37 dX1_isThirst_27 ?_
    refine V_iconst hG 0 rfl dX1_isThirst_30 ?_
    obtain ⟨g_38, hb_20⟩ := gd_of hb_20
    obtain ⟨M_40, hc_39, hb_20⟩ := bd_of hb_20
    refine V_callV hE hG (ci := 5) (As := [.int 0]) (rest := []) (ok_f_X6_pass hE hN hc_39) g_38 (by decide) rfl hw_X1_277 hdv_X6_pass ⟨Nat.le_of_ble_eq_true rfl, Nat.le_of_ble_eq_true rfl⟩ rfl rfl (Nat.le_of_ble_eq_true rfl) ⟨Nat.le_of_ble_eq_true rfl, Nat.le_of_ble_eq_true rfl⟩ dX1_isThirst_31 (V_zero rfl rfl ?_)
    refine V_iconst hG 0 rfl dX1_isThirst_34 ?_
    refine V_istore hG [(5, .int 0), (4, .int x4_24), (0, rf E p0), (1, .int p1), (2, .int p2), (3, .int p3)] dX1_isThirst_35 (Nat.le_of_ble_eq_true rfl) rfl ?_
    obtain ⟨rr_50, hL_49, hl_51, hr_47⟩ := bx_of hb_20
    have J_45 : ∀ q_52 : Int32, Sum.inl q_52 = rr_50 → V E G M_40 0 0 6 106 [(5, .int q_52), (4, .int x4_24), (0, rf E p0), (1, .int p1), (2, .int p2), (3, .int p3)] [] Q := by
      intro q_52 e9
      obtain ⟨x5_48, rfl⟩ : ∃ z, z = q_52 := ⟨_, rfl⟩
      have hb_20 := hl_51 x5_48 e9.symm
      show V E G M_40 0 0 6 106 [(5, .int x5_48), (4, .int x4_24), (0, rf E p0), (1, .int p1), (2, .int p2), (3, .int p3)] [] Q
      obtain ⟨x4_53, ex4_53, hb_20⟩ := be_of hb_20
      refine V_iinc hG 1 x4_53 rfl (by rw [ex4_53]; rfl) [(4, .int x4_53), (5, .int x5_48), (0, rf E p0), (1, .int p1), (2, .int p2), (3, .int p3)] dX1_isThirst_106 (Nat.le_of_ble_eq_true rfl) rfl ?_
      refine V_goto hG 20 dX1_isThirst_109 (by decide) ?_
      cases hb_20
      exact V_lv [0, 2, 3, 4, 5] rfl (hk_21 _ rfl)
    refine lp_walk (W := fun s_54 : Int32 => V E G M_40 0 0 6 37 [(5, .int s_54), (4, .int x4_24), (0, rf E p0), (1, .int p1), (2, .int p2), (3, .int p3)] [] Q) ?_ N 0 hL_49
    intro s_54 b_41 hb_42 hk_43 hx_44
    obtain ⟨x5_46, rfl⟩ : ∃ z, z = s_54 := ⟨_, rfl⟩
    have hb_42 : f_X1_isThirst_b2 N x4_24 p0 p1 p2 p3 M_40 x5_46 = some b_41 := hb_42
    unfold f_X1_isThirst_b2 at hb_42
    show V E G M_40 0 0 6 37 [(5, .int x5_46), (4, .int x4_24), (0, rf E p0), (1, .int p1), (2, .int p2), (3, .int p3)] [] Q
    refine V_iload hG 0 rfl dX1_isThirst_37 ?_
    refine V_aload_n hG 2 rfl dX1_isThirst_39 ?_
    obtain ⟨g_55, hb_42⟩ := gd_of hb_42
    obtain ⟨r_57, hc_56, hb_42⟩ := bd_of hb_42
    refine V_callV hE hG (ci := 0) (As := []) (rest := [.int x5_46]) (ok_f_X1_knownMany hE hN hc_56) g_55 (by decide) rfl hw_X1_381 hdv_X1_knownMany ⟨Nat.le_of_ble_eq_true rfl, Nat.le_of_ble_eq_true rfl⟩ rfl rfl (Nat.le_of_ble_eq_true rfl) ⟨Nat.le_of_ble_eq_true rfl, Nat.le_of_ble_eq_true rfl⟩ dX1_isThirst_40 (V_zero rfl rfl ?_)
    refine V_icmp_ge hG 106 dX1_isThirst_43 (by decide) (fun c_58 => ?_) (fun c_58 => ?_)
    · have hb_42 := if_t c_58 hb_42
      cases hb_42
      exact J_45 _ (hx_44 _ rfl)
    · have hb_42 := if_f c_58 hb_42
      refine V_aload_n hG 2 rfl dX1_isThirst_46 ?_
      obtain ⟨a_59, hr_60, hb_42⟩ := bd_of hb_42
      refine gf_X1_128 hN hG g_55 hr_60 dX1_isThirst_47 ?_
      refine V_iload hG 0 rfl dX1_isThirst_50 ?_
      obtain ⟨g_61, hb_42⟩ := gd_of hb_42
      obtain ⟨g_62, hb_42⟩ := gd_of hb_42
      refine V_zaload hG g_61 g_62 dX1_isThirst_52 ?_
      refine V_if_ne hG 100 dX1_isThirst_53 (by decide) (fun c_63 => ?_) (fun c_63 => ?_)
      · have hb_42 := if_f c_63 hb_42
        obtain ⟨x5_64, ex5_64, hb_42⟩ := be_of hb_42
        refine V_iinc hG 0 x5_64 rfl (by rw [ex5_64]; rfl) [(5, .int x5_64), (4, .int x4_24), (0, rf E p0), (1, .int p1), (2, .int p2), (3, .int p3)] dX1_isThirst_100 (Nat.le_of_ble_eq_true rfl) rfl ?_
        refine V_goto hG 37 dX1_isThirst_103 (by decide) ?_
        cases hb_42
        exact hk_43 _ rfl
      · have hb_42 := if_t c_63 hb_42
        refine V_aload_n hG 2 rfl dX1_isThirst_56 ?_
        obtain ⟨a_65, hr_66, hb_42⟩ := bd_of hb_42
        refine gf_X1_125 hN hG g_55 hr_66 dX1_isThirst_57 ?_
        refine V_iload hG 0 rfl dX1_isThirst_60 ?_
        obtain ⟨g_67, hb_42⟩ := gd_of hb_42
        obtain ⟨r_69, hc_68, hb_42⟩ := bd_of hb_42
        refine V_callV hE hG (ci := 3) (As := [.int x5_46]) (rest := []) (ok_f_J2_get hE hN hc_68) g_67 (by decide) rfl hw_X1_29 hdv_J2_get ⟨Nat.le_of_ble_eq_true rfl, Nat.le_of_ble_eq_true rfl⟩ rfl rfl (Nat.le_of_ble_eq_true rfl) ⟨Nat.le_of_ble_eq_true rfl, Nat.le_of_ble_eq_true rfl⟩ dX1_isThirst_62 (V_zero rfl rfl ?_)
        obtain ⟨g_70, hb_42⟩ := gd_of hb_42
        refine ck_X1_384 hN hG g_70 dX1_isThirst_65 ?_
        obtain ⟨r_73, hc_71, hb_42⟩ := bd_of hb_42
        refine dl_X1_386 hE hG hN hc_71 ⟨Nat.le_of_ble_eq_true rfl, Nat.le_of_ble_eq_true rfl⟩ (Nat.le_of_ble_eq_true rfl) ⟨Nat.le_of_ble_eq_true rfl, Nat.le_of_ble_eq_true rfl⟩ dX1_isThirst_68 ?_
        refine V_iload hG 1 rfl dX1_isThirst_71 ?_
        refine V_icmp_ne hG 100 dX1_isThirst_73 (by decide) (fun c_74 => ?_) (fun c_74 => ?_)
        · have hb_42 := if_f c_74 hb_42
          obtain ⟨x5_75, ex5_75, hb_42⟩ := be_of hb_42
          refine V_iinc hG 0 x5_75 rfl (by rw [ex5_75]; rfl) [(5, .int x5_75), (4, .int x4_24), (0, rf E p0), (1, .int p1), (2, .int p2), (3, .int p3)] dX1_isThirst_100 (Nat.le_of_ble_eq_true rfl) rfl ?_
          refine V_goto hG 37 dX1_isThirst_103 (by decide) ?_
          cases hb_42
          exact hk_43 _ rfl
        · have hb_42 := if_t c_74 hb_42
          refine V_aload_n hG 2 rfl dX1_isThirst_76 ?_
          obtain ⟨a_76, hr_77, hb_42⟩ := bd_of hb_42
          refine gf_X1_125 hN hG g_55 hr_77 dX1_isThirst_77 ?_
          refine V_iload hG 0 rfl dX1_isThirst_80 ?_
          obtain ⟨g_78, hb_42⟩ := gd_of hb_42
          obtain ⟨r_80, hc_79, hb_42⟩ := bd_of hb_42
          refine V_callV hE hG (ci := 3) (As := [.int x5_46]) (rest := []) (ok_f_J2_get hE hN hc_79) g_78 (by decide) rfl hw_X1_29 hdv_J2_get ⟨Nat.le_of_ble_eq_true rfl, Nat.le_of_ble_eq_true rfl⟩ rfl rfl (Nat.le_of_ble_eq_true rfl) ⟨Nat.le_of_ble_eq_true rfl, Nat.le_of_ble_eq_true rfl⟩ dX1_isThirst_82 (V_zero rfl rfl ?_)
          obtain ⟨g_81, hb_42⟩ := gd_of hb_42
          refine ck_X1_384 hN hG g_81 dX1_isThirst_85 ?_
          refine V_aload_n hG 2 rfl dX1_isThirst_88 ?_
          obtain ⟨a_82, hr_83, hb_42⟩ := bd_of hb_42
          refine gf_X1_105 hN hG g_55 hr_83 dX1_isThirst_89 ?_
          obtain ⟨r_86, hc_84, hb_42⟩ := bd_of hb_42
          refine dl_X1_389 hE hG hN hc_84 ⟨Nat.le_of_ble_eq_true rfl, Nat.le_of_ble_eq_true rfl⟩ (Nat.le_of_ble_eq_true rfl) ⟨Nat.le_of_ble_eq_true rfl, Nat.le_of_ble_eq_true rfl⟩ dX1_isThirst_92 ?_
          refine V_if_ne hG 100 dX1_isThirst_95 (by decide) (fun c_87 => ?_) (fun c_87 => ?_)
          · have hb_42 := if_f c_87 hb_42
            obtain ⟨x5_88, ex5_88, hb_42⟩ := be_of hb_42
            refine V_iinc hG 0 x5_88 rfl (by rw [ex5_88]; rfl) [(5, .int x5_88), (4, .int x4_24), (0, rf E p0), (1, .int p1), (2, .int p2), (3, .int p3)] dX1_isThirst_100 (Nat.le_of_ble_eq_true rfl) rfl ?_
            refine V_goto hG 37 dX1_isThirst_103 (by decide) ?_
            cases hb_42
            exact hk_43 _ rfl
          · have hb_42 := if_t c_87 hb_42
            refine V_iconst hG 0 rfl dX1_isThirst_98 ?_
            cases hb_42
            have e_89 := hx_44 _ rfl
            have h_90 : some (Sum.inl (Sum.inr (0, M_40))) = some b_19 := hr_47 _ e_89.symm
            cases h_90
            have e_91 := hx_22 _ rfl
            have h_92 : some (0, M_40) = some (r, M') := hr_26 _ e_91.symm
            cases h_92
            subst eQ
            exact V_zret hG (Or.inl rfl) dX1_isThirst_99

def f_X1_law (N : Nat) (p0 : Nat) (p1 : Int32) (p2 : Int32) (M : Mem) : Option (Int64 × Mem) :=
bd (f_X1_in (Int32.toInt64 p1) 0 2 M) fun (r_2 : Int32) =>
if r_2 = 0 then (
some ((-9223372036854775808), M))
else (
gd (mT M p0 = 0) (
bd (f_X1_isHorse p0 p2 M) fun (r_6 : Int32) =>
if r_6 = 0 then (
some ((-9223372036854775808), M))
else (
bd (mR M p0 9) fun (a_8 : Nat) =>
gd (mT M a_8 = 5) (
bd (f_X6_name N a_8 p2 M) fun (M_12 : Mem) =>
be (if p1 = 0 then (
0)
else (
if p1 = 1 then (
1)
else (
2)) : Int32) fun (y_17 : Int32) =>
gd (mT M_12 p0 = 0) (
bd (f_X1_wk p0 y_17 M_12) fun (r_20 : Int64) =>
some (r_20, M_12))))))
def rm_f_X1_law : Room := { frames := 200, cells := 0, slots := 0, locals := 4007 }
theorem ok_f_X1_law {E : En} (hE : EOk E) (hN : NOk E) {N : Nat} {p0 : Nat} {p1 : Int32} {p2 : Int32} {M : Mem} {r : Int64} {M' : Mem} (h : f_X1_law N p0 p1 p2 M = some (r, M')) : CM E yX1_law cX1_law 3 (some .long) rm_f_X1_law [rf E p0, .int p1, .int p2] M (some (.long r)) M' := by
  unfold f_X1_law at h
  refine CM_introX (own := RX1) rfl (by decide +kernel) (Nat.le_of_ble_eq_true rfl) rfl (fun G hG hEn hI => ?_)
  obtain ⟨Q, eQ⟩ : ∃ Q, Q = QM E G (some (.long r)) M' 0 0 := ⟨_, rfl⟩
  show V E G M 0 0 3 0 [(0, rf E p0), (1, .int p1), (2, .int p2)] [] (QM E G (some (.long r)) M' 0 0)
  rw [← eQ]
  refine V_iload_n hG 1 rfl dX1_law_0 ?_
  refine V_i2l hG dX1_law_1 ?_
  refine V_lconst hG 0 rfl dX1_law_2 ?_
  refine V_ldc2 hG q1033 dX1_law_3 ?_
  obtain ⟨r_2, hc_1, h⟩ := bd_of h
  refine V_callS hE hG (As := [.long (Int32.toInt64 p1), .long 0, .long 2]) (rest := []) (ok_f_X1_in hE hN hc_1) hw_X1_144 hdc_X1_in ⟨Nat.le_of_ble_eq_true rfl, Nat.le_of_ble_eq_true rfl⟩ rfl rfl (Nat.le_of_ble_eq_true rfl) ⟨Nat.le_of_ble_eq_true rfl, Nat.le_of_ble_eq_true rfl⟩ dX1_law_6 (V_zero rfl rfl ?_)
  refine V_if_eq hG 20 dX1_law_9 (by decide) (fun c_3 => ?_) (fun c_3 => ?_)
  · have h := if_t c_3 h
    refine V_ldc2 hG q1038 dX1_law_20 ?_
    cases h
    subst eQ
    exact V_lret hG dX1_law_23
  · have h := if_f c_3 h
    refine V_aload_n hG 0 rfl dX1_law_12 ?_
    refine V_iload_n hG 2 rfl dX1_law_13 ?_
    obtain ⟨g_4, h⟩ := gd_of h
    obtain ⟨r_6, hc_5, h⟩ := bd_of h
    refine V_callV hE hG (ci := 0) (As := [.int p2]) (rest := []) (ok_f_X1_isHorse hE hN hc_5) g_4 (by decide) rfl hw_X1_186 hdv_X1_isHorse ⟨Nat.le_of_ble_eq_true rfl, Nat.le_of_ble_eq_true rfl⟩ rfl rfl (Nat.le_of_ble_eq_true rfl) ⟨Nat.le_of_ble_eq_true rfl, Nat.le_of_ble_eq_true rfl⟩ dX1_law_14 (V_zero rfl rfl ?_)
    refine V_if_ne hG 24 dX1_law_17 (by decide) (fun c_7 => ?_) (fun c_7 => ?_)
    · have h := if_f c_7 h
      refine V_aload_n hG 0 rfl dX1_law_24 ?_
      obtain ⟨a_8, hr_9, h⟩ := bd_of h
      refine gf_X1_101 hN hG g_4 hr_9 dX1_law_25 ?_
      refine V_iload_n hG 2 rfl dX1_law_28 ?_
      obtain ⟨g_10, h⟩ := gd_of h
      obtain ⟨M_12, hc_11, h⟩ := bd_of h
      refine V_callV hE hG (ci := 5) (As := [.int p2]) (rest := []) (ok_f_X6_name hE hN hc_11) g_10 (by decide) rfl hw_X1_247 hdv_X6_name ⟨Nat.le_of_ble_eq_true rfl, Nat.le_of_ble_eq_true rfl⟩ rfl rfl (Nat.le_of_ble_eq_true rfl) ⟨Nat.le_of_ble_eq_true rfl, Nat.le_of_ble_eq_true rfl⟩ dX1_law_29 (V_zero rfl rfl ?_)
      refine V_aload_n hG 0 rfl dX1_law_32 ?_
      refine V_iload_n hG 1 rfl dX1_law_33 ?_
      obtain ⟨t_13, et_13, h⟩ := be_of h
      have J_14 : ∀ y_17 : Int32, y_17 = t_13 → V E G M_12 0 0 3 51 [(0, rf E p0), (1, .int p1), (2, .int p2)] [.int y_17, rf E p0] Q := by
        intro y_17 ey
        subst ey
        obtain ⟨g_18, h⟩ := gd_of h
        obtain ⟨r_20, hc_19, h⟩ := bd_of h
        refine W_callVW hE hG (ci := 0) (As := [.int y_17]) (rest := []) (ok_f_X1_wk hE hN hc_19) g_18 (by decide) rfl hw_X1_250 hdv_X1_work ⟨Nat.le_of_ble_eq_true rfl, Nat.le_of_ble_eq_true rfl⟩ rfl rfl (Nat.le_of_ble_eq_true rfl) ⟨Nat.le_of_ble_eq_true rfl, Nat.le_of_ble_eq_true rfl⟩ dX1_law_51 (V_zero rfl rfl ?_)
        cases h
        subst eQ
        exact V_lret hG dX1_law_54
      refine V_if_ne hG 41 dX1_law_34 (by decide) (fun c_15 => ?_) (fun c_15 => ?_)
      · refine V_iload_n hG 1 rfl dX1_law_41 ?_
        refine V_iconst hG 1 rfl dX1_law_42 ?_
        refine V_icmp_ne hG 50 dX1_law_43 (by decide) (fun c_16 => ?_) (fun c_16 => ?_)
        · refine V_iconst hG 2 rfl dX1_law_50 ?_
          exact J_14 _ (by rw [et_13, if_neg c_15, if_neg c_16])
        · refine V_iconst hG 1 rfl dX1_law_46 ?_
          refine V_goto hG 51 dX1_law_47 (by decide) ?_
          exact J_14 _ (by rw [et_13, if_neg c_15, if_pos c_16])
      · refine V_iconst hG 0 rfl dX1_law_37 ?_
        refine V_goto hG 51 dX1_law_38 (by decide) ?_
        exact J_14 _ (by rw [et_13, if_pos c_15])
    · have h := if_t c_7 h
      refine V_ldc2 hG q1038 dX1_law_20 ?_
      cases h
      subst eQ
      exact V_lret hG dX1_law_23

def f_X1_meet_b1 (N : Nat) (p0 : Nat) (p1 : Int32) (p2 : Int32) (x3_17 : Int32) (S_18 : Mem) : Option (((Int32 × Mem) ⊕ (Int32 × Mem)) ⊕ (Int32 × Mem)) :=
if 199 < x3_17 then (
some (.inl (.inl (x3_17, S_18))))
else (
gd (mT S_18 p0 = 0) (
bd (mR S_18 p0 10) fun (a_29 : Nat) =>
gd (mT S_18 a_29 = 5) (
bd (f_X6_pass N a_29 0 S_18) fun (M_33 : Mem) =>
gd (mT M_33 p0 = 0) (
bd (mR M_33 p0 10) fun (a_35 : Nat) =>
gd (mT M_33 a_35 = 5) (
bd (f_X6_isOn a_35 p1 M_33) fun (r_39 : Int32) =>
if r_39 = 0 then (
be (x3_17 + 1) fun (x3_41 : Int32) =>
some (.inr (x3_41, M_33)))
else (
bd (mR M_33 p0 10) fun (a_42 : Nat) =>
gd (mT M_33 a_42 = 5) (
bd (f_X6_isOn a_42 p2 M_33) fun (r_46 : Int32) =>
if r_46 = 0 then (
be (x3_17 + 1) fun (x3_48 : Int32) =>
some (.inr (x3_48, M_33)))
else (
bd (mR M_33 p0 10) fun (a_49 : Nat) =>
gd (mT M_33 a_49 = 5) (
bd (mR M_33 a_49 0) fun (a_52 : Nat) =>
gd (mT M_33 a_52 = 100) (
gd (inb p1 (mLn M_33 a_52)) (
bd (mR M_33 p0 10) fun (a_56 : Nat) =>
gd (mT M_33 a_56 = 5) (
bd (mR M_33 a_56 0) fun (a_59 : Nat) =>
gd (mT M_33 a_59 = 100) (
gd (inb p2 (mLn M_33 a_59)) (
if mI M_33 a_52 (Int32.toNatClampNeg p1) = mI M_33 a_59 (Int32.toNatClampNeg p2) then (
some (.inl (.inr (x3_17, M_33))))
else (
be (x3_17 + 1) fun (x3_64 : Int32) =>
some (.inr (x3_64, M_33)))))))))))))))))
def f_X1_meet (N : Nat) (p0 : Nat) (p1 : Int32) (p2 : Int32) (M : Mem) : Option (Int32 × Mem) :=
gd (mT M p0 = 0) (
bd (f_X1_areTwo p0 p1 p2 M) fun (r_3 : Int32) =>
if r_3 = 0 then (
some ((-1), M))
else (
bd (mR M p0 10) fun (a_5 : Nat) =>
bd (mR M p0 9) fun (a_7 : Nat) =>
gd (mT M a_5 = 5) (
bd (f_X6_become N a_5 a_7 M) fun (M_11 : Mem) =>
bx2 (lp N (fun s_26 : Int32 × Mem => f_X1_meet_b1 N p0 p1 p2 s_26.1 s_26.2) (1, M_11)) (fun (x3_20 : Int32) (S_21 : Mem) =>
some ((-2), S_21)) (fun (w_67 : Int32 × Mem) => some w_67))))
def rm_f_X1_meet : Room := { frames := 205, cells := 0, slots := 0, locals := 4121 }
theorem ok_f_X1_meet {E : En} (hE : EOk E) (hN : NOk E) {N : Nat} {p0 : Nat} {p1 : Int32} {p2 : Int32} {M : Mem} {r : Int32} {M' : Mem} (h : f_X1_meet N p0 p1 p2 M = some (r, M')) : CM E yX1_meet cX1_meet 4 (some .int) rm_f_X1_meet [rf E p0, .int p1, .int p2] M (some (.int r)) M' := by
  unfold f_X1_meet at h
  refine CM_introX (own := RX1) rfl (by decide +kernel) (Nat.le_of_ble_eq_true rfl) rfl (fun G hG hEn hI => ?_)
  obtain ⟨Q, eQ⟩ : ∃ Q, Q = QM E G (some (.int r)) M' 0 0 := ⟨_, rfl⟩
  show V E G M 0 0 4 0 [(0, rf E p0), (1, .int p1), (2, .int p2)] [] (QM E G (some (.int r)) M' 0 0)
  rw [← eQ]
  refine V_aload_n hG 0 rfl dX1_meet_0 ?_
  refine V_iload_n hG 1 rfl dX1_meet_1 ?_
  refine V_iload_n hG 2 rfl dX1_meet_2 ?_
  obtain ⟨g_1, h⟩ := gd_of h
  obtain ⟨r_3, hc_2, h⟩ := bd_of h
  refine V_callV hE hG (ci := 0) (As := [.int p1, .int p2]) (rest := []) (ok_f_X1_areTwo hE hN hc_2) g_1 (by decide) rfl hw_X1_303 hdv_X1_areTwo ⟨Nat.le_of_ble_eq_true rfl, Nat.le_of_ble_eq_true rfl⟩ rfl rfl (Nat.le_of_ble_eq_true rfl) ⟨Nat.le_of_ble_eq_true rfl, Nat.le_of_ble_eq_true rfl⟩ dX1_meet_3 (V_zero rfl rfl ?_)
  refine V_if_ne hG 11 dX1_meet_6 (by decide) (fun c_4 => ?_) (fun c_4 => ?_)
  · have h := if_f c_4 h
    refine V_aload_n hG 0 rfl dX1_meet_11 ?_
    obtain ⟨a_5, hr_6, h⟩ := bd_of h
    refine gf_X1_105 hN hG g_1 hr_6 dX1_meet_12 ?_
    refine V_aload_n hG 0 rfl dX1_meet_15 ?_
    obtain ⟨a_7, hr_8, h⟩ := bd_of h
    refine gf_X1_101 hN hG g_1 hr_8 dX1_meet_16 ?_
    obtain ⟨g_9, h⟩ := gd_of h
    obtain ⟨M_11, hc_10, h⟩ := bd_of h
    refine V_callV hE hG (ci := 5) (As := [rf E a_7]) (rest := []) (ok_f_X6_become hE hN hc_10) g_9 (by decide) rfl hw_X1_254 hdv_X6_become ⟨Nat.le_of_ble_eq_true rfl, Nat.le_of_ble_eq_true rfl⟩ rfl rfl (Nat.le_of_ble_eq_true rfl) ⟨Nat.le_of_ble_eq_true rfl, Nat.le_of_ble_eq_true rfl⟩ dX1_meet_19 (V_zero rfl rfl ?_)
    refine V_iconst hG 1 rfl dX1_meet_22 ?_
    refine V_istore_n hG rfl [(3, .int 1), (0, rf E p0), (1, .int p1), (2, .int p2)] dX1_meet_23 (Nat.le_of_ble_eq_true rfl) rfl ?_
    obtain ⟨rr_23, hL_22, hl_24, hr_19⟩ := bx2_of h
    have J_16 : ∀ q_25 : Int32 × Mem, Sum.inl q_25 = rr_23 → V E G q_25.2 0 0 4 90 [(3, .int q_25.1), (0, rf E p0), (1, .int p1), (2, .int p2)] [] Q := by
      intro q_25 e9
      obtain ⟨x3_20, S_21⟩ := q_25
      have h := hl_24 x3_20 S_21 e9.symm
      show V E G S_21 0 0 4 90 [(3, .int x3_20), (0, rf E p0), (1, .int p1), (2, .int p2)] [] Q
      refine V_bipush hG (-2) (by decide) dX1_meet_90 ?_
      cases h
      subst eQ
      exact V_iret hG dX1_meet_92
    refine lp_walk (W := fun s_26 : Int32 × Mem => V E G s_26.2 0 0 4 24 [(3, .int s_26.1), (0, rf E p0), (1, .int p1), (2, .int p2)] [] Q) ?_ N (1, M_11) hL_22
    intro s_26 b_12 hb_13 hk_14 hx_15
    obtain ⟨x3_17, S_18⟩ := s_26
    have hb_13 : f_X1_meet_b1 N p0 p1 p2 x3_17 S_18 = some b_12 := hb_13
    unfold f_X1_meet_b1 at hb_13
    show V E G S_18 0 0 4 24 [(3, .int x3_17), (0, rf E p0), (1, .int p1), (2, .int p2)] [] Q
    refine V_iload_n hG 0 rfl dX1_meet_24 ?_
    refine V_sipush hG 199 (by decide) dX1_meet_25 ?_
    refine V_icmp_gt hG 90 dX1_meet_28 (by decide) (fun c_27 => ?_) (fun c_27 => ?_)
    · have hb_13 := if_t c_27 hb_13
      cases hb_13
      exact J_16 _ (hx_15 _ rfl)
    · have hb_13 := if_f c_27 hb_13
      refine V_aload_n hG 1 rfl dX1_meet_31 ?_
      obtain ⟨g_28, hb_13⟩ := gd_of hb_13
      obtain ⟨a_29, hr_30, hb_13⟩ := bd_of hb_13
      refine gf_X1_105 hN hG g_28 hr_30 dX1_meet_32 ?_
      refine V_iconst hG 0 rfl dX1_meet_35 ?_
      obtain ⟨g_31, hb_13⟩ := gd_of hb_13
      obtain ⟨M_33, hc_32, hb_13⟩ := bd_of hb_13
      refine V_callV hE hG (ci := 5) (As := [.int 0]) (rest := []) (ok_f_X6_pass hE hN hc_32) g_31 (by decide) rfl hw_X1_277 hdv_X6_pass ⟨Nat.le_of_ble_eq_true rfl, Nat.le_of_ble_eq_true rfl⟩ rfl rfl (Nat.le_of_ble_eq_true rfl) ⟨Nat.le_of_ble_eq_true rfl, Nat.le_of_ble_eq_true rfl⟩ dX1_meet_36 (V_zero rfl rfl ?_)
      refine V_aload_n hG 1 rfl dX1_meet_39 ?_
      obtain ⟨g_34, hb_13⟩ := gd_of hb_13
      obtain ⟨a_35, hr_36, hb_13⟩ := bd_of hb_13
      refine gf_X1_105 hN hG g_34 hr_36 dX1_meet_40 ?_
      refine V_iload_n hG 2 rfl dX1_meet_43 ?_
      obtain ⟨g_37, hb_13⟩ := gd_of hb_13
      obtain ⟨r_39, hc_38, hb_13⟩ := bd_of hb_13
      refine V_callV hE hG (ci := 5) (As := [.int p1]) (rest := []) (ok_f_X6_isOn hE hN hc_38) g_37 (by decide) rfl hw_X1_219 hdv_X6_isOn ⟨Nat.le_of_ble_eq_true rfl, Nat.le_of_ble_eq_true rfl⟩ rfl rfl (Nat.le_of_ble_eq_true rfl) ⟨Nat.le_of_ble_eq_true rfl, Nat.le_of_ble_eq_true rfl⟩ dX1_meet_44 (V_zero rfl rfl ?_)
      refine V_if_eq hG 84 dX1_meet_47 (by decide) (fun c_40 => ?_) (fun c_40 => ?_)
      · have hb_13 := if_t c_40 hb_13
        obtain ⟨x3_41, ex3_41, hb_13⟩ := be_of hb_13
        refine V_iinc hG 0 x3_41 rfl (by rw [ex3_41]; rfl) [(3, .int x3_41), (0, rf E p0), (1, .int p1), (2, .int p2)] dX1_meet_84 (Nat.le_of_ble_eq_true rfl) rfl ?_
        refine V_goto hG 24 dX1_meet_87 (by decide) ?_
        cases hb_13
        exact hk_14 _ rfl
      · have hb_13 := if_f c_40 hb_13
        refine V_aload_n hG 1 rfl dX1_meet_50 ?_
        obtain ⟨a_42, hr_43, hb_13⟩ := bd_of hb_13
        refine gf_X1_105 hN hG g_34 hr_43 dX1_meet_51 ?_
        refine V_iload_n hG 3 rfl dX1_meet_54 ?_
        obtain ⟨g_44, hb_13⟩ := gd_of hb_13
        obtain ⟨r_46, hc_45, hb_13⟩ := bd_of hb_13
        refine V_callV hE hG (ci := 5) (As := [.int p2]) (rest := []) (ok_f_X6_isOn hE hN hc_45) g_44 (by decide) rfl hw_X1_219 hdv_X6_isOn ⟨Nat.le_of_ble_eq_true rfl, Nat.le_of_ble_eq_true rfl⟩ rfl rfl (Nat.le_of_ble_eq_true rfl) ⟨Nat.le_of_ble_eq_true rfl, Nat.le_of_ble_eq_true rfl⟩ dX1_meet_55 (V_zero rfl rfl ?_)
        refine V_if_eq hG 84 dX1_meet_58 (by decide) (fun c_47 => ?_) (fun c_47 => ?_)
        · have hb_13 := if_t c_47 hb_13
          obtain ⟨x3_48, ex3_48, hb_13⟩ := be_of hb_13
          refine V_iinc hG 0 x3_48 rfl (by rw [ex3_48]; rfl) [(3, .int x3_48), (0, rf E p0), (1, .int p1), (2, .int p2)] dX1_meet_84 (Nat.le_of_ble_eq_true rfl) rfl ?_
          refine V_goto hG 24 dX1_meet_87 (by decide) ?_
          cases hb_13
          exact hk_14 _ rfl
        · have hb_13 := if_f c_47 hb_13
          refine V_aload_n hG 1 rfl dX1_meet_61 ?_
          obtain ⟨a_49, hr_50, hb_13⟩ := bd_of hb_13
          refine gf_X1_105 hN hG g_34 hr_50 dX1_meet_62 ?_
          obtain ⟨g_51, hb_13⟩ := gd_of hb_13
          obtain ⟨a_52, hr_53, hb_13⟩ := bd_of hb_13
          refine gf_X1_200 hN hG g_51 hr_53 dX1_meet_65 ?_
          refine V_iload_n hG 2 rfl dX1_meet_68 ?_
          obtain ⟨g_54, hb_13⟩ := gd_of hb_13
          obtain ⟨g_55, hb_13⟩ := gd_of hb_13
          refine V_iaload hG g_54 g_55 dX1_meet_69 ?_
          refine V_aload_n hG 1 rfl dX1_meet_70 ?_
          obtain ⟨a_56, hr_57, hb_13⟩ := bd_of hb_13
          refine gf_X1_105 hN hG g_34 hr_57 dX1_meet_71 ?_
          obtain ⟨g_58, hb_13⟩ := gd_of hb_13
          obtain ⟨a_59, hr_60, hb_13⟩ := bd_of hb_13
          refine gf_X1_200 hN hG g_58 hr_60 dX1_meet_74 ?_
          refine V_iload_n hG 3 rfl dX1_meet_77 ?_
          obtain ⟨g_61, hb_13⟩ := gd_of hb_13
          obtain ⟨g_62, hb_13⟩ := gd_of hb_13
          refine V_iaload hG g_61 g_62 dX1_meet_78 ?_
          refine V_icmp_ne hG 84 dX1_meet_79 (by decide) (fun c_63 => ?_) (fun c_63 => ?_)
          · have hb_13 := if_f c_63 hb_13
            obtain ⟨x3_64, ex3_64, hb_13⟩ := be_of hb_13
            refine V_iinc hG 0 x3_64 rfl (by rw [ex3_64]; rfl) [(3, .int x3_64), (0, rf E p0), (1, .int p1), (2, .int p2)] dX1_meet_84 (Nat.le_of_ble_eq_true rfl) rfl ?_
            refine V_goto hG 24 dX1_meet_87 (by decide) ?_
            cases hb_13
            exact hk_14 _ rfl
          · have hb_13 := if_t c_63 hb_13
            refine V_iload_n hG 0 rfl dX1_meet_82 ?_
            cases hb_13
            have e_65 := hx_15 _ rfl
            have h_66 : some (x3_17, M_33) = some (r, M') := hr_19 _ e_65.symm
            cases h_66
            subst eQ
            exact V_iret hG dX1_meet_83
  · have h := if_t c_4 h
    refine V_iconst hG (-1) rfl dX1_meet_9 ?_
    cases h
    subst eQ
    exact V_iret hG dX1_meet_10

def f_X1_nextFight_b1 (N : Nat) (p0 : Nat) (p1 : Int32) (x2_17 : Int32) (S_18 : Mem) : Option (((Int32 × Mem) ⊕ (Int32 × Mem)) ⊕ (Int32 × Mem)) :=
if 199 < x2_17 then (
some (.inl (.inl (x2_17, S_18))))
else (
gd (mT S_18 p0 = 0) (
bd (mR S_18 p0 10) fun (a_29 : Nat) =>
gd (mT S_18 a_29 = 5) (
bd (f_X6_pass N a_29 0 S_18) fun (M_33 : Mem) =>
gd (mT M_33 p0 = 0) (
bd (mR M_33 p0 10) fun (a_35 : Nat) =>
gd (mT M_33 a_35 = 5) (
if mI M_33 a_35 14 = (-1) then (
be (x2_17 + 1) fun (x2_39 : Int32) =>
some (.inr (x2_39, M_33)))
else (
bd (if p1 = 0 then (
some x2_17)
else (
bd (mR M_33 p0 10) fun (a_46 : Nat) =>
gd (mT M_33 a_46 = 5) (
some (mI M_33 a_46 14))) : Option (Int32)) fun (t_40 : Int32) =>
some (.inl (.inr (t_40, M_33)))))))))
def f_X1_nextFight (N : Nat) (p0 : Nat) (p1 : Int32) (M : Mem) : Option (Int32 × Mem) :=
bd (f_X1_in (Int32.toInt64 p1) 0 1 M) fun (r_2 : Int32) =>
if r_2 = 0 then (
some ((-1), M))
else (
gd (mT M p0 = 0) (
bd (mR M p0 10) fun (a_5 : Nat) =>
bd (mR M p0 9) fun (a_7 : Nat) =>
gd (mT M a_5 = 5) (
bd (f_X6_become N a_5 a_7 M) fun (M_11 : Mem) =>
bx2 (lp N (fun s_26 : Int32 × Mem => f_X1_nextFight_b1 N p0 p1 s_26.1 s_26.2) (1, M_11)) (fun (x2_20 : Int32) (S_21 : Mem) =>
some ((-2), S_21)) (fun (w_49 : Int32 × Mem) => some w_49))))
def rm_f_X1_nextFight : Room := { frames := 205, cells := 0, slots := 0, locals := 4121 }
theorem ok_f_X1_nextFight {E : En} (hE : EOk E) (hN : NOk E) {N : Nat} {p0 : Nat} {p1 : Int32} {M : Mem} {r : Int32} {M' : Mem} (h : f_X1_nextFight N p0 p1 M = some (r, M')) : CM E yX1_nextFight cX1_nextFight 3 (some .int) rm_f_X1_nextFight [rf E p0, .int p1] M (some (.int r)) M' := by
  unfold f_X1_nextFight at h
  refine CM_introX (own := RX1) rfl (by decide +kernel) (Nat.le_of_ble_eq_true rfl) rfl (fun G hG hEn hI => ?_)
  obtain ⟨Q, eQ⟩ : ∃ Q, Q = QM E G (some (.int r)) M' 0 0 := ⟨_, rfl⟩
  show V E G M 0 0 3 0 [(0, rf E p0), (1, .int p1)] [] (QM E G (some (.int r)) M' 0 0)
  rw [← eQ]
  refine V_iload_n hG 1 rfl dX1_nextFight_0 ?_
  refine V_i2l hG dX1_nextFight_1 ?_
  refine V_lconst hG 0 rfl dX1_nextFight_2 ?_
  refine V_lconst hG 1 rfl dX1_nextFight_3 ?_
  obtain ⟨r_2, hc_1, h⟩ := bd_of h
  refine V_callS hE hG (As := [.long (Int32.toInt64 p1), .long 0, .long 1]) (rest := []) (ok_f_X1_in hE hN hc_1) hw_X1_144 hdc_X1_in ⟨Nat.le_of_ble_eq_true rfl, Nat.le_of_ble_eq_true rfl⟩ rfl rfl (Nat.le_of_ble_eq_true rfl) ⟨Nat.le_of_ble_eq_true rfl, Nat.le_of_ble_eq_true rfl⟩ dX1_nextFight_4 (V_zero rfl rfl ?_)
  refine V_if_ne hG 12 dX1_nextFight_7 (by decide) (fun c_3 => ?_) (fun c_3 => ?_)
  · have h := if_f c_3 h
    refine V_aload_n hG 0 rfl dX1_nextFight_12 ?_
    obtain ⟨g_4, h⟩ := gd_of h
    obtain ⟨a_5, hr_6, h⟩ := bd_of h
    refine gf_X1_105 hN hG g_4 hr_6 dX1_nextFight_13 ?_
    refine V_aload_n hG 0 rfl dX1_nextFight_16 ?_
    obtain ⟨a_7, hr_8, h⟩ := bd_of h
    refine gf_X1_101 hN hG g_4 hr_8 dX1_nextFight_17 ?_
    obtain ⟨g_9, h⟩ := gd_of h
    obtain ⟨M_11, hc_10, h⟩ := bd_of h
    refine V_callV hE hG (ci := 5) (As := [rf E a_7]) (rest := []) (ok_f_X6_become hE hN hc_10) g_9 (by decide) rfl hw_X1_254 hdv_X6_become ⟨Nat.le_of_ble_eq_true rfl, Nat.le_of_ble_eq_true rfl⟩ rfl rfl (Nat.le_of_ble_eq_true rfl) ⟨Nat.le_of_ble_eq_true rfl, Nat.le_of_ble_eq_true rfl⟩ dX1_nextFight_20 (V_zero rfl rfl ?_)
    refine V_iconst hG 1 rfl dX1_nextFight_23 ?_
    refine V_istore_n hG rfl [(2, .int 1), (0, rf E p0), (1, .int p1)] dX1_nextFight_24 (Nat.le_of_ble_eq_true rfl) rfl ?_
    obtain ⟨rr_23, hL_22, hl_24, hr_19⟩ := bx2_of h
    have J_16 : ∀ q_25 : Int32 × Mem, Sum.inl q_25 = rr_23 → V E G q_25.2 0 0 3 73 [(2, .int q_25.1), (0, rf E p0), (1, .int p1)] [] Q := by
      intro q_25 e9
      obtain ⟨x2_20, S_21⟩ := q_25
      have h := hl_24 x2_20 S_21 e9.symm
      show V E G S_21 0 0 3 73 [(2, .int x2_20), (0, rf E p0), (1, .int p1)] [] Q
      refine V_bipush hG (-2) (by decide) dX1_nextFight_73 ?_
      cases h
      subst eQ
      exact V_iret hG dX1_nextFight_75
    refine lp_walk (W := fun s_26 : Int32 × Mem => V E G s_26.2 0 0 3 25 [(2, .int s_26.1), (0, rf E p0), (1, .int p1)] [] Q) ?_ N (1, M_11) hL_22
    intro s_26 b_12 hb_13 hk_14 hx_15
    obtain ⟨x2_17, S_18⟩ := s_26
    have hb_13 : f_X1_nextFight_b1 N p0 p1 x2_17 S_18 = some b_12 := hb_13
    unfold f_X1_nextFight_b1 at hb_13
    show V E G S_18 0 0 3 25 [(2, .int x2_17), (0, rf E p0), (1, .int p1)] [] Q
    refine V_iload_n hG 0 rfl dX1_nextFight_25 ?_
    refine V_sipush hG 199 (by decide) dX1_nextFight_26 ?_
    refine V_icmp_gt hG 73 dX1_nextFight_29 (by decide) (fun c_27 => ?_) (fun c_27 => ?_)
    · have hb_13 := if_t c_27 hb_13
      cases hb_13
      exact J_16 _ (hx_15 _ rfl)
    · have hb_13 := if_f c_27 hb_13
      refine V_aload_n hG 1 rfl dX1_nextFight_32 ?_
      obtain ⟨g_28, hb_13⟩ := gd_of hb_13
      obtain ⟨a_29, hr_30, hb_13⟩ := bd_of hb_13
      refine gf_X1_105 hN hG g_28 hr_30 dX1_nextFight_33 ?_
      refine V_iconst hG 0 rfl dX1_nextFight_36 ?_
      obtain ⟨g_31, hb_13⟩ := gd_of hb_13
      obtain ⟨M_33, hc_32, hb_13⟩ := bd_of hb_13
      refine V_callV hE hG (ci := 5) (As := [.int 0]) (rest := []) (ok_f_X6_pass hE hN hc_32) g_31 (by decide) rfl hw_X1_277 hdv_X6_pass ⟨Nat.le_of_ble_eq_true rfl, Nat.le_of_ble_eq_true rfl⟩ rfl rfl (Nat.le_of_ble_eq_true rfl) ⟨Nat.le_of_ble_eq_true rfl, Nat.le_of_ble_eq_true rfl⟩ dX1_nextFight_37 (V_zero rfl rfl ?_)
      refine V_aload_n hG 1 rfl dX1_nextFight_40 ?_
      obtain ⟨g_34, hb_13⟩ := gd_of hb_13
      obtain ⟨a_35, hr_36, hb_13⟩ := bd_of hb_13
      refine gf_X1_105 hN hG g_34 hr_36 dX1_nextFight_41 ?_
      obtain ⟨g_37, hb_13⟩ := gd_of hb_13
      refine gf_X1_300 hN hG g_37 dX1_nextFight_44 ?_
      refine V_iconst hG (-1) rfl dX1_nextFight_47 ?_
      refine V_icmp_eq hG 67 dX1_nextFight_48 (by decide) (fun c_38 => ?_) (fun c_38 => ?_)
      · have hb_13 := if_t c_38 hb_13
        obtain ⟨x2_39, ex2_39, hb_13⟩ := be_of hb_13
        refine V_iinc hG 0 x2_39 rfl (by rw [ex2_39]; rfl) [(2, .int x2_39), (0, rf E p0), (1, .int p1)] dX1_nextFight_67 (Nat.le_of_ble_eq_true rfl) rfl ?_
        refine V_goto hG 25 dX1_nextFight_70 (by decide) ?_
        cases hb_13
        exact hk_14 _ rfl
      · have hb_13 := if_f c_38 hb_13
        refine V_iload_n hG 2 rfl dX1_nextFight_51 ?_
        obtain ⟨t_40, hj_42, hb_13⟩ := bd_of hb_13
        have J_41 : V E G M_33 0 0 3 66 [(2, .int x2_17), (0, rf E p0), (1, .int p1)] [.int t_40] Q := by
          cases hb_13
          have e_43 := hx_15 _ rfl
          have h_44 : some (t_40, M_33) = some (r, M') := hr_19 _ e_43.symm
          cases h_44
          subst eQ
          exact V_iret hG dX1_nextFight_66
        refine V_if_ne hG 59 dX1_nextFight_52 (by decide) (fun c_45 => ?_) (fun c_45 => ?_)
        · have hj_42 := if_f c_45 hj_42
          refine V_aload_n hG 1 rfl dX1_nextFight_59 ?_
          obtain ⟨a_46, hr_47, hj_42⟩ := bd_of hj_42
          refine gf_X1_105 hN hG g_34 hr_47 dX1_nextFight_60 ?_
          obtain ⟨g_48, hj_42⟩ := gd_of hj_42
          refine gf_X1_300 hN hG g_48 dX1_nextFight_63 ?_
          cases hj_42
          exact J_41
        · have hj_42 := if_t c_45 hj_42
          refine V_iload_n hG 0 rfl dX1_nextFight_55 ?_
          refine V_goto hG 66 dX1_nextFight_56 (by decide) ?_
          cases hj_42
          exact J_41
  · have h := if_t c_3 h
    refine V_iconst hG (-1) rfl dX1_nextFight_10 ?_
    cases h
    subst eQ
    exact V_iret hG dX1_nextFight_11

def f_X1_pump_b1 (N : Nat) (p0 : Nat) (p1 : Int32) (x3_9 : Int32) (x2_10 : Int32) (S_11 : Mem) : Option ((Int32 × Int32 × Mem) ⊕ (Int32 × Int32 × Mem)) :=
gd (mT S_11 p0 = 0) (
bd (f_X1_troughs p0 S_11) fun (r_20 : Int32) =>
if 1 <<< (r_20 &&& 31) ≤ x3_9 then (
some (.inl (x3_9, x2_10, S_11)))
else (
bd2 (if x2_10 = (-2) then (
bd2 (f_X1_isPumped N p0 x3_9 p1 S_11) fun (r_30 : Int32) (M_29 : Mem) =>
if r_30 = 0 then (
some (x2_10, M_29))
else (
some (x3_9, M_29)))
else (
bd (f_J18_bitCount x3_9 S_11) fun (r_33 : Int32) =>
bd (f_J18_bitCount x2_10 S_11) fun (r_35 : Int32) =>
if r_35 ≤ r_33 then (
some (x2_10, S_11))
else (
bd2 (f_X1_isPumped N p0 x3_9 p1 S_11) fun (r_39 : Int32) (M_38 : Mem) =>
if r_39 = 0 then (
some (x2_10, M_38))
else (
some (x3_9, M_38)))) : Option (Int32 × Mem)) fun (x2_22 : Int32) (M_23 : Mem) =>
be (x3_9 + 1) fun (x3_26 : Int32) =>
some (.inr (x3_26, x2_22, M_23))))
def f_X1_pump (N : Nat) (p0 : Nat) (p1 : Int32) (M : Mem) : Option (Int32 × Mem) :=
bd (f_X1_in (Int32.toInt64 p1) 1 60 M) fun (r_2 : Int32) =>
if r_2 = 0 then (
some ((-1), M))
else (
bd3 (lp N (fun s_17 : Int32 × Int32 × Mem => f_X1_pump_b1 N p0 p1 s_17.1 s_17.2.1 s_17.2.2) (0, (-2), M)) fun (x3_12 : Int32) (x2_13 : Int32) (S_14 : Mem) =>
some (x2_13, S_14))
def rm_f_X1_pump : Room := { frames := 207, cells := 0, slots := 0, locals := 4166 }
theorem ok_f_X1_pump {E : En} (hE : EOk E) (hN : NOk E) {N : Nat} {p0 : Nat} {p1 : Int32} {M : Mem} {r : Int32} {M' : Mem} (h : f_X1_pump N p0 p1 M = some (r, M')) : CM E yX1_pump cX1_pump 4 (some .int) rm_f_X1_pump [rf E p0, .int p1] M (some (.int r)) M' := by
  unfold f_X1_pump at h
  refine CM_introX (own := RX1) rfl (by decide +kernel) (Nat.le_of_ble_eq_true rfl) rfl (fun G hG hEn hI => ?_)
  obtain ⟨Q, eQ⟩ : ∃ Q, Q = QM E G (some (.int r)) M' 0 0 := ⟨_, rfl⟩
  show V E G M 0 0 4 0 [(0, rf E p0), (1, .int p1)] [] (QM E G (some (.int r)) M' 0 0)
  rw [← eQ]
  refine V_iload_n hG 1 rfl dX1_pump_0 ?_
  refine V_i2l hG dX1_pump_1 ?_
  refine V_lconst hG 1 rfl dX1_pump_2 ?_
  refine V_ldc2 hG q1230 dX1_pump_3 ?_
  obtain ⟨r_2, hc_1, h⟩ := bd_of h
  refine V_callS hE hG (As := [.long (Int32.toInt64 p1), .long 1, .long 60]) (rest := []) (ok_f_X1_in hE hN hc_1) hw_X1_144 hdc_X1_in ⟨Nat.le_of_ble_eq_true rfl, Nat.le_of_ble_eq_true rfl⟩ rfl rfl (Nat.le_of_ble_eq_true rfl) ⟨Nat.le_of_ble_eq_true rfl, Nat.le_of_ble_eq_true rfl⟩ dX1_pump_6 (V_zero rfl rfl ?_)
  refine V_if_ne hG 14 dX1_pump_9 (by decide) (fun c_3 => ?_) (fun c_3 => ?_)
  · have h := if_f c_3 h
    refine V_bipush hG (-2) (by decide) dX1_pump_14 ?_
    refine V_istore_n hG rfl [(2, .int (-2)), (0, rf E p0), (1, .int p1)] dX1_pump_16 (Nat.le_of_ble_eq_true rfl) rfl ?_
    refine V_iconst hG 0 rfl dX1_pump_17 ?_
    refine V_istore_n hG rfl [(3, .int 0), (2, .int (-2)), (0, rf E p0), (1, .int p1)] dX1_pump_18 (Nat.le_of_ble_eq_true rfl) rfl ?_
    obtain ⟨x3_12, x2_13, S_14, hL_15, h⟩ := bd3_of h
    have J_8 : ∀ q_16 : Int32 × Int32 × Mem, q_16 = (x3_12, x2_13, S_14) → V E G q_16.2.2 0 0 4 63 [(3, .int q_16.1), (2, .int q_16.2.1), (0, rf E p0), (1, .int p1)] [] Q := by
      intro q_16 e9
      subst q_16
      show V E G S_14 0 0 4 63 [(3, .int x3_12), (2, .int x2_13), (0, rf E p0), (1, .int p1)] [] Q
      refine V_iload_n hG 1 rfl dX1_pump_63 ?_
      cases h
      subst eQ
      exact V_iret hG dX1_pump_64
    refine lp_walk (W := fun s_17 : Int32 × Int32 × Mem => V E G s_17.2.2 0 0 4 19 [(3, .int s_17.1), (2, .int s_17.2.1), (0, rf E p0), (1, .int p1)] [] Q) ?_ N (0, (-2), M) hL_15
    intro s_17 b_4 hb_5 hk_6 hx_7
    obtain ⟨x3_9, x2_10, S_11⟩ := s_17
    have hb_5 : f_X1_pump_b1 N p0 p1 x3_9 x2_10 S_11 = some b_4 := hb_5
    unfold f_X1_pump_b1 at hb_5
    show V E G S_11 0 0 4 19 [(3, .int x3_9), (2, .int x2_10), (0, rf E p0), (1, .int p1)] [] Q
    refine V_iload_n hG 0 rfl dX1_pump_19 ?_
    refine V_iconst hG 1 rfl dX1_pump_20 ?_
    refine V_aload_n hG 2 rfl dX1_pump_21 ?_
    obtain ⟨g_18, hb_5⟩ := gd_of hb_5
    obtain ⟨r_20, hc_19, hb_5⟩ := bd_of hb_5
    refine V_callV hE hG (ci := 0) (As := []) (rest := [.int 1, .int x3_9]) (ok_f_X1_troughs hE hN hc_19) g_18 (by decide) rfl hw_X1_182 hdv_X1_troughs ⟨Nat.le_of_ble_eq_true rfl, Nat.le_of_ble_eq_true rfl⟩ rfl rfl (Nat.le_of_ble_eq_true rfl) ⟨Nat.le_of_ble_eq_true rfl, Nat.le_of_ble_eq_true rfl⟩ dX1_pump_22 (V_zero rfl rfl ?_)
    refine V_ishl hG dX1_pump_25 ?_
    refine V_icmp_ge hG 63 dX1_pump_26 (by decide) (fun c_21 => ?_) (fun c_21 => ?_)
    · have hb_5 := if_t c_21 hb_5
      cases hb_5
      exact J_8 _ (hx_7 _ rfl)
    · have hb_5 := if_f c_21 hb_5
      refine V_iload_n hG 1 rfl dX1_pump_29 ?_
      refine V_bipush hG (-2) (by decide) dX1_pump_30 ?_
      obtain ⟨x2_22, M_23, hj_25, hb_5⟩ := bd2_of hb_5
      have J_24 : V E G M_23 0 0 4 57 [(3, .int x3_9), (2, .int x2_22), (0, rf E p0), (1, .int p1)] [] Q := by
        obtain ⟨x3_26, ex3_26, hb_5⟩ := be_of hb_5
        refine V_iinc hG 0 x3_26 rfl (by rw [ex3_26]; rfl) [(3, .int x3_26), (2, .int x2_22), (0, rf E p0), (1, .int p1)] dX1_pump_57 (Nat.le_of_ble_eq_true rfl) rfl ?_
        refine V_goto hG 19 dX1_pump_60 (by decide) ?_
        cases hb_5
        exact hk_6 _ rfl
      refine V_icmp_eq hG 46 dX1_pump_32 (by decide) (fun c_27 => ?_) (fun c_27 => ?_)
      · have hj_25 := if_t c_27 hj_25
        refine V_aload_n hG 2 rfl dX1_pump_46 ?_
        refine V_iload_n hG 0 rfl dX1_pump_47 ?_
        refine V_iload_n hG 3 rfl dX1_pump_48 ?_
        obtain ⟨r_30, M_29, hc_28, hj_25⟩ := bd2_of hj_25
        refine V_callV hE hG (ci := 0) (As := [.int x3_9, .int p1]) (rest := []) (ok_f_X1_isPumped hE hN hc_28) g_18 (by decide) rfl hw_X1_309 hdv_X1_isPumped ⟨Nat.le_of_ble_eq_true rfl, Nat.le_of_ble_eq_true rfl⟩ rfl rfl (Nat.le_of_ble_eq_true rfl) ⟨Nat.le_of_ble_eq_true rfl, Nat.le_of_ble_eq_true rfl⟩ dX1_pump_49 (V_zero rfl rfl ?_)
        refine V_if_eq hG 57 dX1_pump_52 (by decide) (fun c_31 => ?_) (fun c_31 => ?_)
        · have hj_25 := if_t c_31 hj_25
          cases hj_25
          exact J_24
        · have hj_25 := if_f c_31 hj_25
          refine V_iload_n hG 0 rfl dX1_pump_55 ?_
          refine V_istore_n hG rfl [(2, .int x3_9), (3, .int x3_9), (0, rf E p0), (1, .int p1)] dX1_pump_56 (Nat.le_of_ble_eq_true rfl) rfl ?_
          cases hj_25
          exact V_lv [1, 0, 2, 3] rfl (J_24)
      · have hj_25 := if_f c_27 hj_25
        refine V_iload_n hG 0 rfl dX1_pump_35 ?_
        obtain ⟨r_33, hc_32, hj_25⟩ := bd_of hj_25
        refine V_callS hE hG (As := [.int x3_9]) (rest := []) (ok_f_J18_bitCount hE hN hc_32) hw_X1_295 hdc_J18_bitCount ⟨Nat.le_of_ble_eq_true rfl, Nat.le_of_ble_eq_true rfl⟩ rfl rfl (Nat.le_of_ble_eq_true rfl) ⟨Nat.le_of_ble_eq_true rfl, Nat.le_of_ble_eq_true rfl⟩ dX1_pump_36 (V_zero rfl rfl ?_)
        refine V_iload_n hG 1 rfl dX1_pump_39 ?_
        obtain ⟨r_35, hc_34, hj_25⟩ := bd_of hj_25
        refine V_callS hE hG (As := [.int x2_10]) (rest := [.int r_33]) (ok_f_J18_bitCount hE hN hc_34) hw_X1_295 hdc_J18_bitCount ⟨Nat.le_of_ble_eq_true rfl, Nat.le_of_ble_eq_true rfl⟩ rfl rfl (Nat.le_of_ble_eq_true rfl) ⟨Nat.le_of_ble_eq_true rfl, Nat.le_of_ble_eq_true rfl⟩ dX1_pump_40 (V_zero rfl rfl ?_)
        refine V_icmp_ge hG 57 dX1_pump_43 (by decide) (fun c_36 => ?_) (fun c_36 => ?_)
        · have hj_25 := if_t c_36 hj_25
          cases hj_25
          exact J_24
        · have hj_25 := if_f c_36 hj_25
          refine V_aload_n hG 2 rfl dX1_pump_46 ?_
          refine V_iload_n hG 0 rfl dX1_pump_47 ?_
          refine V_iload_n hG 3 rfl dX1_pump_48 ?_
          obtain ⟨r_39, M_38, hc_37, hj_25⟩ := bd2_of hj_25
          refine V_callV hE hG (ci := 0) (As := [.int x3_9, .int p1]) (rest := []) (ok_f_X1_isPumped hE hN hc_37) g_18 (by decide) rfl hw_X1_309 hdv_X1_isPumped ⟨Nat.le_of_ble_eq_true rfl, Nat.le_of_ble_eq_true rfl⟩ rfl rfl (Nat.le_of_ble_eq_true rfl) ⟨Nat.le_of_ble_eq_true rfl, Nat.le_of_ble_eq_true rfl⟩ dX1_pump_49 (V_zero rfl rfl ?_)
          refine V_if_eq hG 57 dX1_pump_52 (by decide) (fun c_40 => ?_) (fun c_40 => ?_)
          · have hj_25 := if_t c_40 hj_25
            cases hj_25
            exact J_24
          · have hj_25 := if_f c_40 hj_25
            refine V_iload_n hG 0 rfl dX1_pump_55 ?_
            refine V_istore_n hG rfl [(2, .int x3_9), (3, .int x3_9), (0, rf E p0), (1, .int p1)] dX1_pump_56 (Nat.le_of_ble_eq_true rfl) rfl ?_
            cases hj_25
            exact V_lv [1, 0, 2, 3] rfl (J_24)
  · have h := if_t c_3 h
    refine V_iconst hG (-1) rfl dX1_pump_12 ?_
    cases h
    subst eQ
    exact V_iret hG dX1_pump_13
