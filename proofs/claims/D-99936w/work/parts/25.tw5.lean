set_option maxRecDepth 100000
set_option maxHeartbeats 4000000
def tw_nameMet  (S : TS) : Option (Int32) :=
be (if tI S 0 8 = 1 then (
if tI S 0 9 < 13 then (
(-1))
else (
(tI S 0 9) - 13))
else (
(-1)) : Int32) fun (y_5 : Int32) =>
some y_5
def rm_tw_nameMet : Room := { frames := 0, cells := 0, slots := 0, locals := 0 }
theorem ok_tw_nameMet {E : En} (hE : EOk E) {o : Nat} {M0 : Mem} (hM : TwS o M0)  {S : TS} {r : Int32} (h : tw_nameMet  S = some r) : CM E yX7_nameMet cX7_nameMet 1 (some .int) rm_tw_nameMet [rf E o] (tw o S M0) (some (.int r)) (tw o S M0) := by
  unfold tw_nameMet at h
  refine CM_intro (own := RX7) rfl (by decide) (Nat.le_of_ble_eq_true rfl) rfl (fun G hG => ?_)
  obtain ⟨Q, eQ⟩ : ∃ Q, Q = QM E G (some (.int r)) (tw o S M0) 0 0 := ⟨_, rfl⟩
  show V E G (tw o S M0) 0 0 1 0 [(0, rf E o)] [] (QM E G (some (.int r)) (tw o S M0) 0 0)
  rw [← eQ]
  refine V_aload_n hG 0 rfl dX7_nameMet_0 ?_
  refine g7_178 hM hG dX7_nameMet_1 ?_
  refine V_iconst hG 1 rfl dX7_nameMet_4 ?_
  obtain ⟨t_1, et_1, h⟩ := be_of h
  have J_2 : ∀ y_5 : Int32, y_5 = t_1 → V E G (tw o S M0) 0 0 1 28 [(0, rf E o)] [.int y_5] Q := by
    intro y_5 ey
    subst ey
    cases h
    subst eQ
    exact V_iret hG dX7_nameMet_28
  refine V_icmp_ne hG 27 dX7_nameMet_5 (by decide) (fun c_3 => ?_) (fun c_3 => ?_)
  · refine V_iconst hG (-1) rfl dX7_nameMet_27 ?_
    exact J_2 _ (by rw [et_1, if_neg c_3])
  · refine V_aload_n hG 0 rfl dX7_nameMet_8 ?_
    refine g7_189 hM hG dX7_nameMet_9 ?_
    refine V_bipush hG 13 (by decide) dX7_nameMet_12 ?_
    refine V_icmp_lt hG 27 dX7_nameMet_14 (by decide) (fun c_4 => ?_) (fun c_4 => ?_)
    · refine V_iconst hG (-1) rfl dX7_nameMet_27 ?_
      exact J_2 _ (by rw [et_1, if_pos c_3, if_pos c_4])
    · refine V_aload_n hG 0 rfl dX7_nameMet_17 ?_
      refine g7_189 hM hG dX7_nameMet_18 ?_
      refine V_bipush hG 13 (by decide) dX7_nameMet_21 ?_
      refine V_isub hG dX7_nameMet_23 ?_
      refine V_goto hG 28 dX7_nameMet_24 (by decide) ?_
      exact J_2 _ (by rw [et_1, if_pos c_3, if_neg c_4])

def tw_waitsFor (p1 : Int32) (S : TS) : Option (TS) :=
gd (inb (tI S 0 45) (lenA 23)) (
be (tsI S 23 (Int32.toNatClampNeg (tI S 0 45)) p1) fun S_2 =>
be (tsI S_2 0 45 ((tI S_2 0 45) + 1)) fun S_3 =>
some S_3)
def rm_tw_waitsFor : Room := { frames := 0, cells := 0, slots := 0, locals := 0 }
theorem ok_tw_waitsFor {E : En} (hE : EOk E) {o : Nat} {M0 : Mem} (hM : TwS o M0) {p1 : Int32} {S : TS}  {S' : TS} (h : tw_waitsFor p1 S = some S') : CM E yX7_waitsFor cX7_waitsFor 2 none rm_tw_waitsFor [rf E o, .int p1] (tw o S M0) none (tw o S' M0) := by
  unfold tw_waitsFor at h
  refine CM_intro (own := RX7) rfl (by decide) (Nat.le_of_ble_eq_true rfl) rfl (fun G hG => ?_)
  obtain ⟨Q, eQ⟩ : ∃ Q, Q = QM E G none (tw o S' M0) 0 0 := ⟨_, rfl⟩
  show V E G (tw o S M0) 0 0 2 0 [(0, rf E o), (1, .int p1)] [] (QM E G none (tw o S' M0) 0 0)
  rw [← eQ]
  refine V_aload_n hG 0 rfl dX7_waitsFor_0 ?_
  refine g7_81 hM hG dX7_waitsFor_1 ?_
  refine V_aload_n hG 0 rfl dX7_waitsFor_4 ?_
  refine g7_301 hM hG dX7_waitsFor_5 ?_
  refine V_iload_n hG 1 rfl dX7_waitsFor_8 ?_
  obtain ⟨g_1, h⟩ := gd_of h
  obtain ⟨S_2, eS_2, h⟩ := be_of h
  refine T_iastore hM hG eS_2 (by decide) g_1 dX7_waitsFor_9 ?_
  refine V_aload_n hG 0 rfl dX7_waitsFor_10 ?_
  refine V_dup hG rfl dX7_waitsFor_11 ?_
  refine g7_301 hM hG dX7_waitsFor_12 ?_
  refine V_iconst hG 1 rfl dX7_waitsFor_15 ?_
  refine V_iadd hG dX7_waitsFor_16 ?_
  obtain ⟨S_3, eS_3, h⟩ := be_of h
  refine p7_301 hM hG eS_3 dX7_waitsFor_17 ?_
  cases h
  subst eQ
  exact V_vret hG dX7_waitsFor_20

def tw_leafRead (N : Nat)  (S : TS) : Option (Int32 × TS) :=
bd (tw_isSign 40 S) fun r_2 =>
if r_2 = 0 then (
bd (tw_isKey 12 S) fun r_5 =>
be (fun (u_8 : Unit) =>
bd (tw_nameMet S) fun r_10 =>
be (fun (u_13 : Unit) =>
be (fun (u_16 : Unit) =>
bd2 (tw_isCounted S) fun r_19 S_18 =>
if r_19 = 0 then (
some (0, S_18))
else (
be (if r_10 < 0 then (
0)
else (
1) : Int32) fun (y_24 : Int32) =>
be (if r_10 < 0 then (
tI S_18 0 9)
else (
r_10) : Int32) fun (y_28 : Int32) =>
bd (tw_grown y_24 y_28 0 S_18) fun S_30 =>
be (tsI S_30 0 49 0) fun S_31 =>
bd (tw_token N S_31) fun S_33 =>
some (1, S_33))) fun (k_14 : Unit → Option (Int32 × TS)) =>
if 0 ≤ r_10 then (
k_14 (()))
else (
if tI S 0 9 ≤ 9999 then (
k_14 (()))
else (
bd2 (tw_wrong 2 S) fun r_38 S_37 =>
gd (r_38 = 0 ∨ r_38 = 1) (
some (r_38, S_37))))) fun (k_11 : Unit → Option (Int32 × TS)) =>
if 0 ≤ r_10 then (
k_11 (()))
else (
if tI S 0 8 = 3 then (
k_11 (()))
else (
bd2 (tw_wrong 1 S) fun r_44 S_43 =>
gd (r_44 = 0 ∨ r_44 = 1) (
some (r_44, S_43))))) fun (k_6 : Unit → Option (Int32 × TS)) =>
if r_5 = 0 then (
k_6 (()))
else (
if tI S 0 50 = 0 then (
k_6 (()))
else (
bd2 (tw_isCounted S) fun r_50 S_49 =>
if r_50 = 0 then (
some (0, S_49))
else (
bd (tw_waitsFor 2 S_49) fun S_53 =>
bd (tw_token N S_53) fun S_55 =>
some (1, S_55)))))
else (
if tI S 0 47 = 8 then (
bd2 (tw_wrong 2 S) fun r_65 S_64 =>
gd (r_65 = 0 ∨ r_65 = 1) (
some (r_65, S_64)))
else (
be (tsI S 0 47 ((tI S 0 47) + 1)) fun S_57 =>
bd (tw_waitsFor 0 S_57) fun S_59 =>
be (tsI S_59 0 50 1) fun S_60 =>
bd (tw_token N S_60) fun S_62 =>
some (1, S_62)))
def rm_tw_leafRead : Room := { frames := 2, cells := 0, slots := 0, locals := 47 }
theorem ok_tw_leafRead {E : En} (hE : EOk E) {o : Nat} {M0 : Mem} (hM : TwS o M0) {N : Nat}  {S : TS} {r : Int32} {S' : TS} (h : tw_leafRead N  S = some (r, S')) : CM E yX7_leafRead cX7_leafRead 2 (some .boolean) rm_tw_leafRead [rf E o] (tw o S M0) (some (.int r)) (tw o S' M0) := by
  unfold tw_leafRead at h
  refine CM_intro (own := RX7) rfl (by decide) (Nat.le_of_ble_eq_true rfl) rfl (fun G hG => ?_)
  obtain ⟨Q, eQ⟩ : ∃ Q, Q = QM E G (some (.int r)) (tw o S' M0) 0 0 := ⟨_, rfl⟩
  show V E G (tw o S M0) 0 0 2 0 [(0, rf E o)] [] (QM E G (some (.int r)) (tw o S' M0) 0 0)
  rw [← eQ]
  refine V_aload_n hG 0 rfl dX7_leafRead_0 ?_
  refine V_bipush hG 40 (by decide) dX7_leafRead_1 ?_
  obtain ⟨r_2, hc_1, h⟩ := bd_of h
  refine V_callV0 hE hG (As := [.int 40]) (rest := []) (ok_tw_isSign hE hM hc_1) hM.1 (by decide) rfl hw7_215 hd_tw_isSign ⟨Nat.le_of_ble_eq_true rfl, Nat.le_of_ble_eq_true rfl⟩ rfl rfl (Nat.le_of_ble_eq_true rfl) rfl rfl dX7_leafRead_3 ?_
  refine V_if_eq hG 50 dX7_leafRead_6 (by decide) (fun c_3 => ?_) (fun c_3 => ?_)
  · have h := if_t c_3 h
    refine V_aload_n hG 0 rfl dX7_leafRead_50 ?_
    refine V_bipush hG 12 (by decide) dX7_leafRead_51 ?_
    obtain ⟨r_5, hc_4, h⟩ := bd_of h
    refine V_callV0 hE hG (As := [.int 12]) (rest := []) (ok_tw_isKey hE hM hc_4) hM.1 (by decide) rfl hw7_327 hd_tw_isKey ⟨Nat.le_of_ble_eq_true rfl, Nat.le_of_ble_eq_true rfl⟩ rfl rfl (Nat.le_of_ble_eq_true rfl) rfl rfl dX7_leafRead_53 ?_
    obtain ⟨k_6, ek_6, h⟩ := bek1_of h
    have J_7 : ∀ (u_8 : Unit), k_6 u_8 = some (r, S') → V E G (tw o S M0) 0 0 2 86 [(0, rf E o)] [] Q := by
      intro u_8 h
      have h := ek_6 _ _ h
      refine V_aload_n hG 0 rfl dX7_leafRead_86 ?_
      obtain ⟨r_10, hc_9, h⟩ := bd_of h
      refine V_callV0 hE hG (As := []) (rest := []) (ok_tw_nameMet hE hM hc_9) hM.1 (by decide) rfl hw7_333 hd_tw_nameMet ⟨Nat.le_of_ble_eq_true rfl, Nat.le_of_ble_eq_true rfl⟩ rfl rfl (Nat.le_of_ble_eq_true rfl) rfl rfl dX7_leafRead_87 ?_
      refine V_istore_n hG rfl [(1, .int r_10), (0, rf E o)] dX7_leafRead_90 (Nat.le_of_ble_eq_true rfl) rfl ?_
      refine V_iload_n hG 0 rfl dX7_leafRead_91 ?_
      obtain ⟨k_11, ek_11, h⟩ := bek1_of h
      have J_12 : ∀ (u_13 : Unit), k_11 u_13 = some (r, S') → V E G (tw o S M0) 0 0 2 109 [(1, .int r_10), (0, rf E o)] [] Q := by
        intro u_13 h
        have h := ek_11 _ _ h
        refine V_iload_n hG 0 rfl dX7_leafRead_109 ?_
        obtain ⟨k_14, ek_14, h⟩ := bek1_of h
        have J_15 : ∀ (u_16 : Unit), k_14 u_16 = some (r, S') → V E G (tw o S M0) 0 0 2 129 [(1, .int r_10), (0, rf E o)] [] Q := by
          intro u_16 h
          have h := ek_14 _ _ h
          refine V_aload_n hG 1 rfl dX7_leafRead_129 ?_
          obtain ⟨r_19, S_18, hc_17, h⟩ := bd2_of h
          refine V_callV0 hE hG (As := []) (rest := []) (ok_tw_isCounted hE hM hc_17) hM.1 (by decide) rfl hw7_330 hd_tw_isCounted ⟨Nat.le_of_ble_eq_true rfl, Nat.le_of_ble_eq_true rfl⟩ rfl rfl (Nat.le_of_ble_eq_true rfl) rfl rfl dX7_leafRead_130 ?_
          refine V_if_ne hG 138 dX7_leafRead_133 (by decide) (fun c_20 => ?_) (fun c_20 => ?_)
          · have h := if_f c_20 h
            refine V_aload_n hG 1 rfl dX7_leafRead_138 ?_
            refine V_iload_n hG 0 rfl dX7_leafRead_139 ?_
            obtain ⟨t_21, et_21, h⟩ := be_of h
            have J_22 : ∀ y_24 : Int32, y_24 = t_21 → V E G (tw o S_18 M0) 0 0 2 148 [(1, .int r_10), (0, rf E o)] [.int y_24, rf E o] Q := by
              intro y_24 ey
              subst ey
              refine V_iload_n hG 0 rfl dX7_leafRead_148 ?_
              obtain ⟨t_25, et_25, h⟩ := be_of h
              have J_26 : ∀ y_28 : Int32, y_28 = t_25 → V E G (tw o S_18 M0) 0 0 2 160 [(1, .int r_10), (0, rf E o)] [.int y_28, .int y_24, rf E o] Q := by
                intro y_28 ey
                subst ey
                refine V_iconst hG 0 rfl dX7_leafRead_160 ?_
                obtain ⟨S_30, hc_29, h⟩ := bd_of h
                refine V_callV0 hE hG (As := [.int y_24, .int y_28, .int 0]) (rest := []) (ok_tw_grown hE hM hc_29) hM.1 (by decide) rfl hw7_312 hd_tw_grown ⟨Nat.le_of_ble_eq_true rfl, Nat.le_of_ble_eq_true rfl⟩ rfl rfl (Nat.le_of_ble_eq_true rfl) rfl rfl dX7_leafRead_161 ?_
                refine V_aload_n hG 1 rfl dX7_leafRead_164 ?_
                refine V_iconst hG 0 rfl dX7_leafRead_165 ?_
                obtain ⟨S_31, eS_31, h⟩ := be_of h
                refine p7_336 hM hG eS_31 (Or.inl rfl) dX7_leafRead_166 ?_
                refine V_aload_n hG 1 rfl dX7_leafRead_169 ?_
                obtain ⟨S_33, hc_32, h⟩ := bd_of h
                refine V_callV0 hE hG (As := []) (rest := []) (ok_tw_token hE hM hc_32) hM.1 (by decide) rfl hw7_212 hd_tw_token ⟨Nat.le_of_ble_eq_true rfl, Nat.le_of_ble_eq_true rfl⟩ rfl rfl (Nat.le_of_ble_eq_true rfl) rfl rfl dX7_leafRead_170 ?_
                refine V_iconst hG 1 rfl dX7_leafRead_173 ?_
                cases h
                subst eQ
                exact V_zret hG (Or.inr rfl) dX7_leafRead_174
              refine V_if_lt hG 156 dX7_leafRead_149 (by decide) (fun c_27 => ?_) (fun c_27 => ?_)
              · refine V_aload_n hG 1 rfl dX7_leafRead_156 ?_
                refine g7_189 hM hG dX7_leafRead_157 ?_
                exact J_26 _ (by rw [et_25, if_pos c_27])
              · refine V_iload_n hG 0 rfl dX7_leafRead_152 ?_
                refine V_goto hG 160 dX7_leafRead_153 (by decide) ?_
                exact J_26 _ (by rw [et_25, if_neg c_27])
            refine V_if_lt hG 147 dX7_leafRead_140 (by decide) (fun c_23 => ?_) (fun c_23 => ?_)
            · refine V_iconst hG 0 rfl dX7_leafRead_147 ?_
              exact J_22 _ (by rw [et_21, if_pos c_23])
            · refine V_iconst hG 1 rfl dX7_leafRead_143 ?_
              refine V_goto hG 148 dX7_leafRead_144 (by decide) ?_
              exact J_22 _ (by rw [et_21, if_neg c_23])
          · have h := if_t c_20 h
            refine V_iconst hG 0 rfl dX7_leafRead_136 ?_
            cases h
            subst eQ
            exact V_zret hG (Or.inl rfl) dX7_leafRead_137
        refine V_if_ge hG 129 dX7_leafRead_110 (by decide) (fun c_34 => ?_) (fun c_34 => ?_)
        · have h := if_t c_34 h
          exact J_15 (()) h
        · have h := if_f c_34 h
          refine V_aload_n hG 1 rfl dX7_leafRead_113 ?_
          refine g7_189 hM hG dX7_leafRead_114 ?_
          refine V_sipush hG 9999 (by decide) dX7_leafRead_117 ?_
          refine V_icmp_le hG 129 dX7_leafRead_120 (by decide) (fun c_35 => ?_) (fun c_35 => ?_)
          · have h := if_t c_35 h
            exact J_15 (()) h
          · have h := if_f c_35 h
            refine V_aload_n hG 1 rfl dX7_leafRead_123 ?_
            refine V_iconst hG 2 rfl dX7_leafRead_124 ?_
            obtain ⟨r_38, S_37, hc_36, h⟩ := bd2_of h
            refine V_callV0 hE hG (As := [.int 2]) (rest := []) (ok_tw_wrong hE hM hc_36) hM.1 (by decide) rfl hw7_202 hd_tw_wrong ⟨Nat.le_of_ble_eq_true rfl, Nat.le_of_ble_eq_true rfl⟩ rfl rfl (Nat.le_of_ble_eq_true rfl) rfl rfl dX7_leafRead_125 ?_
            obtain ⟨g_39, h⟩ := gd_of h
            cases h
            subst eQ
            exact V_zret hG g_39 dX7_leafRead_128
      refine V_if_ge hG 109 dX7_leafRead_92 (by decide) (fun c_40 => ?_) (fun c_40 => ?_)
      · have h := if_t c_40 h
        exact J_12 (()) h
      · have h := if_f c_40 h
        refine V_aload_n hG 1 rfl dX7_leafRead_95 ?_
        refine g7_178 hM hG dX7_leafRead_96 ?_
        refine V_iconst hG 3 rfl dX7_leafRead_99 ?_
        refine V_icmp_eq hG 109 dX7_leafRead_100 (by decide) (fun c_41 => ?_) (fun c_41 => ?_)
        · have h := if_t c_41 h
          exact J_12 (()) h
        · have h := if_f c_41 h
          refine V_aload_n hG 1 rfl dX7_leafRead_103 ?_
          refine V_iconst hG 1 rfl dX7_leafRead_104 ?_
          obtain ⟨r_44, S_43, hc_42, h⟩ := bd2_of h
          refine V_callV0 hE hG (As := [.int 1]) (rest := []) (ok_tw_wrong hE hM hc_42) hM.1 (by decide) rfl hw7_202 hd_tw_wrong ⟨Nat.le_of_ble_eq_true rfl, Nat.le_of_ble_eq_true rfl⟩ rfl rfl (Nat.le_of_ble_eq_true rfl) rfl rfl dX7_leafRead_105 ?_
          obtain ⟨g_45, h⟩ := gd_of h
          cases h
          subst eQ
          exact V_zret hG g_45 dX7_leafRead_108
    refine V_if_eq hG 86 dX7_leafRead_56 (by decide) (fun c_46 => ?_) (fun c_46 => ?_)
    · have h := if_t c_46 h
      exact J_7 (()) h
    · have h := if_f c_46 h
      refine V_aload_n hG 0 rfl dX7_leafRead_59 ?_
      refine g7_323 hM hG dX7_leafRead_60 ?_
      refine V_if_eq hG 86 dX7_leafRead_63 (by decide) (fun c_47 => ?_) (fun c_47 => ?_)
      · have h := if_t c_47 h
        exact J_7 (()) h
      · have h := if_f c_47 h
        refine V_aload_n hG 0 rfl dX7_leafRead_66 ?_
        obtain ⟨r_50, S_49, hc_48, h⟩ := bd2_of h
        refine V_callV0 hE hG (As := []) (rest := []) (ok_tw_isCounted hE hM hc_48) hM.1 (by decide) rfl hw7_330 hd_tw_isCounted ⟨Nat.le_of_ble_eq_true rfl, Nat.le_of_ble_eq_true rfl⟩ rfl rfl (Nat.le_of_ble_eq_true rfl) rfl rfl dX7_leafRead_67 ?_
        refine V_if_ne hG 75 dX7_leafRead_70 (by decide) (fun c_51 => ?_) (fun c_51 => ?_)
        · have h := if_f c_51 h
          refine V_aload_n hG 0 rfl dX7_leafRead_75 ?_
          refine V_iconst hG 2 rfl dX7_leafRead_76 ?_
          obtain ⟨S_53, hc_52, h⟩ := bd_of h
          refine V_callV0 hE hG (As := [.int 2]) (rest := []) (ok_tw_waitsFor hE hM hc_52) hM.1 (by decide) rfl hw7_319 hd_tw_waitsFor ⟨Nat.le_of_ble_eq_true rfl, Nat.le_of_ble_eq_true rfl⟩ rfl rfl (Nat.le_of_ble_eq_true rfl) rfl rfl dX7_leafRead_77 ?_
          refine V_aload_n hG 0 rfl dX7_leafRead_80 ?_
          obtain ⟨S_55, hc_54, h⟩ := bd_of h
          refine V_callV0 hE hG (As := []) (rest := []) (ok_tw_token hE hM hc_54) hM.1 (by decide) rfl hw7_212 hd_tw_token ⟨Nat.le_of_ble_eq_true rfl, Nat.le_of_ble_eq_true rfl⟩ rfl rfl (Nat.le_of_ble_eq_true rfl) rfl rfl dX7_leafRead_81 ?_
          refine V_iconst hG 1 rfl dX7_leafRead_84 ?_
          cases h
          subst eQ
          exact V_zret hG (Or.inr rfl) dX7_leafRead_85
        · have h := if_t c_51 h
          refine V_iconst hG 0 rfl dX7_leafRead_73 ?_
          cases h
          subst eQ
          exact V_zret hG (Or.inl rfl) dX7_leafRead_74
  · have h := if_f c_3 h
    refine V_aload_n hG 0 rfl dX7_leafRead_9 ?_
    refine g7_316 hM hG dX7_leafRead_10 ?_
    refine V_bipush hG 8 (by decide) dX7_leafRead_13 ?_
    refine V_icmp_ne hG 24 dX7_leafRead_15 (by decide) (fun c_56 => ?_) (fun c_56 => ?_)
    · have h := if_f c_56 h
      refine V_aload_n hG 0 rfl dX7_leafRead_24 ?_
      refine V_dup hG rfl dX7_leafRead_25 ?_
      refine g7_316 hM hG dX7_leafRead_26 ?_
      refine V_iconst hG 1 rfl dX7_leafRead_29 ?_
      refine V_iadd hG dX7_leafRead_30 ?_
      obtain ⟨S_57, eS_57, h⟩ := be_of h
      refine p7_316 hM hG eS_57 dX7_leafRead_31 ?_
      refine V_aload_n hG 0 rfl dX7_leafRead_34 ?_
      refine V_iconst hG 0 rfl dX7_leafRead_35 ?_
      obtain ⟨S_59, hc_58, h⟩ := bd_of h
      refine V_callV0 hE hG (As := [.int 0]) (rest := []) (ok_tw_waitsFor hE hM hc_58) hM.1 (by decide) rfl hw7_319 hd_tw_waitsFor ⟨Nat.le_of_ble_eq_true rfl, Nat.le_of_ble_eq_true rfl⟩ rfl rfl (Nat.le_of_ble_eq_true rfl) rfl rfl dX7_leafRead_36 ?_
      refine V_aload_n hG 0 rfl dX7_leafRead_39 ?_
      refine V_iconst hG 1 rfl dX7_leafRead_40 ?_
      obtain ⟨S_60, eS_60, h⟩ := be_of h
      refine p7_323 hM hG eS_60 (Or.inr rfl) dX7_leafRead_41 ?_
      refine V_aload_n hG 0 rfl dX7_leafRead_44 ?_
      obtain ⟨S_62, hc_61, h⟩ := bd_of h
      refine V_callV0 hE hG (As := []) (rest := []) (ok_tw_token hE hM hc_61) hM.1 (by decide) rfl hw7_212 hd_tw_token ⟨Nat.le_of_ble_eq_true rfl, Nat.le_of_ble_eq_true rfl⟩ rfl rfl (Nat.le_of_ble_eq_true rfl) rfl rfl dX7_leafRead_45 ?_
      refine V_iconst hG 1 rfl dX7_leafRead_48 ?_
      cases h
      subst eQ
      exact V_zret hG (Or.inr rfl) dX7_leafRead_49
    · have h := if_t c_56 h
      refine V_aload_n hG 0 rfl dX7_leafRead_18 ?_
      refine V_iconst hG 2 rfl dX7_leafRead_19 ?_
      obtain ⟨r_65, S_64, hc_63, h⟩ := bd2_of h
      refine V_callV0 hE hG (As := [.int 2]) (rest := []) (ok_tw_wrong hE hM hc_63) hM.1 (by decide) rfl hw7_202 hd_tw_wrong ⟨Nat.le_of_ble_eq_true rfl, Nat.le_of_ble_eq_true rfl⟩ rfl rfl (Nat.le_of_ble_eq_true rfl) rfl rfl dX7_leafRead_20 ?_
      obtain ⟨g_66, h⟩ := gd_of h
      cases h
      subst eQ
      exact V_zret hG g_66 dX7_leafRead_23

def tw_onceLine (N : Nat) (p1 : Int32) (p2 : Int32) (S : TS) : Option (Int32 × TS) :=
gd (inb p1 (lenA 3)) (
if tI S 3 (Int32.toNatClampNeg p1) = 0 then (
gd (inb p1 (lenA 3)) (
be (tsI S 3 (Int32.toNatClampNeg p1) 1) fun S_4 =>
bd (tw_token N S_4) fun S_6 =>
bd2 (tw_number N 0 p2 S_6) fun r_9 S_8 =>
if r_9 = 0 then (
some (0, S_8))
else (
gd (inb (2 + p1) (lenA 4)) (
be (tsI S_8 4 (Int32.toNatClampNeg (2 + p1)) (tI S_8 0 11)) fun S_12 =>
some (1, S_12)))))
else (
bd2 (tw_wrong 3 S) fun r_15 S_14 =>
gd (r_15 = 0 ∨ r_15 = 1) (
some (r_15, S_14))))
def rm_tw_onceLine : Room := { frames := 3, cells := 0, slots := 0, locals := 69 }
theorem ok_tw_onceLine {E : En} (hE : EOk E) {o : Nat} {M0 : Mem} (hM : TwS o M0) {N : Nat} {p1 : Int32} {p2 : Int32} {S : TS} {r : Int32} {S' : TS} (h : tw_onceLine N p1 p2 S = some (r, S')) : CM E yX7_onceLine cX7_onceLine 3 (some .boolean) rm_tw_onceLine [rf E o, .int p1, .int p2] (tw o S M0) (some (.int r)) (tw o S' M0) := by
  unfold tw_onceLine at h
  refine CM_intro (own := RX7) rfl (by decide) (Nat.le_of_ble_eq_true rfl) rfl (fun G hG => ?_)
  obtain ⟨Q, eQ⟩ : ∃ Q, Q = QM E G (some (.int r)) (tw o S' M0) 0 0 := ⟨_, rfl⟩
  show V E G (tw o S M0) 0 0 3 0 [(0, rf E o), (1, .int p1), (2, .int p2)] [] (QM E G (some (.int r)) (tw o S' M0) 0 0)
  rw [← eQ]
  refine V_aload_n hG 0 rfl dX7_onceLine_0 ?_
  refine g7_20 hM hG dX7_onceLine_1 ?_
  refine V_iload_n hG 1 rfl dX7_onceLine_4 ?_
  obtain ⟨g_1, h⟩ := gd_of h
  refine T_zaload hM hG (by decide) g_1 dX7_onceLine_5 ?_
  refine V_if_eq hG 15 dX7_onceLine_6 (by decide) (fun c_2 => ?_) (fun c_2 => ?_)
  · have h := if_t c_2 h
    refine V_aload_n hG 0 rfl dX7_onceLine_15 ?_
    refine g7_20 hM hG dX7_onceLine_16 ?_
    refine V_iload_n hG 1 rfl dX7_onceLine_19 ?_
    refine V_iconst hG 1 rfl dX7_onceLine_20 ?_
    obtain ⟨g_3, h⟩ := gd_of h
    obtain ⟨S_4, eS_4, h⟩ := be_of h
    refine T_zastore hM hG eS_4 (Or.inr rfl) (by decide) g_3 dX7_onceLine_21 ?_
    refine V_aload_n hG 0 rfl dX7_onceLine_22 ?_
    obtain ⟨S_6, hc_5, h⟩ := bd_of h
    refine V_callV0 hE hG (As := []) (rest := []) (ok_tw_token hE hM hc_5) hM.1 (by decide) rfl hw7_212 hd_tw_token ⟨Nat.le_of_ble_eq_true rfl, Nat.le_of_ble_eq_true rfl⟩ rfl rfl (Nat.le_of_ble_eq_true rfl) rfl rfl dX7_onceLine_23 ?_
    refine V_aload_n hG 0 rfl dX7_onceLine_26 ?_
    refine V_iconst hG 0 rfl dX7_onceLine_27 ?_
    refine V_iload_n hG 2 rfl dX7_onceLine_28 ?_
    obtain ⟨r_9, S_8, hc_7, h⟩ := bd2_of h
    refine V_callV0 hE hG (As := [.int 0, .int p2]) (rest := []) (ok_tw_number hE hM hc_7) hM.1 (by decide) rfl hw7_218 hd_tw_number ⟨Nat.le_of_ble_eq_true rfl, Nat.le_of_ble_eq_true rfl⟩ rfl rfl (Nat.le_of_ble_eq_true rfl) rfl rfl dX7_onceLine_29 ?_
    refine V_if_ne hG 37 dX7_onceLine_32 (by decide) (fun c_10 => ?_) (fun c_10 => ?_)
    · have h := if_f c_10 h
      refine V_aload_n hG 0 rfl dX7_onceLine_37 ?_
      refine g7_24 hM hG dX7_onceLine_38 ?_
      refine V_iconst hG 2 rfl dX7_onceLine_41 ?_
      refine V_iload_n hG 1 rfl dX7_onceLine_42 ?_
      refine V_iadd hG dX7_onceLine_43 ?_
      refine V_aload_n hG 0 rfl dX7_onceLine_44 ?_
      refine g7_209 hM hG dX7_onceLine_45 ?_
      obtain ⟨g_11, h⟩ := gd_of h
      obtain ⟨S_12, eS_12, h⟩ := be_of h
      refine T_iastore hM hG eS_12 (by decide) g_11 dX7_onceLine_48 ?_
      refine V_iconst hG 1 rfl dX7_onceLine_49 ?_
      cases h
      subst eQ
      exact V_zret hG (Or.inr rfl) dX7_onceLine_50
    · have h := if_t c_10 h
      refine V_iconst hG 0 rfl dX7_onceLine_35 ?_
      cases h
      subst eQ
      exact V_zret hG (Or.inl rfl) dX7_onceLine_36
  · have h := if_f c_2 h
    refine V_aload_n hG 0 rfl dX7_onceLine_9 ?_
    refine V_iconst hG 3 rfl dX7_onceLine_10 ?_
    obtain ⟨r_15, S_14, hc_13, h⟩ := bd2_of h
    refine V_callV0 hE hG (As := [.int 3]) (rest := []) (ok_tw_wrong hE hM hc_13) hM.1 (by decide) rfl hw7_202 hd_tw_wrong ⟨Nat.le_of_ble_eq_true rfl, Nat.le_of_ble_eq_true rfl⟩ rfl rfl (Nat.le_of_ble_eq_true rfl) rfl rfl dX7_onceLine_11 ?_
    obtain ⟨g_16, h⟩ := gd_of h
    cases h
    subst eQ
    exact V_zret hG g_16 dX7_onceLine_14

def tw_roadLine (N : Nat)  (S : TS) : Option (Int32 × TS) :=
if tI S 0 21 ≤ 0 then (
bd (tw_token N S) fun S_3 =>
bd2 (tw_number N 2 60 S_3) fun r_6 S_5 =>
if r_6 = 0 then (
some (0, S_5))
else (
be (tsI S_5 0 20 (tI S_5 0 11)) fun S_8 =>
some (1, S_8)))
else (
bd2 (tw_wrong 1 S) fun r_11 S_10 =>
gd (r_11 = 0 ∨ r_11 = 1) (
some (r_11, S_10)))
def rm_tw_roadLine : Room := { frames := 3, cells := 0, slots := 0, locals := 69 }
theorem ok_tw_roadLine {E : En} (hE : EOk E) {o : Nat} {M0 : Mem} (hM : TwS o M0) {N : Nat}  {S : TS} {r : Int32} {S' : TS} (h : tw_roadLine N  S = some (r, S')) : CM E yX7_roadLine cX7_roadLine 1 (some .boolean) rm_tw_roadLine [rf E o] (tw o S M0) (some (.int r)) (tw o S' M0) := by
  unfold tw_roadLine at h
  refine CM_intro (own := RX7) rfl (by decide) (Nat.le_of_ble_eq_true rfl) rfl (fun G hG => ?_)
  obtain ⟨Q, eQ⟩ : ∃ Q, Q = QM E G (some (.int r)) (tw o S' M0) 0 0 := ⟨_, rfl⟩
  show V E G (tw o S M0) 0 0 1 0 [(0, rf E o)] [] (QM E G (some (.int r)) (tw o S' M0) 0 0)
  rw [← eQ]
  refine V_aload_n hG 0 rfl dX7_roadLine_0 ?_
  refine g7_234 hM hG dX7_roadLine_1 ?_
  refine V_if_le hG 13 dX7_roadLine_4 (by decide) (fun c_1 => ?_) (fun c_1 => ?_)
  · have h := if_t c_1 h
    refine V_aload_n hG 0 rfl dX7_roadLine_13 ?_
    obtain ⟨S_3, hc_2, h⟩ := bd_of h
    refine V_callV0 hE hG (As := []) (rest := []) (ok_tw_token hE hM hc_2) hM.1 (by decide) rfl hw7_212 hd_tw_token ⟨Nat.le_of_ble_eq_true rfl, Nat.le_of_ble_eq_true rfl⟩ rfl rfl (Nat.le_of_ble_eq_true rfl) rfl rfl dX7_roadLine_14 ?_
    refine V_aload_n hG 0 rfl dX7_roadLine_17 ?_
    refine V_iconst hG 2 rfl dX7_roadLine_18 ?_
    refine V_bipush hG 60 (by decide) dX7_roadLine_19 ?_
    obtain ⟨r_6, S_5, hc_4, h⟩ := bd2_of h
    refine V_callV0 hE hG (As := [.int 2, .int 60]) (rest := []) (ok_tw_number hE hM hc_4) hM.1 (by decide) rfl hw7_218 hd_tw_number ⟨Nat.le_of_ble_eq_true rfl, Nat.le_of_ble_eq_true rfl⟩ rfl rfl (Nat.le_of_ble_eq_true rfl) rfl rfl dX7_roadLine_21 ?_
    refine V_if_ne hG 29 dX7_roadLine_24 (by decide) (fun c_7 => ?_) (fun c_7 => ?_)
    · have h := if_f c_7 h
      refine V_aload_n hG 0 rfl dX7_roadLine_29 ?_
      refine V_aload_n hG 0 rfl dX7_roadLine_30 ?_
      refine g7_209 hM hG dX7_roadLine_31 ?_
      obtain ⟨S_8, eS_8, h⟩ := be_of h
      refine p7_231 hM hG eS_8 dX7_roadLine_34 ?_
      refine V_iconst hG 1 rfl dX7_roadLine_37 ?_
      cases h
      subst eQ
      exact V_zret hG (Or.inr rfl) dX7_roadLine_38
    · have h := if_t c_7 h
      refine V_iconst hG 0 rfl dX7_roadLine_27 ?_
      cases h
      subst eQ
      exact V_zret hG (Or.inl rfl) dX7_roadLine_28
  · have h := if_f c_1 h
    refine V_aload_n hG 0 rfl dX7_roadLine_7 ?_
    refine V_iconst hG 1 rfl dX7_roadLine_8 ?_
    obtain ⟨r_11, S_10, hc_9, h⟩ := bd2_of h
    refine V_callV0 hE hG (As := [.int 1]) (rest := []) (ok_tw_wrong hE hM hc_9) hM.1 (by decide) rfl hw7_202 hd_tw_wrong ⟨Nat.le_of_ble_eq_true rfl, Nat.le_of_ble_eq_true rfl⟩ rfl rfl (Nat.le_of_ble_eq_true rfl) rfl rfl dX7_roadLine_9 ?_
    obtain ⟨g_12, h⟩ := gd_of h
    cases h
    subst eQ
    exact V_zret hG g_12 dX7_roadLine_12

def tw_signs (N : Nat)  (S : TS) : Option (Int32 × TS) :=
bd (tw_isSign 41 S) fun r_2 =>
be (fun (u_5 : Unit) =>
bd (tw_isKey 10 S) fun r_7 =>
bd (if r_7 = 0 then (
bd (tw_isKey 11 S) fun r_60 =>
if r_60 = 0 then (
if tI S 0 8 = 5 then (
some (5 + (tI S 0 9)))
else (
bd (tw_isSign 43 S) fun r_64 =>
if r_64 = 0 then (
bd (tw_isSign 45 S) fun r_67 =>
if r_67 = 0 then (
bd (tw_isSign 42 S) fun r_70 =>
if r_70 = 0 then (
bd (tw_isSign 47 S) fun r_73 =>
if r_73 = 0 then (
some 0)
else (
some 14))
else (
some 13))
else (
some 12))
else (
some 11)))
else (
some 4))
else (
some 3) : Option (Int32)) fun (t_8 : Int32) =>
if t_8 = 0 then (
bd2 (tw_wrong 1 S) fun r_56 S_55 =>
gd (r_56 = 0 ∨ r_56 = 1) (
some (r_56, S_55)))
else (
bd (tw_rank t_8 S) fun r_13 =>
bd (if r_13 = 4 then (
some 5)
else (
bd (tw_rank t_8 S) fun r_53 =>
some r_53) : Option (Int32)) fun (t_14 : Int32) =>
bd (tw_bind N t_14 S) fun S_18 =>
bd (tw_rank t_8 S_18) fun r_20 =>
be (fun (u_23 : Unit) =>
bd2 (tw_isCounted S_18) fun r_26 S_25 =>
if r_26 = 0 then (
some (0, S_25))
else (
bd (tw_waitsFor t_8 S_25) fun S_29 =>
be (tsI S_29 0 49 1) fun S_30 =>
bd (tw_rank t_8 S_30) fun r_32 =>
be (if 3 ≤ r_32 then (
0)
else (
1) : Int32) fun (y_36 : Int32) =>
gd (y_36 = 0 ∨ y_36 = 1) (
be (tsI S_30 0 50 y_36) fun S_37 =>
bd (tw_token N S_37) fun S_40 =>
some (1, S_40)))) fun (k_21 : Unit → Option (Int32 × TS)) =>
if r_20 = 4 then (
if tI S_18 0 45 ≤ 0 then (
k_21 (()))
else (
gd (inb ((tI S_18 0 45) - 1) (lenA 23)) (
bd (tw_rank (tI S_18 23 (Int32.toNatClampNeg ((tI S_18 0 45) - 1))) S_18) fun r_45 =>
if r_45 = 4 then (
bd2 (tw_wrong 1 S_18) fun r_49 S_48 =>
gd (r_49 = 0 ∨ r_49 = 1) (
some (r_49, S_48)))
else (
k_21 (())))))
else (
k_21 (())))) fun (k_3 : Unit → Option (Int32 × TS)) =>
if r_2 = 0 then (
k_3 (()))
else (
if tI S 0 47 ≤ 0 then (
k_3 (()))
else (
bd (tw_bind N 1 S) fun S_78 =>
be (tsI S_78 0 45 ((tI S_78 0 45) - 1)) fun S_79 =>
be (tsI S_79 0 47 ((tI S_79 0 47) - 1)) fun S_80 =>
bd (tw_token N S_80) fun S_82 =>
some (1, S_82)))
def rm_tw_signs : Room := { frames := 2, cells := 0, slots := 0, locals := 47 }
theorem ok_tw_signs {E : En} (hE : EOk E) {o : Nat} {M0 : Mem} (hM : TwS o M0) {N : Nat}  {S : TS} {r : Int32} {S' : TS} (h : tw_signs N  S = some (r, S')) : CM E yX7_signs cX7_signs 2 (some .boolean) rm_tw_signs [rf E o] (tw o S M0) (some (.int r)) (tw o S' M0) := by
  unfold tw_signs at h
  refine CM_intro (own := RX7) rfl (by decide) (Nat.le_of_ble_eq_true rfl) rfl (fun G hG => ?_)
  obtain ⟨Q, eQ⟩ : ∃ Q, Q = QM E G (some (.int r)) (tw o S' M0) 0 0 := ⟨_, rfl⟩
  show V E G (tw o S M0) 0 0 2 0 [(0, rf E o)] [] (QM E G (some (.int r)) (tw o S' M0) 0 0)
  rw [← eQ]
  refine V_aload_n hG 0 rfl dX7_signs_0 ?_
  refine V_bipush hG 41 (by decide) dX7_signs_1 ?_
  obtain ⟨r_2, hc_1, h⟩ := bd_of h
  refine V_callV0 hE hG (As := [.int 41]) (rest := []) (ok_tw_isSign hE hM hc_1) hM.1 (by decide) rfl hw7_215 hd_tw_isSign ⟨Nat.le_of_ble_eq_true rfl, Nat.le_of_ble_eq_true rfl⟩ rfl rfl (Nat.le_of_ble_eq_true rfl) rfl rfl dX7_signs_3 ?_
  obtain ⟨k_3, ek_3, h⟩ := bek1_of h
  have J_4 : ∀ (u_5 : Unit), k_3 u_5 = some (r, S') → V E G (tw o S M0) 0 0 2 47 [(0, rf E o)] [] Q := by
    intro u_5 h
    have h := ek_3 _ _ h
    refine V_aload_n hG 0 rfl dX7_signs_47 ?_
    refine V_bipush hG 10 (by decide) dX7_signs_48 ?_
    obtain ⟨r_7, hc_6, h⟩ := bd_of h
    refine V_callV0 hE hG (As := [.int 10]) (rest := []) (ok_tw_isKey hE hM hc_6) hM.1 (by decide) rfl hw7_327 hd_tw_isKey ⟨Nat.le_of_ble_eq_true rfl, Nat.le_of_ble_eq_true rfl⟩ rfl rfl (Nat.le_of_ble_eq_true rfl) rfl rfl dX7_signs_50 ?_
    obtain ⟨t_8, hj_10, h⟩ := bd_of h
    have J_9 : V E G (tw o S M0) 0 0 2 147 [(0, rf E o)] [.int t_8] Q := by
      refine V_istore_n hG rfl [(1, .int t_8), (0, rf E o)] dX7_signs_147 (Nat.le_of_ble_eq_true rfl) rfl ?_
      refine V_iload_n hG 0 rfl dX7_signs_148 ?_
      refine V_if_ne hG 158 dX7_signs_149 (by decide) (fun c_11 => ?_) (fun c_11 => ?_)
      · have h := if_f c_11 h
        refine V_aload_n hG 1 rfl dX7_signs_158 ?_
        refine V_iload_n hG 0 rfl dX7_signs_159 ?_
        obtain ⟨r_13, hc_12, h⟩ := bd_of h
        refine V_callS0 hE hG (As := [.int t_8]) (rest := [rf E o]) (ok_tw_rank hE hM hc_12) hw7_304 hd_tw_rank ⟨Nat.le_of_ble_eq_true rfl, Nat.le_of_ble_eq_true rfl⟩ rfl rfl (Nat.le_of_ble_eq_true rfl) rfl rfl dX7_signs_160 ?_
        refine V_iconst hG 4 rfl dX7_signs_163 ?_
        obtain ⟨t_14, hj_16, h⟩ := bd_of h
        have J_15 : V E G (tw o S M0) 0 0 2 175 [(1, .int t_8), (0, rf E o)] [.int t_14, rf E o] Q := by
          obtain ⟨S_18, hc_17, h⟩ := bd_of h
          refine V_callV0 hE hG (As := [.int t_14]) (rest := []) (ok_tw_bind hE hM hc_17) hM.1 (by decide) rfl hw7_339 hd_tw_bind ⟨Nat.le_of_ble_eq_true rfl, Nat.le_of_ble_eq_true rfl⟩ rfl rfl (Nat.le_of_ble_eq_true rfl) rfl rfl dX7_signs_175 ?_
          refine V_iload_n hG 0 rfl dX7_signs_178 ?_
          obtain ⟨r_20, hc_19, h⟩ := bd_of h
          refine V_callS0 hE hG (As := [.int t_8]) (rest := []) (ok_tw_rank hE hM hc_19) hw7_304 hd_tw_rank ⟨Nat.le_of_ble_eq_true rfl, Nat.le_of_ble_eq_true rfl⟩ rfl rfl (Nat.le_of_ble_eq_true rfl) rfl rfl dX7_signs_179 ?_
          refine V_iconst hG 4 rfl dX7_signs_182 ?_
          obtain ⟨k_21, ek_21, h⟩ := bek1_of h
          have J_22 : ∀ (u_23 : Unit), k_21 u_23 = some (r, S') → V E G (tw o S_18 M0) 0 0 2 217 [(1, .int t_8), (0, rf E o)] [] Q := by
            intro u_23 h
            have h := ek_21 _ _ h
            refine V_aload_n hG 1 rfl dX7_signs_217 ?_
            obtain ⟨r_26, S_25, hc_24, h⟩ := bd2_of h
            refine V_callV0 hE hG (As := []) (rest := []) (ok_tw_isCounted hE hM hc_24) hM.1 (by decide) rfl hw7_330 hd_tw_isCounted ⟨Nat.le_of_ble_eq_true rfl, Nat.le_of_ble_eq_true rfl⟩ rfl rfl (Nat.le_of_ble_eq_true rfl) rfl rfl dX7_signs_218 ?_
            refine V_if_ne hG 226 dX7_signs_221 (by decide) (fun c_27 => ?_) (fun c_27 => ?_)
            · have h := if_f c_27 h
              refine V_aload_n hG 1 rfl dX7_signs_226 ?_
              refine V_iload_n hG 0 rfl dX7_signs_227 ?_
              obtain ⟨S_29, hc_28, h⟩ := bd_of h
              refine V_callV0 hE hG (As := [.int t_8]) (rest := []) (ok_tw_waitsFor hE hM hc_28) hM.1 (by decide) rfl hw7_319 hd_tw_waitsFor ⟨Nat.le_of_ble_eq_true rfl, Nat.le_of_ble_eq_true rfl⟩ rfl rfl (Nat.le_of_ble_eq_true rfl) rfl rfl dX7_signs_228 ?_
              refine V_aload_n hG 1 rfl dX7_signs_231 ?_
              refine V_iconst hG 1 rfl dX7_signs_232 ?_
              obtain ⟨S_30, eS_30, h⟩ := be_of h
              refine p7_336 hM hG eS_30 (Or.inr rfl) dX7_signs_233 ?_
              refine V_aload_n hG 1 rfl dX7_signs_236 ?_
              refine V_iload_n hG 0 rfl dX7_signs_237 ?_
              obtain ⟨r_32, hc_31, h⟩ := bd_of h
              refine V_callS0 hE hG (As := [.int t_8]) (rest := [rf E o]) (ok_tw_rank hE hM hc_31) hw7_304 hd_tw_rank ⟨Nat.le_of_ble_eq_true rfl, Nat.le_of_ble_eq_true rfl⟩ rfl rfl (Nat.le_of_ble_eq_true rfl) rfl rfl dX7_signs_238 ?_
              refine V_iconst hG 3 rfl dX7_signs_241 ?_
              obtain ⟨t_33, et_33, h⟩ := be_of h
              have J_34 : ∀ y_36 : Int32, y_36 = t_33 → V E G (tw o S_30 M0) 0 0 2 250 [(1, .int t_8), (0, rf E o)] [.int y_36, rf E o] Q := by
                intro y_36 ey
                subst ey
                obtain ⟨g_38, h⟩ := gd_of h
                obtain ⟨S_37, eS_37, h⟩ := be_of h
                refine p7_323 hM hG eS_37 g_38 dX7_signs_250 ?_
                refine V_aload_n hG 1 rfl dX7_signs_253 ?_
                obtain ⟨S_40, hc_39, h⟩ := bd_of h
                refine V_callV0 hE hG (As := []) (rest := []) (ok_tw_token hE hM hc_39) hM.1 (by decide) rfl hw7_212 hd_tw_token ⟨Nat.le_of_ble_eq_true rfl, Nat.le_of_ble_eq_true rfl⟩ rfl rfl (Nat.le_of_ble_eq_true rfl) rfl rfl dX7_signs_254 ?_
                refine V_iconst hG 1 rfl dX7_signs_257 ?_
                cases h
                subst eQ
                exact V_zret hG (Or.inr rfl) dX7_signs_258
              refine V_icmp_ge hG 249 dX7_signs_242 (by decide) (fun c_35 => ?_) (fun c_35 => ?_)
              · refine V_iconst hG 0 rfl dX7_signs_249 ?_
                exact J_34 _ (by rw [et_33, if_pos c_35])
              · refine V_iconst hG 1 rfl dX7_signs_245 ?_
                refine V_goto hG 250 dX7_signs_246 (by decide) ?_
                exact J_34 _ (by rw [et_33, if_neg c_35])
            · have h := if_t c_27 h
              refine V_iconst hG 0 rfl dX7_signs_224 ?_
              cases h
              subst eQ
              exact V_zret hG (Or.inl rfl) dX7_signs_225
          refine V_icmp_ne hG 217 dX7_signs_183 (by decide) (fun c_41 => ?_) (fun c_41 => ?_)
          · have h := if_f c_41 h
            exact J_22 (()) h
          · have h := if_t c_41 h
            refine V_aload_n hG 1 rfl dX7_signs_186 ?_
            refine g7_301 hM hG dX7_signs_187 ?_
            refine V_if_le hG 217 dX7_signs_190 (by decide) (fun c_42 => ?_) (fun c_42 => ?_)
            · have h := if_t c_42 h
              exact J_22 (()) h
            · have h := if_f c_42 h
              refine V_aload_n hG 1 rfl dX7_signs_193 ?_
              refine g7_81 hM hG dX7_signs_194 ?_
              refine V_aload_n hG 1 rfl dX7_signs_197 ?_
              refine g7_301 hM hG dX7_signs_198 ?_
              refine V_iconst hG 1 rfl dX7_signs_201 ?_
              refine V_isub hG dX7_signs_202 ?_
              obtain ⟨g_43, h⟩ := gd_of h
              refine T_iaload hM hG (by decide) g_43 dX7_signs_203 ?_
              obtain ⟨r_45, hc_44, h⟩ := bd_of h
              refine V_callS0 hE hG (As := [.int (tI S_18 23 (Int32.toNatClampNeg ((tI S_18 0 45) - 1)))]) (rest := []) (ok_tw_rank hE hM hc_44) hw7_304 hd_tw_rank ⟨Nat.le_of_ble_eq_true rfl, Nat.le_of_ble_eq_true rfl⟩ rfl rfl (Nat.le_of_ble_eq_true rfl) rfl rfl dX7_signs_204 ?_
              refine V_iconst hG 4 rfl dX7_signs_207 ?_
              refine V_icmp_ne hG 217 dX7_signs_208 (by decide) (fun c_46 => ?_) (fun c_46 => ?_)
              · have h := if_f c_46 h
                exact J_22 (()) h
              · have h := if_t c_46 h
                refine V_aload_n hG 1 rfl dX7_signs_211 ?_
                refine V_iconst hG 1 rfl dX7_signs_212 ?_
                obtain ⟨r_49, S_48, hc_47, h⟩ := bd2_of h
                refine V_callV0 hE hG (As := [.int 1]) (rest := []) (ok_tw_wrong hE hM hc_47) hM.1 (by decide) rfl hw7_202 hd_tw_wrong ⟨Nat.le_of_ble_eq_true rfl, Nat.le_of_ble_eq_true rfl⟩ rfl rfl (Nat.le_of_ble_eq_true rfl) rfl rfl dX7_signs_213 ?_
                obtain ⟨g_50, h⟩ := gd_of h
                cases h
                subst eQ
                exact V_zret hG g_50 dX7_signs_216
        refine V_icmp_ne hG 171 dX7_signs_164 (by decide) (fun c_51 => ?_) (fun c_51 => ?_)
        · have hj_16 := if_f c_51 hj_16
          refine V_iload_n hG 0 rfl dX7_signs_171 ?_
          obtain ⟨r_53, hc_52, hj_16⟩ := bd_of hj_16
          refine V_callS0 hE hG (As := [.int t_8]) (rest := [rf E o]) (ok_tw_rank hE hM hc_52) hw7_304 hd_tw_rank ⟨Nat.le_of_ble_eq_true rfl, Nat.le_of_ble_eq_true rfl⟩ rfl rfl (Nat.le_of_ble_eq_true rfl) rfl rfl dX7_signs_172 ?_
          cases hj_16
          exact J_15
        · have hj_16 := if_t c_51 hj_16
          refine V_iconst hG 5 rfl dX7_signs_167 ?_
          refine V_goto hG 175 dX7_signs_168 (by decide) ?_
          cases hj_16
          exact J_15
      · have h := if_t c_11 h
        refine V_aload_n hG 1 rfl dX7_signs_152 ?_
        refine V_iconst hG 1 rfl dX7_signs_153 ?_
        obtain ⟨r_56, S_55, hc_54, h⟩ := bd2_of h
        refine V_callV0 hE hG (As := [.int 1]) (rest := []) (ok_tw_wrong hE hM hc_54) hM.1 (by decide) rfl hw7_202 hd_tw_wrong ⟨Nat.le_of_ble_eq_true rfl, Nat.le_of_ble_eq_true rfl⟩ rfl rfl (Nat.le_of_ble_eq_true rfl) rfl rfl dX7_signs_154 ?_
        obtain ⟨g_57, h⟩ := gd_of h
        cases h
        subst eQ
        exact V_zret hG g_57 dX7_signs_157
    refine V_if_eq hG 60 dX7_signs_53 (by decide) (fun c_58 => ?_) (fun c_58 => ?_)
    · have hj_10 := if_t c_58 hj_10
      refine V_aload_n hG 0 rfl dX7_signs_60 ?_
      refine V_bipush hG 11 (by decide) dX7_signs_61 ?_
      obtain ⟨r_60, hc_59, hj_10⟩ := bd_of hj_10
      refine V_callV0 hE hG (As := [.int 11]) (rest := []) (ok_tw_isKey hE hM hc_59) hM.1 (by decide) rfl hw7_327 hd_tw_isKey ⟨Nat.le_of_ble_eq_true rfl, Nat.le_of_ble_eq_true rfl⟩ rfl rfl (Nat.le_of_ble_eq_true rfl) rfl rfl dX7_signs_63 ?_
      refine V_if_eq hG 73 dX7_signs_66 (by decide) (fun c_61 => ?_) (fun c_61 => ?_)
      · have hj_10 := if_t c_61 hj_10
        refine V_aload_n hG 0 rfl dX7_signs_73 ?_
        refine g7_178 hM hG dX7_signs_74 ?_
        refine V_iconst hG 5 rfl dX7_signs_77 ?_
        refine V_icmp_ne hG 90 dX7_signs_78 (by decide) (fun c_62 => ?_) (fun c_62 => ?_)
        · have hj_10 := if_f c_62 hj_10
          refine V_aload_n hG 0 rfl dX7_signs_90 ?_
          refine V_bipush hG 43 (by decide) dX7_signs_91 ?_
          obtain ⟨r_64, hc_63, hj_10⟩ := bd_of hj_10
          refine V_callV0 hE hG (As := [.int 43]) (rest := []) (ok_tw_isSign hE hM hc_63) hM.1 (by decide) rfl hw7_215 hd_tw_isSign ⟨Nat.le_of_ble_eq_true rfl, Nat.le_of_ble_eq_true rfl⟩ rfl rfl (Nat.le_of_ble_eq_true rfl) rfl rfl dX7_signs_93 ?_
          refine V_if_eq hG 104 dX7_signs_96 (by decide) (fun c_65 => ?_) (fun c_65 => ?_)
          · have hj_10 := if_t c_65 hj_10
            refine V_aload_n hG 0 rfl dX7_signs_104 ?_
            refine V_bipush hG 45 (by decide) dX7_signs_105 ?_
            obtain ⟨r_67, hc_66, hj_10⟩ := bd_of hj_10
            refine V_callV0 hE hG (As := [.int 45]) (rest := []) (ok_tw_isSign hE hM hc_66) hM.1 (by decide) rfl hw7_215 hd_tw_isSign ⟨Nat.le_of_ble_eq_true rfl, Nat.le_of_ble_eq_true rfl⟩ rfl rfl (Nat.le_of_ble_eq_true rfl) rfl rfl dX7_signs_107 ?_
            refine V_if_eq hG 118 dX7_signs_110 (by decide) (fun c_68 => ?_) (fun c_68 => ?_)
            · have hj_10 := if_t c_68 hj_10
              refine V_aload_n hG 0 rfl dX7_signs_118 ?_
              refine V_bipush hG 42 (by decide) dX7_signs_119 ?_
              obtain ⟨r_70, hc_69, hj_10⟩ := bd_of hj_10
              refine V_callV0 hE hG (As := [.int 42]) (rest := []) (ok_tw_isSign hE hM hc_69) hM.1 (by decide) rfl hw7_215 hd_tw_isSign ⟨Nat.le_of_ble_eq_true rfl, Nat.le_of_ble_eq_true rfl⟩ rfl rfl (Nat.le_of_ble_eq_true rfl) rfl rfl dX7_signs_121 ?_
              refine V_if_eq hG 132 dX7_signs_124 (by decide) (fun c_71 => ?_) (fun c_71 => ?_)
              · have hj_10 := if_t c_71 hj_10
                refine V_aload_n hG 0 rfl dX7_signs_132 ?_
                refine V_bipush hG 47 (by decide) dX7_signs_133 ?_
                obtain ⟨r_73, hc_72, hj_10⟩ := bd_of hj_10
                refine V_callV0 hE hG (As := [.int 47]) (rest := []) (ok_tw_isSign hE hM hc_72) hM.1 (by decide) rfl hw7_215 hd_tw_isSign ⟨Nat.le_of_ble_eq_true rfl, Nat.le_of_ble_eq_true rfl⟩ rfl rfl (Nat.le_of_ble_eq_true rfl) rfl rfl dX7_signs_135 ?_
                refine V_if_eq hG 146 dX7_signs_138 (by decide) (fun c_74 => ?_) (fun c_74 => ?_)
                · have hj_10 := if_t c_74 hj_10
                  refine V_iconst hG 0 rfl dX7_signs_146 ?_
                  cases hj_10
                  exact J_9
                · have hj_10 := if_f c_74 hj_10
                  refine V_bipush hG 14 (by decide) dX7_signs_141 ?_
                  refine V_goto hG 147 dX7_signs_143 (by decide) ?_
                  cases hj_10
                  exact J_9
              · have hj_10 := if_f c_71 hj_10
                refine V_bipush hG 13 (by decide) dX7_signs_127 ?_
                refine V_goto hG 147 dX7_signs_129 (by decide) ?_
                cases hj_10
                exact J_9
            · have hj_10 := if_f c_68 hj_10
              refine V_bipush hG 12 (by decide) dX7_signs_113 ?_
              refine V_goto hG 147 dX7_signs_115 (by decide) ?_
              cases hj_10
              exact J_9
          · have hj_10 := if_f c_65 hj_10
            refine V_bipush hG 11 (by decide) dX7_signs_99 ?_
            refine V_goto hG 147 dX7_signs_101 (by decide) ?_
            cases hj_10
            exact J_9
        · have hj_10 := if_t c_62 hj_10
          refine V_iconst hG 5 rfl dX7_signs_81 ?_
          refine V_aload_n hG 0 rfl dX7_signs_82 ?_
          refine g7_189 hM hG dX7_signs_83 ?_
          refine V_iadd hG dX7_signs_86 ?_
          refine V_goto hG 147 dX7_signs_87 (by decide) ?_
          cases hj_10
          exact J_9
      · have hj_10 := if_f c_61 hj_10
        refine V_iconst hG 4 rfl dX7_signs_69 ?_
        refine V_goto hG 147 dX7_signs_70 (by decide) ?_
        cases hj_10
        exact J_9
    · have hj_10 := if_f c_58 hj_10
      refine V_iconst hG 3 rfl dX7_signs_56 ?_
      refine V_goto hG 147 dX7_signs_57 (by decide) ?_
      cases hj_10
      exact J_9
  refine V_if_eq hG 47 dX7_signs_6 (by decide) (fun c_75 => ?_) (fun c_75 => ?_)
  · have h := if_t c_75 h
    exact J_4 (()) h
  · have h := if_f c_75 h
    refine V_aload_n hG 0 rfl dX7_signs_9 ?_
    refine g7_316 hM hG dX7_signs_10 ?_
    refine V_if_le hG 47 dX7_signs_13 (by decide) (fun c_76 => ?_) (fun c_76 => ?_)
    · have h := if_t c_76 h
      exact J_4 (()) h
    · have h := if_f c_76 h
      refine V_aload_n hG 0 rfl dX7_signs_16 ?_
      refine V_iconst hG 1 rfl dX7_signs_17 ?_
      obtain ⟨S_78, hc_77, h⟩ := bd_of h
      refine V_callV0 hE hG (As := [.int 1]) (rest := []) (ok_tw_bind hE hM hc_77) hM.1 (by decide) rfl hw7_339 hd_tw_bind ⟨Nat.le_of_ble_eq_true rfl, Nat.le_of_ble_eq_true rfl⟩ rfl rfl (Nat.le_of_ble_eq_true rfl) rfl rfl dX7_signs_18 ?_
      refine V_aload_n hG 0 rfl dX7_signs_21 ?_
      refine V_dup hG rfl dX7_signs_22 ?_
      refine g7_301 hM hG dX7_signs_23 ?_
      refine V_iconst hG 1 rfl dX7_signs_26 ?_
      refine V_isub hG dX7_signs_27 ?_
      obtain ⟨S_79, eS_79, h⟩ := be_of h
      refine p7_301 hM hG eS_79 dX7_signs_28 ?_
      refine V_aload_n hG 0 rfl dX7_signs_31 ?_
      refine V_dup hG rfl dX7_signs_32 ?_
      refine g7_316 hM hG dX7_signs_33 ?_
      refine V_iconst hG 1 rfl dX7_signs_36 ?_
      refine V_isub hG dX7_signs_37 ?_
      obtain ⟨S_80, eS_80, h⟩ := be_of h
      refine p7_316 hM hG eS_80 dX7_signs_38 ?_
      refine V_aload_n hG 0 rfl dX7_signs_41 ?_
      obtain ⟨S_82, hc_81, h⟩ := bd_of h
      refine V_callV0 hE hG (As := []) (rest := []) (ok_tw_token hE hM hc_81) hM.1 (by decide) rfl hw7_212 hd_tw_token ⟨Nat.le_of_ble_eq_true rfl, Nat.le_of_ble_eq_true rfl⟩ rfl rfl (Nat.le_of_ble_eq_true rfl) rfl rfl dX7_signs_42 ?_
      refine V_iconst hG 1 rfl dX7_signs_45 ?_
      cases h
      subst eQ
      exact V_zret hG (Or.inr rfl) dX7_signs_46

def tw_sumRead_b1 (N : Nat) (S_11 : TS) : Option (((TS) ⊕ (Int32 × TS)) ⊕ (TS)) :=
bd (tw_isSign 59 S_11) fun r_22 =>
be (fun (u_25 : Unit) =>
if tI S_11 0 49 = 0 then (
bd2 (tw_signs N S_11) fun r_29 S_28 =>
if r_29 = 0 then (
some (.inl (.inr (0, S_28))))
else (
some (.inr S_28)))
else (
bd2 (tw_leafRead N S_11) fun r_35 S_34 =>
if r_35 = 0 then (
some (.inl (.inr (0, S_34))))
else (
some (.inr S_34)))) fun (k_23 : Unit → Option (((TS) ⊕ (Int32 × TS)) ⊕ (TS))) =>
if r_22 = 0 then (
k_23 (()))
else (
if tI S_11 0 49 = 0 then (
if tI S_11 0 47 ≤ 0 then (
some (.inl (.inl S_11)))
else (
k_23 (())))
else (
k_23 (())))
def tw_sumRead (N : Nat)  (S : TS) : Option (Int32 × TS) :=
be (tsI S 0 45 0) fun S_1 =>
be (tsI S_1 0 46 0) fun S_2 =>
be (tsI S_2 0 47 0) fun S_3 =>
be (tsI S_3 0 49 1) fun S_4 =>
be (tsI S_4 0 50 1) fun S_5 =>
bx (lp N (fun s_20 : TS => tw_sumRead_b1 N s_20) S_5) (fun (S_13 : TS) =>
bd (tw_bind N 1 S_13) fun S_19 =>
some (1, S_19)) (fun (w_42 : Int32 × TS) => some w_42)
def rm_tw_sumRead : Room := { frames := 3, cells := 0, slots := 0, locals := 68 }
theorem ok_tw_sumRead {E : En} (hE : EOk E) {o : Nat} {M0 : Mem} (hM : TwS o M0) {N : Nat}  {S : TS} {r : Int32} {S' : TS} (h : tw_sumRead N  S = some (r, S')) : CM E yX7_sumRead cX7_sumRead 1 (some .boolean) rm_tw_sumRead [rf E o] (tw o S M0) (some (.int r)) (tw o S' M0) := by
  unfold tw_sumRead at h
  refine CM_intro (own := RX7) rfl (by decide) (Nat.le_of_ble_eq_true rfl) rfl (fun G hG => ?_)
  obtain ⟨Q, eQ⟩ : ∃ Q, Q = QM E G (some (.int r)) (tw o S' M0) 0 0 := ⟨_, rfl⟩
  show V E G (tw o S M0) 0 0 1 0 [(0, rf E o)] [] (QM E G (some (.int r)) (tw o S' M0) 0 0)
  rw [← eQ]
  refine V_aload_n hG 0 rfl dX7_sumRead_0 ?_
  refine V_iconst hG 0 rfl dX7_sumRead_1 ?_
  obtain ⟨S_1, eS_1, h⟩ := be_of h
  refine p7_301 hM hG eS_1 dX7_sumRead_2 ?_
  refine V_aload_n hG 0 rfl dX7_sumRead_5 ?_
  refine V_iconst hG 0 rfl dX7_sumRead_6 ?_
  obtain ⟨S_2, eS_2, h⟩ := be_of h
  refine p7_298 hM hG eS_2 dX7_sumRead_7 ?_
  refine V_aload_n hG 0 rfl dX7_sumRead_10 ?_
  refine V_iconst hG 0 rfl dX7_sumRead_11 ?_
  obtain ⟨S_3, eS_3, h⟩ := be_of h
  refine p7_316 hM hG eS_3 dX7_sumRead_12 ?_
  refine V_aload_n hG 0 rfl dX7_sumRead_15 ?_
  refine V_iconst hG 1 rfl dX7_sumRead_16 ?_
  obtain ⟨S_4, eS_4, h⟩ := be_of h
  refine p7_336 hM hG eS_4 (Or.inr rfl) dX7_sumRead_17 ?_
  refine V_aload_n hG 0 rfl dX7_sumRead_20 ?_
  refine V_iconst hG 1 rfl dX7_sumRead_21 ?_
  obtain ⟨S_5, eS_5, h⟩ := be_of h
  refine p7_323 hM hG eS_5 (Or.inr rfl) dX7_sumRead_22 ?_
  obtain ⟨rr_15, hL_14, hl_16, hr_12⟩ := bx_of h
  have J_10 : ∀ q_17 : TS, Sum.inl q_17 = rr_15 → V E G (tw o q_17 M0) 0 0 1 74 [(0, rf E o)] [] Q := by
    intro q_17 e9
    obtain ⟨S_13, rfl⟩ : ∃ z, z = q_17 := ⟨_, rfl⟩
    have h := hl_16 S_13 e9.symm
    show V E G (tw o S_13 M0) 0 0 1 74 [(0, rf E o)] [] Q
    refine V_aload_n hG 0 rfl dX7_sumRead_74 ?_
    refine V_iconst hG 1 rfl dX7_sumRead_75 ?_
    obtain ⟨S_19, hc_18, h⟩ := bd_of h
    refine V_callV0 hE hG (As := [.int 1]) (rest := []) (ok_tw_bind hE hM hc_18) hM.1 (by decide) rfl hw7_339 hd_tw_bind ⟨Nat.le_of_ble_eq_true rfl, Nat.le_of_ble_eq_true rfl⟩ rfl rfl (Nat.le_of_ble_eq_true rfl) rfl rfl dX7_sumRead_76 ?_
    refine V_iconst hG 1 rfl dX7_sumRead_79 ?_
    cases h
    subst eQ
    exact V_zret hG (Or.inr rfl) dX7_sumRead_80
  refine lp_walk (W := fun s_20 : TS => V E G (tw o s_20 M0) 0 0 1 25 [(0, rf E o)] [] Q) ?_ N S_5 hL_14
  intro s_20 b_6 hb_7 hk_8 hx_9
  obtain ⟨S_11, rfl⟩ : ∃ z, z = s_20 := ⟨_, rfl⟩
  have hb_7 : tw_sumRead_b1 N S_11 = some b_6 := hb_7
  unfold tw_sumRead_b1 at hb_7
  show V E G (tw o S_11 M0) 0 0 1 25 [(0, rf E o)] [] Q
  refine V_aload_n hG 0 rfl dX7_sumRead_25 ?_
  refine V_bipush hG 59 (by decide) dX7_sumRead_26 ?_
  obtain ⟨r_22, hc_21, hb_7⟩ := bd_of hb_7
  refine V_callV0 hE hG (As := [.int 59]) (rest := []) (ok_tw_isSign hE hM hc_21) hM.1 (by decide) rfl hw7_215 hd_tw_isSign ⟨Nat.le_of_ble_eq_true rfl, Nat.le_of_ble_eq_true rfl⟩ rfl rfl (Nat.le_of_ble_eq_true rfl) rfl rfl dX7_sumRead_28 ?_
  obtain ⟨k_23, ek_23, hb_7⟩ := bek1_of hb_7
  have J_24 : ∀ (u_25 : Unit), k_23 u_25 = some b_6 → V E G (tw o S_11 M0) 0 0 1 48 [(0, rf E o)] [] Q := by
    intro u_25 hb_7
    have hb_7 := ek_23 _ _ hb_7
    refine V_aload_n hG 0 rfl dX7_sumRead_48 ?_
    refine g7_336 hM hG dX7_sumRead_49 ?_
    refine V_if_eq hG 65 dX7_sumRead_52 (by decide) (fun c_26 => ?_) (fun c_26 => ?_)
    · have hb_7 := if_t c_26 hb_7
      refine V_aload_n hG 0 rfl dX7_sumRead_65 ?_
      obtain ⟨r_29, S_28, hc_27, hb_7⟩ := bd2_of hb_7
      refine V_callV0 hE hG (As := []) (rest := []) (ok_tw_signs hE hM hc_27) hM.1 (by decide) rfl hw7_345 hd_tw_signs ⟨Nat.le_of_ble_eq_true rfl, Nat.le_of_ble_eq_true rfl⟩ rfl rfl (Nat.le_of_ble_eq_true rfl) rfl rfl dX7_sumRead_66 ?_
      refine V_if_ne hG 25 dX7_sumRead_69 (by decide) (fun c_30 => ?_) (fun c_30 => ?_)
      · have hb_7 := if_f c_30 hb_7
        cases hb_7
        exact hk_8 _ rfl
      · have hb_7 := if_t c_30 hb_7
        refine V_iconst hG 0 rfl dX7_sumRead_72 ?_
        cases hb_7
        have e_31 := hx_9 _ rfl
        have h_32 : some (0, S_28) = some (r, S') := hr_12 _ e_31.symm
        cases h_32
        subst eQ
        exact V_zret hG (Or.inl rfl) dX7_sumRead_73
    · have hb_7 := if_f c_26 hb_7
      refine V_aload_n hG 0 rfl dX7_sumRead_55 ?_
      obtain ⟨r_35, S_34, hc_33, hb_7⟩ := bd2_of hb_7
      refine V_callV0 hE hG (As := []) (rest := []) (ok_tw_leafRead hE hM hc_33) hM.1 (by decide) rfl hw7_342 hd_tw_leafRead ⟨Nat.le_of_ble_eq_true rfl, Nat.le_of_ble_eq_true rfl⟩ rfl rfl (Nat.le_of_ble_eq_true rfl) rfl rfl dX7_sumRead_56 ?_
      refine V_if_eq hG 72 dX7_sumRead_59 (by decide) (fun c_36 => ?_) (fun c_36 => ?_)
      · have hb_7 := if_t c_36 hb_7
        refine V_iconst hG 0 rfl dX7_sumRead_72 ?_
        cases hb_7
        have e_37 := hx_9 _ rfl
        have h_38 : some (0, S_34) = some (r, S') := hr_12 _ e_37.symm
        cases h_38
        subst eQ
        exact V_zret hG (Or.inl rfl) dX7_sumRead_73
      · have hb_7 := if_f c_36 hb_7
        refine V_goto hG 25 dX7_sumRead_62 (by decide) ?_
        cases hb_7
        exact hk_8 _ rfl
  refine V_if_eq hG 48 dX7_sumRead_31 (by decide) (fun c_39 => ?_) (fun c_39 => ?_)
  · have hb_7 := if_t c_39 hb_7
    exact J_24 (()) hb_7
  · have hb_7 := if_f c_39 hb_7
    refine V_aload_n hG 0 rfl dX7_sumRead_34 ?_
    refine g7_336 hM hG dX7_sumRead_35 ?_
    refine V_if_ne hG 48 dX7_sumRead_38 (by decide) (fun c_40 => ?_) (fun c_40 => ?_)
    · have hb_7 := if_f c_40 hb_7
      exact J_24 (()) hb_7
    · have hb_7 := if_t c_40 hb_7
      refine V_aload_n hG 0 rfl dX7_sumRead_41 ?_
      refine g7_316 hM hG dX7_sumRead_42 ?_
      refine V_if_le hG 74 dX7_sumRead_45 (by decide) (fun c_41 => ?_) (fun c_41 => ?_)
      · have hb_7 := if_t c_41 hb_7
        cases hb_7
        exact J_10 _ (hx_9 _ rfl)
      · have hb_7 := if_f c_41 hb_7
        exact J_24 (()) hb_7

def tw_troughLine (N : Nat)  (S : TS) : Option (Int32 × TS) :=
if tI S 0 17 = 6 then (
bd2 (tw_wrong 2 S) fun r_39 S_38 =>
gd (r_39 = 0 ∨ r_39 = 1) (
some (r_39, S_38)))
else (
bd (tw_token N S) fun S_3 =>
bd2 (tw_newName N 5 6 (tI S_3 0 17) S_3) fun r_6 S_5 =>
if r_6 = 0 then (
some (0, S_5))
else (
be (6 + (tI S_5 0 17)) fun (x1_8 : Int32) =>
be (tI S_5 0 10) fun (x2_9 : Int32) =>
bd2 (tw_number N 0 (tI S_5 0 20) S_5) fun r_12 S_11 =>
if r_12 = 0 then (
some (0, S_11))
else (
bd (tw_find N 6 6 (tI S_11 0 17) (tI S_11 0 11) S_11) fun r_15 =>
if r_15 < 0 then (
gd (inb x1_8 (lenA 6)) (
be (tsI S_11 6 (Int32.toNatClampNeg x1_8) (tI S_11 0 11)) fun S_18 =>
bd2 (tw_number N 0 99 S_18) fun r_21 S_20 =>
if r_21 = 0 then (
some (0, S_20))
else (
gd (inb x1_8 (lenA 7)) (
be (tsI S_20 7 (Int32.toNatClampNeg x1_8) (tI S_20 0 11)) fun S_24 =>
bd2 (tw_number N 0 9 S_24) fun r_27 S_26 =>
if r_27 = 0 then (
some (0, S_26))
else (
gd (inb x1_8 (lenA 8)) (
be (tsI S_26 8 (Int32.toNatClampNeg x1_8) (tI S_26 0 11)) fun S_30 =>
be (tsI S_30 0 17 ((tI S_30 0 17) + 1)) fun S_31 =>
some (1, S_31)))))))
else (
be (tsI S_11 0 10 x2_9) fun S_32 =>
bd2 (tw_wrong 3 S_32) fun r_35 S_34 =>
gd (r_35 = 0 ∨ r_35 = 1) (
some (r_35, S_34))))))
def rm_tw_troughLine : Room := { frames := 3, cells := 0, slots := 0, locals := 70 }
theorem ok_tw_troughLine {E : En} (hE : EOk E) {o : Nat} {M0 : Mem} (hM : TwS o M0) {N : Nat}  {S : TS} {r : Int32} {S' : TS} (h : tw_troughLine N  S = some (r, S')) : CM E yX7_troughLine cX7_troughLine 3 (some .boolean) rm_tw_troughLine [rf E o] (tw o S M0) (some (.int r)) (tw o S' M0) := by
  unfold tw_troughLine at h
  refine CM_intro (own := RX7) rfl (by decide) (Nat.le_of_ble_eq_true rfl) rfl (fun G hG => ?_)
  obtain ⟨Q, eQ⟩ : ∃ Q, Q = QM E G (some (.int r)) (tw o S' M0) 0 0 := ⟨_, rfl⟩
  show V E G (tw o S M0) 0 0 3 0 [(0, rf E o)] [] (QM E G (some (.int r)) (tw o S' M0) 0 0)
  rw [← eQ]
  refine V_aload_n hG 0 rfl dX7_troughLine_0 ?_
  refine g7_222 hM hG dX7_troughLine_1 ?_
  refine V_bipush hG 6 (by decide) dX7_troughLine_4 ?_
  refine V_icmp_ne hG 15 dX7_troughLine_6 (by decide) (fun c_1 => ?_) (fun c_1 => ?_)
  · have h := if_f c_1 h
    refine V_aload_n hG 0 rfl dX7_troughLine_15 ?_
    obtain ⟨S_3, hc_2, h⟩ := bd_of h
    refine V_callV0 hE hG (As := []) (rest := []) (ok_tw_token hE hM hc_2) hM.1 (by decide) rfl hw7_212 hd_tw_token ⟨Nat.le_of_ble_eq_true rfl, Nat.le_of_ble_eq_true rfl⟩ rfl rfl (Nat.le_of_ble_eq_true rfl) rfl rfl dX7_troughLine_16 ?_
    refine V_aload_n hG 0 rfl dX7_troughLine_19 ?_
    refine V_aload_n hG 0 rfl dX7_troughLine_20 ?_
    refine g7_27 hM hG dX7_troughLine_21 ?_
    refine V_bipush hG 6 (by decide) dX7_troughLine_24 ?_
    refine V_aload_n hG 0 rfl dX7_troughLine_26 ?_
    refine g7_222 hM hG dX7_troughLine_27 ?_
    obtain ⟨r_6, S_5, hc_4, h⟩ := bd2_of h
    refine V_callV0 hE hG (As := [rf E ((o + 5)), .int 6, .int (tI S_3 0 17)]) (rest := []) (ok_tw_newName hE hM hc_4) hM.1 (by decide) rfl hw7_269 hd_tw_newName ⟨Nat.le_of_ble_eq_true rfl, Nat.le_of_ble_eq_true rfl⟩ rfl rfl (Nat.le_of_ble_eq_true rfl) rfl rfl dX7_troughLine_30 ?_
    refine V_if_ne hG 38 dX7_troughLine_33 (by decide) (fun c_7 => ?_) (fun c_7 => ?_)
    · have h := if_f c_7 h
      refine V_bipush hG 6 (by decide) dX7_troughLine_38 ?_
      refine V_aload_n hG 0 rfl dX7_troughLine_40 ?_
      refine g7_222 hM hG dX7_troughLine_41 ?_
      refine V_iadd hG dX7_troughLine_44 ?_
      obtain ⟨x1_8, ex1_8, h⟩ := be_of h
      refine V_topi ex1_8 ?_
      refine V_istore_n hG rfl [(1, .int x1_8), (0, rf E o)] dX7_troughLine_45 (Nat.le_of_ble_eq_true rfl) rfl ?_
      refine V_aload_n hG 1 rfl dX7_troughLine_46 ?_
      refine g7_169 hM hG dX7_troughLine_47 ?_
      obtain ⟨x2_9, ex2_9, h⟩ := be_of h
      refine V_topi ex2_9 ?_
      refine V_istore_n hG rfl [(2, .int x2_9), (1, .int x1_8), (0, rf E o)] dX7_troughLine_50 (Nat.le_of_ble_eq_true rfl) rfl ?_
      refine V_aload_n hG 2 rfl dX7_troughLine_51 ?_
      refine V_iconst hG 0 rfl dX7_troughLine_52 ?_
      refine V_aload_n hG 2 rfl dX7_troughLine_53 ?_
      refine g7_231 hM hG dX7_troughLine_54 ?_
      obtain ⟨r_12, S_11, hc_10, h⟩ := bd2_of h
      refine V_callV0 hE hG (As := [.int 0, .int (tI S_5 0 20)]) (rest := []) (ok_tw_number hE hM hc_10) hM.1 (by decide) rfl hw7_218 hd_tw_number ⟨Nat.le_of_ble_eq_true rfl, Nat.le_of_ble_eq_true rfl⟩ rfl rfl (Nat.le_of_ble_eq_true rfl) rfl rfl dX7_troughLine_57 ?_
      refine V_if_ne hG 65 dX7_troughLine_60 (by decide) (fun c_13 => ?_) (fun c_13 => ?_)
      · have h := if_f c_13 h
        refine V_aload_n hG 2 rfl dX7_troughLine_65 ?_
        refine g7_30 hM hG dX7_troughLine_66 ?_
        refine V_bipush hG 6 (by decide) dX7_troughLine_69 ?_
        refine V_aload_n hG 2 rfl dX7_troughLine_71 ?_
        refine g7_222 hM hG dX7_troughLine_72 ?_
        refine V_aload_n hG 2 rfl dX7_troughLine_75 ?_
        refine g7_209 hM hG dX7_troughLine_76 ?_
        obtain ⟨r_15, hc_14, h⟩ := bd_of h
        refine V_callS0 hE hG (As := [rf E ((o + 6)), .int 6, .int (tI S_11 0 17), .int (tI S_11 0 11)]) (rest := []) (ok_tw_find hE hM hc_14) hw7_265 hd_tw_find ⟨Nat.le_of_ble_eq_true rfl, Nat.le_of_ble_eq_true rfl⟩ rfl rfl (Nat.le_of_ble_eq_true rfl) rfl rfl dX7_troughLine_79 ?_
        refine V_if_lt hG 96 dX7_troughLine_82 (by decide) (fun c_16 => ?_) (fun c_16 => ?_)
        · have h := if_t c_16 h
          refine V_aload_n hG 2 rfl dX7_troughLine_96 ?_
          refine g7_30 hM hG dX7_troughLine_97 ?_
          refine V_iload_n hG 1 rfl dX7_troughLine_100 ?_
          refine V_aload_n hG 2 rfl dX7_troughLine_101 ?_
          refine g7_209 hM hG dX7_troughLine_102 ?_
          obtain ⟨g_17, h⟩ := gd_of h
          obtain ⟨S_18, eS_18, h⟩ := be_of h
          refine T_iastore hM hG eS_18 (by decide) g_17 dX7_troughLine_105 ?_
          refine V_aload_n hG 2 rfl dX7_troughLine_106 ?_
          refine V_iconst hG 0 rfl dX7_troughLine_107 ?_
          refine V_bipush hG 99 (by decide) dX7_troughLine_108 ?_
          obtain ⟨r_21, S_20, hc_19, h⟩ := bd2_of h
          refine V_callV0 hE hG (As := [.int 0, .int 99]) (rest := []) (ok_tw_number hE hM hc_19) hM.1 (by decide) rfl hw7_218 hd_tw_number ⟨Nat.le_of_ble_eq_true rfl, Nat.le_of_ble_eq_true rfl⟩ rfl rfl (Nat.le_of_ble_eq_true rfl) rfl rfl dX7_troughLine_110 ?_
          refine V_if_ne hG 118 dX7_troughLine_113 (by decide) (fun c_22 => ?_) (fun c_22 => ?_)
          · have h := if_f c_22 h
            refine V_aload_n hG 2 rfl dX7_troughLine_118 ?_
            refine g7_33 hM hG dX7_troughLine_119 ?_
            refine V_iload_n hG 1 rfl dX7_troughLine_122 ?_
            refine V_aload_n hG 2 rfl dX7_troughLine_123 ?_
            refine g7_209 hM hG dX7_troughLine_124 ?_
            obtain ⟨g_23, h⟩ := gd_of h
            obtain ⟨S_24, eS_24, h⟩ := be_of h
            refine T_iastore hM hG eS_24 (by decide) g_23 dX7_troughLine_127 ?_
            refine V_aload_n hG 2 rfl dX7_troughLine_128 ?_
            refine V_iconst hG 0 rfl dX7_troughLine_129 ?_
            refine V_bipush hG 9 (by decide) dX7_troughLine_130 ?_
            obtain ⟨r_27, S_26, hc_25, h⟩ := bd2_of h
            refine V_callV0 hE hG (As := [.int 0, .int 9]) (rest := []) (ok_tw_number hE hM hc_25) hM.1 (by decide) rfl hw7_218 hd_tw_number ⟨Nat.le_of_ble_eq_true rfl, Nat.le_of_ble_eq_true rfl⟩ rfl rfl (Nat.le_of_ble_eq_true rfl) rfl rfl dX7_troughLine_132 ?_
            refine V_if_ne hG 140 dX7_troughLine_135 (by decide) (fun c_28 => ?_) (fun c_28 => ?_)
            · have h := if_f c_28 h
              refine V_aload_n hG 2 rfl dX7_troughLine_140 ?_
              refine g7_36 hM hG dX7_troughLine_141 ?_
              refine V_iload_n hG 1 rfl dX7_troughLine_144 ?_
              refine V_aload_n hG 2 rfl dX7_troughLine_145 ?_
              refine g7_209 hM hG dX7_troughLine_146 ?_
              obtain ⟨g_29, h⟩ := gd_of h
              obtain ⟨S_30, eS_30, h⟩ := be_of h
              refine T_iastore hM hG eS_30 (by decide) g_29 dX7_troughLine_149 ?_
              refine V_aload_n hG 2 rfl dX7_troughLine_150 ?_
              refine V_dup hG rfl dX7_troughLine_151 ?_
              refine g7_222 hM hG dX7_troughLine_152 ?_
              refine V_iconst hG 1 rfl dX7_troughLine_155 ?_
              refine V_iadd hG dX7_troughLine_156 ?_
              obtain ⟨S_31, eS_31, h⟩ := be_of h
              refine p7_222 hM hG eS_31 dX7_troughLine_157 ?_
              refine V_iconst hG 1 rfl dX7_troughLine_160 ?_
              cases h
              subst eQ
              exact V_zret hG (Or.inr rfl) dX7_troughLine_161
            · have h := if_t c_28 h
              refine V_iconst hG 0 rfl dX7_troughLine_138 ?_
              cases h
              subst eQ
              exact V_zret hG (Or.inl rfl) dX7_troughLine_139
          · have h := if_t c_22 h
            refine V_iconst hG 0 rfl dX7_troughLine_116 ?_
            cases h
            subst eQ
            exact V_zret hG (Or.inl rfl) dX7_troughLine_117
        · have h := if_f c_16 h
          refine V_aload_n hG 2 rfl dX7_troughLine_85 ?_
          refine V_iload_n hG 0 rfl dX7_troughLine_86 ?_
          obtain ⟨S_32, eS_32, h⟩ := be_of h
          refine p7_169 hM hG eS_32 dX7_troughLine_87 ?_
          refine V_aload_n hG 2 rfl dX7_troughLine_90 ?_
          refine V_iconst hG 3 rfl dX7_troughLine_91 ?_
          obtain ⟨r_35, S_34, hc_33, h⟩ := bd2_of h
          refine V_callV0 hE hG (As := [.int 3]) (rest := []) (ok_tw_wrong hE hM hc_33) hM.1 (by decide) rfl hw7_202 hd_tw_wrong ⟨Nat.le_of_ble_eq_true rfl, Nat.le_of_ble_eq_true rfl⟩ rfl rfl (Nat.le_of_ble_eq_true rfl) rfl rfl dX7_troughLine_92 ?_
          obtain ⟨g_36, h⟩ := gd_of h
          cases h
          subst eQ
          exact V_zret hG g_36 dX7_troughLine_95
      · have h := if_t c_13 h
        refine V_iconst hG 0 rfl dX7_troughLine_63 ?_
        cases h
        subst eQ
        exact V_zret hG (Or.inl rfl) dX7_troughLine_64
    · have h := if_t c_7 h
      refine V_iconst hG 0 rfl dX7_troughLine_36 ?_
      cases h
      subst eQ
      exact V_zret hG (Or.inl rfl) dX7_troughLine_37
  · have h := if_t c_1 h
    refine V_aload_n hG 0 rfl dX7_troughLine_9 ?_
    refine V_iconst hG 2 rfl dX7_troughLine_10 ?_
    obtain ⟨r_39, S_38, hc_37, h⟩ := bd2_of h
    refine V_callV0 hE hG (As := [.int 2]) (rest := []) (ok_tw_wrong hE hM hc_37) hM.1 (by decide) rfl hw7_202 hd_tw_wrong ⟨Nat.le_of_ble_eq_true rfl, Nat.le_of_ble_eq_true rfl⟩ rfl rfl (Nat.le_of_ble_eq_true rfl) rfl rfl dX7_troughLine_11 ?_
    obtain ⟨g_40, h⟩ := gd_of h
    cases h
    subst eQ
    exact V_zret hG g_40 dX7_troughLine_14

def tw_lineRead (N : Nat)  (S : TS) : Option (Int32 × TS) :=
if tI S 0 8 = 1 then (
if tI S 0 9 ≤ 6 then (
be (fun (x1_7 : Int32) (S_8 : TS) =>
if x1_7 = 0 then (
some (0, S_8))
else (
bd (tw_isSign 59 S_8) fun r_13 =>
if r_13 = 0 then (
bd2 (tw_wrong 1 S_8) fun r_19 S_18 =>
gd (r_19 = 0 ∨ r_19 = 1) (
some (r_19, S_18)))
else (
bd (tw_token N S_8) fun S_16 =>
some (1, S_16)))) fun (k_9 : Int32 → TS → Option (Int32 × TS)) =>
if tI S 0 9 = 0 then (
bd2 (tw_roadLine N S) fun r_24 S_23 =>
k_9 r_24 S_23)
else (
if tI S 0 9 = 1 then (
bd2 (tw_troughLine N S) fun r_28 S_27 =>
k_9 r_28 S_27)
else (
if tI S 0 9 = 2 then (
bd2 (tw_horseLine N S) fun r_32 S_31 =>
k_9 r_32 S_31)
else (
if tI S 0 9 = 3 then (
bd2 (tw_lapLine N S) fun r_36 S_35 =>
k_9 r_36 S_35)
else (
if tI S 0 9 = 4 then (
bd2 (tw_onceLine N 0 100 S) fun r_40 S_39 =>
k_9 r_40 S_39)
else (
if tI S 0 9 = 5 then (
bd2 (tw_onceLine N 1 99999 S) fun r_44 S_43 =>
k_9 r_44 S_43)
else (
bd (tw_token N S) fun S_46 =>
if tI S_46 0 8 = 1 then (
if tI S_46 0 9 < 7 then (
bd2 (tw_wrong 1 S_46) fun r_55 S_54 =>
gd (r_55 = 0 ∨ r_55 = 1) (
some (r_55, S_54)))
else (
if tI S_46 0 9 ≤ 9 then (
be ((3 + (tI S_46 0 9)) - 7) fun (x2_58 : Int32) =>
gd (inb x2_58 (lenA 17)) (
if tI S_46 17 (Int32.toNatClampNeg x2_58) = 0 then (
gd (inb x2_58 (lenA 17)) (
be (tsI S_46 17 (Int32.toNatClampNeg x2_58) 1) fun S_62 =>
bd (tw_token N S_62) fun S_64 =>
gd (inb x2_58 (lenA 18)) (
be (tsI S_64 18 (Int32.toNatClampNeg x2_58) (tI S_64 0 22)) fun S_66 =>
bd2 (tw_sumRead N S_66) fun r_69 S_68 =>
gd (inb x2_58 (lenA 19)) (
be (tsI S_68 19 (Int32.toNatClampNeg x2_58) (tI S_68 0 22)) fun S_71 =>
k_9 r_69 S_71))))
else (
bd2 (tw_wrong 3 S_46) fun r_74 S_73 =>
gd (r_74 = 0 ∨ r_74 = 1) (
some (r_74, S_73)))))
else (
bd2 (tw_wrong 1 S_46) fun r_78 S_77 =>
gd (r_78 = 0 ∨ r_78 = 1) (
some (r_78, S_77)))))
else (
bd2 (tw_wrong 1 S_46) fun r_50 S_49 =>
gd (r_50 = 0 ∨ r_50 = 1) (
some (r_50, S_49))))))))))
else (
bd2 (tw_wrong 1 S) fun r_82 S_81 =>
gd (r_82 = 0 ∨ r_82 = 1) (
some (r_82, S_81))))
else (
bd2 (tw_wrong 1 S) fun r_4 S_3 =>
gd (r_4 = 0 ∨ r_4 = 1) (
some (r_4, S_3)))
def rm_tw_lineRead : Room := { frames := 4, cells := 0, slots := 0, locals := 92 }
theorem ok_tw_lineRead {E : En} (hE : EOk E) {o : Nat} {M0 : Mem} (hM : TwS o M0) {N : Nat}  {S : TS} {r : Int32} {S' : TS} (h : tw_lineRead N  S = some (r, S')) : CM E yX7_lineRead cX7_lineRead 3 (some .boolean) rm_tw_lineRead [rf E o] (tw o S M0) (some (.int r)) (tw o S' M0) := by
  unfold tw_lineRead at h
  refine CM_intro (own := RX7) rfl (by decide) (Nat.le_of_ble_eq_true rfl) rfl (fun G hG => ?_)
  obtain ⟨Q, eQ⟩ : ∃ Q, Q = QM E G (some (.int r)) (tw o S' M0) 0 0 := ⟨_, rfl⟩
  show V E G (tw o S M0) 0 0 3 0 [(0, rf E o)] [] (QM E G (some (.int r)) (tw o S' M0) 0 0)
  rw [← eQ]
  refine V_aload_n hG 0 rfl dX7_lineRead_0 ?_
  refine g7_178 hM hG dX7_lineRead_1 ?_
  refine V_iconst hG 1 rfl dX7_lineRead_4 ?_
  refine V_icmp_ne hG 17 dX7_lineRead_5 (by decide) (fun c_1 => ?_) (fun c_1 => ?_)
  · have h := if_f c_1 h
    refine V_aload_n hG 0 rfl dX7_lineRead_17 ?_
    refine V_iconst hG 1 rfl dX7_lineRead_18 ?_
    obtain ⟨r_4, S_3, hc_2, h⟩ := bd2_of h
    refine V_callV0 hE hG (As := [.int 1]) (rest := []) (ok_tw_wrong hE hM hc_2) hM.1 (by decide) rfl hw7_202 hd_tw_wrong ⟨Nat.le_of_ble_eq_true rfl, Nat.le_of_ble_eq_true rfl⟩ rfl rfl (Nat.le_of_ble_eq_true rfl) rfl rfl dX7_lineRead_19 ?_
    obtain ⟨g_5, h⟩ := gd_of h
    cases h
    subst eQ
    exact V_zret hG g_5 dX7_lineRead_22
  · have h := if_t c_1 h
    refine V_aload_n hG 0 rfl dX7_lineRead_8 ?_
    refine g7_189 hM hG dX7_lineRead_9 ?_
    refine V_bipush hG 6 (by decide) dX7_lineRead_12 ?_
    refine V_icmp_le hG 23 dX7_lineRead_14 (by decide) (fun c_6 => ?_) (fun c_6 => ?_)
    · have h := if_t c_6 h
      refine V_aload_n hG 0 rfl dX7_lineRead_23 ?_
      refine g7_189 hM hG dX7_lineRead_24 ?_
      obtain ⟨k_9, ek_9, h⟩ := bek2_of h
      have J_10 : ∀ (x1_7 : Int32) (S_8 : TS), k_9 x1_7 S_8 = some (r, S') → V E G (tw o S_8 M0) 0 0 3 215 [(1, .int x1_7), (0, rf E o)] [] Q := by
        intro x1_7 S_8 h
        have h := ek_9 _ _ _ h
        refine V_iload_n hG 0 rfl dX7_lineRead_215 ?_
        refine V_if_ne hG 221 dX7_lineRead_216 (by decide) (fun c_11 => ?_) (fun c_11 => ?_)
        · have h := if_f c_11 h
          refine V_aload_n hG 1 rfl dX7_lineRead_221 ?_
          refine V_bipush hG 59 (by decide) dX7_lineRead_222 ?_
          obtain ⟨r_13, hc_12, h⟩ := bd_of h
          refine V_callV0 hE hG (As := [.int 59]) (rest := []) (ok_tw_isSign hE hM hc_12) hM.1 (by decide) rfl hw7_215 hd_tw_isSign ⟨Nat.le_of_ble_eq_true rfl, Nat.le_of_ble_eq_true rfl⟩ rfl rfl (Nat.le_of_ble_eq_true rfl) rfl rfl dX7_lineRead_224 ?_
          refine V_if_ne hG 236 dX7_lineRead_227 (by decide) (fun c_14 => ?_) (fun c_14 => ?_)
          · have h := if_f c_14 h
            refine V_aload_n hG 1 rfl dX7_lineRead_236 ?_
            obtain ⟨S_16, hc_15, h⟩ := bd_of h
            refine V_callV0 hE hG (As := []) (rest := []) (ok_tw_token hE hM hc_15) hM.1 (by decide) rfl hw7_212 hd_tw_token ⟨Nat.le_of_ble_eq_true rfl, Nat.le_of_ble_eq_true rfl⟩ rfl rfl (Nat.le_of_ble_eq_true rfl) rfl rfl dX7_lineRead_237 ?_
            refine V_iconst hG 1 rfl dX7_lineRead_240 ?_
            cases h
            subst eQ
            exact V_zret hG (Or.inr rfl) dX7_lineRead_241
          · have h := if_t c_14 h
            refine V_aload_n hG 1 rfl dX7_lineRead_230 ?_
            refine V_iconst hG 1 rfl dX7_lineRead_231 ?_
            obtain ⟨r_19, S_18, hc_17, h⟩ := bd2_of h
            refine V_callV0 hE hG (As := [.int 1]) (rest := []) (ok_tw_wrong hE hM hc_17) hM.1 (by decide) rfl hw7_202 hd_tw_wrong ⟨Nat.le_of_ble_eq_true rfl, Nat.le_of_ble_eq_true rfl⟩ rfl rfl (Nat.le_of_ble_eq_true rfl) rfl rfl dX7_lineRead_232 ?_
            obtain ⟨g_20, h⟩ := gd_of h
            cases h
            subst eQ
            exact V_zret hG g_20 dX7_lineRead_235
        · have h := if_t c_11 h
          refine V_iconst hG 0 rfl dX7_lineRead_219 ?_
          cases h
          subst eQ
          exact V_zret hG (Or.inl rfl) dX7_lineRead_220
      by_cases c_21 : tI S 0 9 = 0
      · have h := if_t c_21 h
        refine V_tableIn hG 64 dX7_lineRead_27 (by rw [c_21]; decide) (by rw [c_21]; decide) (by rw [c_21]; rfl) (by decide) ?_
        refine V_aload_n hG 0 rfl dX7_lineRead_64 ?_
        obtain ⟨r_24, S_23, hc_22, h⟩ := bd2_of h
        refine V_callV0 hE hG (As := []) (rest := []) (ok_tw_roadLine hE hM hc_22) hM.1 (by decide) rfl hw7_276 hd_tw_roadLine ⟨Nat.le_of_ble_eq_true rfl, Nat.le_of_ble_eq_true rfl⟩ rfl rfl (Nat.le_of_ble_eq_true rfl) rfl rfl dX7_lineRead_65 ?_
        refine V_istore_n hG rfl [(1, .int r_24), (0, rf E o)] dX7_lineRead_68 (Nat.le_of_ble_eq_true rfl) rfl ?_
        refine V_goto hG 215 dX7_lineRead_69 (by decide) ?_
        exact J_10 r_24 S_23 h
      have h := if_f c_21 h
      by_cases c_25 : tI S 0 9 = 1
      · have h := if_t c_25 h
        refine V_tableIn hG 72 dX7_lineRead_27 (by rw [c_25]; decide) (by rw [c_25]; decide) (by rw [c_25]; rfl) (by decide) ?_
        refine V_aload_n hG 0 rfl dX7_lineRead_72 ?_
        obtain ⟨r_28, S_27, hc_26, h⟩ := bd2_of h
        refine V_callV0 hE hG (As := []) (rest := []) (ok_tw_troughLine hE hM hc_26) hM.1 (by decide) rfl hw7_280 hd_tw_troughLine ⟨Nat.le_of_ble_eq_true rfl, Nat.le_of_ble_eq_true rfl⟩ rfl rfl (Nat.le_of_ble_eq_true rfl) rfl rfl dX7_lineRead_73 ?_
        refine V_istore_n hG rfl [(1, .int r_28), (0, rf E o)] dX7_lineRead_76 (Nat.le_of_ble_eq_true rfl) rfl ?_
        refine V_goto hG 215 dX7_lineRead_77 (by decide) ?_
        exact J_10 r_28 S_27 h
      have h := if_f c_25 h
      by_cases c_29 : tI S 0 9 = 2
      · have h := if_t c_29 h
        refine V_tableIn hG 80 dX7_lineRead_27 (by rw [c_29]; decide) (by rw [c_29]; decide) (by rw [c_29]; rfl) (by decide) ?_
        refine V_aload_n hG 0 rfl dX7_lineRead_80 ?_
        obtain ⟨r_32, S_31, hc_30, h⟩ := bd2_of h
        refine V_callV0 hE hG (As := []) (rest := []) (ok_tw_horseLine hE hM hc_30) hM.1 (by decide) rfl hw7_283 hd_tw_horseLine ⟨Nat.le_of_ble_eq_true rfl, Nat.le_of_ble_eq_true rfl⟩ rfl rfl (Nat.le_of_ble_eq_true rfl) rfl rfl dX7_lineRead_81 ?_
        refine V_istore_n hG rfl [(1, .int r_32), (0, rf E o)] dX7_lineRead_84 (Nat.le_of_ble_eq_true rfl) rfl ?_
        refine V_goto hG 215 dX7_lineRead_85 (by decide) ?_
        exact J_10 r_32 S_31 h
      have h := if_f c_29 h
      by_cases c_33 : tI S 0 9 = 3
      · have h := if_t c_33 h
        refine V_tableIn hG 88 dX7_lineRead_27 (by rw [c_33]; decide) (by rw [c_33]; decide) (by rw [c_33]; rfl) (by decide) ?_
        refine V_aload_n hG 0 rfl dX7_lineRead_88 ?_
        obtain ⟨r_36, S_35, hc_34, h⟩ := bd2_of h
        refine V_callV0 hE hG (As := []) (rest := []) (ok_tw_lapLine hE hM hc_34) hM.1 (by decide) rfl hw7_286 hd_tw_lapLine ⟨Nat.le_of_ble_eq_true rfl, Nat.le_of_ble_eq_true rfl⟩ rfl rfl (Nat.le_of_ble_eq_true rfl) rfl rfl dX7_lineRead_89 ?_
        refine V_istore_n hG rfl [(1, .int r_36), (0, rf E o)] dX7_lineRead_92 (Nat.le_of_ble_eq_true rfl) rfl ?_
        refine V_goto hG 215 dX7_lineRead_93 (by decide) ?_
        exact J_10 r_36 S_35 h
      have h := if_f c_33 h
      by_cases c_37 : tI S 0 9 = 4
      · have h := if_t c_37 h
        refine V_tableIn hG 96 dX7_lineRead_27 (by rw [c_37]; decide) (by rw [c_37]; decide) (by rw [c_37]; rfl) (by decide) ?_
        refine V_aload_n hG 0 rfl dX7_lineRead_96 ?_
        refine V_iconst hG 0 rfl dX7_lineRead_97 ?_
        refine V_bipush hG 100 (by decide) dX7_lineRead_98 ?_
        obtain ⟨r_40, S_39, hc_38, h⟩ := bd2_of h
        refine V_callV0 hE hG (As := [.int 0, .int 100]) (rest := []) (ok_tw_onceLine hE hM hc_38) hM.1 (by decide) rfl hw7_289 hd_tw_onceLine ⟨Nat.le_of_ble_eq_true rfl, Nat.le_of_ble_eq_true rfl⟩ rfl rfl (Nat.le_of_ble_eq_true rfl) rfl rfl dX7_lineRead_100 ?_
        refine V_istore_n hG rfl [(1, .int r_40), (0, rf E o)] dX7_lineRead_103 (Nat.le_of_ble_eq_true rfl) rfl ?_
        refine V_goto hG 215 dX7_lineRead_104 (by decide) ?_
        exact J_10 r_40 S_39 h
      have h := if_f c_37 h
      by_cases c_41 : tI S 0 9 = 5
      · have h := if_t c_41 h
        refine V_tableIn hG 107 dX7_lineRead_27 (by rw [c_41]; decide) (by rw [c_41]; decide) (by rw [c_41]; rfl) (by decide) ?_
        refine V_aload_n hG 0 rfl dX7_lineRead_107 ?_
        refine V_iconst hG 1 rfl dX7_lineRead_108 ?_
        refine V_ldc hG q1846 dX7_lineRead_109 ?_
        obtain ⟨r_44, S_43, hc_42, h⟩ := bd2_of h
        refine V_callV0 hE hG (As := [.int 1, .int 99999]) (rest := []) (ok_tw_onceLine hE hM hc_42) hM.1 (by decide) rfl hw7_289 hd_tw_onceLine ⟨Nat.le_of_ble_eq_true rfl, Nat.le_of_ble_eq_true rfl⟩ rfl rfl (Nat.le_of_ble_eq_true rfl) rfl rfl dX7_lineRead_111 ?_
        refine V_istore_n hG rfl [(1, .int r_44), (0, rf E o)] dX7_lineRead_114 (Nat.le_of_ble_eq_true rfl) rfl ?_
        refine V_goto hG 215 dX7_lineRead_115 (by decide) ?_
        exact J_10 r_44 S_43 h
      have h := if_f c_41 h
      refine V_tableOut hG 118 dX7_lineRead_27 (by have := lv_neT c_21 (show Int32.toInt 0 = 0 from rfl); have := lv_neT c_25 (show Int32.toInt 1 = 1 from rfl); have := lv_neT c_29 (show Int32.toInt 2 = 2 from rfl); have := lv_neT c_33 (show Int32.toInt 3 = 3 from rfl); have := lv_neT c_37 (show Int32.toInt 4 = 4 from rfl); have := lv_neT c_41 (show Int32.toInt 5 = 5 from rfl); omega) (by decide) ?_
      refine V_aload_n hG 0 rfl dX7_lineRead_118 ?_
      obtain ⟨S_46, hc_45, h⟩ := bd_of h
      refine V_callV0 hE hG (As := []) (rest := []) (ok_tw_token hE hM hc_45) hM.1 (by decide) rfl hw7_212 hd_tw_token ⟨Nat.le_of_ble_eq_true rfl, Nat.le_of_ble_eq_true rfl⟩ rfl rfl (Nat.le_of_ble_eq_true rfl) rfl rfl dX7_lineRead_119 ?_
      refine V_aload_n hG 0 rfl dX7_lineRead_122 ?_
      refine g7_178 hM hG dX7_lineRead_123 ?_
      refine V_iconst hG 1 rfl dX7_lineRead_126 ?_
      refine V_icmp_ne hG 148 dX7_lineRead_127 (by decide) (fun c_47 => ?_) (fun c_47 => ?_)
      · have h := if_f c_47 h
        refine V_aload_n hG 0 rfl dX7_lineRead_148 ?_
        refine V_iconst hG 1 rfl dX7_lineRead_149 ?_
        obtain ⟨r_50, S_49, hc_48, h⟩ := bd2_of h
        refine V_callV0 hE hG (As := [.int 1]) (rest := []) (ok_tw_wrong hE hM hc_48) hM.1 (by decide) rfl hw7_202 hd_tw_wrong ⟨Nat.le_of_ble_eq_true rfl, Nat.le_of_ble_eq_true rfl⟩ rfl rfl (Nat.le_of_ble_eq_true rfl) rfl rfl dX7_lineRead_150 ?_
        obtain ⟨g_51, h⟩ := gd_of h
        cases h
        subst eQ
        exact V_zret hG g_51 dX7_lineRead_153
      · have h := if_t c_47 h
        refine V_aload_n hG 0 rfl dX7_lineRead_130 ?_
        refine g7_189 hM hG dX7_lineRead_131 ?_
        refine V_bipush hG 7 (by decide) dX7_lineRead_134 ?_
        refine V_icmp_lt hG 148 dX7_lineRead_136 (by decide) (fun c_52 => ?_) (fun c_52 => ?_)
        · have h := if_t c_52 h
          refine V_aload_n hG 0 rfl dX7_lineRead_148 ?_
          refine V_iconst hG 1 rfl dX7_lineRead_149 ?_
          obtain ⟨r_55, S_54, hc_53, h⟩ := bd2_of h
          refine V_callV0 hE hG (As := [.int 1]) (rest := []) (ok_tw_wrong hE hM hc_53) hM.1 (by decide) rfl hw7_202 hd_tw_wrong ⟨Nat.le_of_ble_eq_true rfl, Nat.le_of_ble_eq_true rfl⟩ rfl rfl (Nat.le_of_ble_eq_true rfl) rfl rfl dX7_lineRead_150 ?_
          obtain ⟨g_56, h⟩ := gd_of h
          cases h
          subst eQ
          exact V_zret hG g_56 dX7_lineRead_153
        · have h := if_f c_52 h
          refine V_aload_n hG 0 rfl dX7_lineRead_139 ?_
          refine g7_189 hM hG dX7_lineRead_140 ?_
          refine V_bipush hG 9 (by decide) dX7_lineRead_143 ?_
          refine V_icmp_le hG 154 dX7_lineRead_145 (by decide) (fun c_57 => ?_) (fun c_57 => ?_)
          · have h := if_t c_57 h
            refine V_iconst hG 3 rfl dX7_lineRead_154 ?_
            refine V_aload_n hG 0 rfl dX7_lineRead_155 ?_
            refine g7_189 hM hG dX7_lineRead_156 ?_
            refine V_iadd hG dX7_lineRead_159 ?_
            refine V_bipush hG 7 (by decide) dX7_lineRead_160 ?_
            refine V_isub hG dX7_lineRead_162 ?_
            obtain ⟨x2_58, ex2_58, h⟩ := be_of h
            refine V_topi ex2_58 ?_
            refine V_istore_n hG rfl [(2, .int x2_58), (0, rf E o)] dX7_lineRead_163 (Nat.le_of_ble_eq_true rfl) rfl ?_
            refine V_aload_n hG 1 rfl dX7_lineRead_164 ?_
            refine g7_63 hM hG dX7_lineRead_165 ?_
            refine V_iload_n hG 0 rfl dX7_lineRead_168 ?_
            obtain ⟨g_59, h⟩ := gd_of h
            refine T_zaload hM hG (by decide) g_59 dX7_lineRead_169 ?_
            refine V_if_eq hG 179 dX7_lineRead_170 (by decide) (fun c_60 => ?_) (fun c_60 => ?_)
            · have h := if_t c_60 h
              refine V_aload_n hG 1 rfl dX7_lineRead_179 ?_
              refine g7_63 hM hG dX7_lineRead_180 ?_
              refine V_iload_n hG 0 rfl dX7_lineRead_183 ?_
              refine V_iconst hG 1 rfl dX7_lineRead_184 ?_
              obtain ⟨g_61, h⟩ := gd_of h
              obtain ⟨S_62, eS_62, h⟩ := be_of h
              refine T_zastore hM hG eS_62 (Or.inr rfl) (by decide) g_61 dX7_lineRead_185 ?_
              refine V_aload_n hG 1 rfl dX7_lineRead_186 ?_
              obtain ⟨S_64, hc_63, h⟩ := bd_of h
              refine V_callV0 hE hG (As := []) (rest := []) (ok_tw_token hE hM hc_63) hM.1 (by decide) rfl hw7_212 hd_tw_token ⟨Nat.le_of_ble_eq_true rfl, Nat.le_of_ble_eq_true rfl⟩ rfl rfl (Nat.le_of_ble_eq_true rfl) rfl rfl dX7_lineRead_187 ?_
              refine V_aload_n hG 1 rfl dX7_lineRead_190 ?_
              refine g7_66 hM hG dX7_lineRead_191 ?_
              refine V_iload_n hG 0 rfl dX7_lineRead_194 ?_
              refine V_aload_n hG 1 rfl dX7_lineRead_195 ?_
              refine g7_237 hM hG dX7_lineRead_196 ?_
              obtain ⟨g_65, h⟩ := gd_of h
              obtain ⟨S_66, eS_66, h⟩ := be_of h
              refine T_iastore hM hG eS_66 (by decide) g_65 dX7_lineRead_199 ?_
              refine V_aload_n hG 1 rfl dX7_lineRead_200 ?_
              obtain ⟨r_69, S_68, hc_67, h⟩ := bd2_of h
              refine V_callV0 hE hG (As := []) (rest := []) (ok_tw_sumRead hE hM hc_67) hM.1 (by decide) rfl hw7_292 hd_tw_sumRead ⟨Nat.le_of_ble_eq_true rfl, Nat.le_of_ble_eq_true rfl⟩ rfl rfl (Nat.le_of_ble_eq_true rfl) rfl rfl dX7_lineRead_201 ?_
              refine V_istore_n hG rfl [(1, .int r_69), (2, .int x2_58), (0, rf E o)] dX7_lineRead_204 (Nat.le_of_ble_eq_true rfl) rfl ?_
              refine V_aload_n hG 2 rfl dX7_lineRead_205 ?_
              refine g7_69 hM hG dX7_lineRead_206 ?_
              refine V_iload_n hG 1 rfl dX7_lineRead_209 ?_
              refine V_aload_n hG 2 rfl dX7_lineRead_210 ?_
              refine g7_237 hM hG dX7_lineRead_211 ?_
              obtain ⟨g_70, h⟩ := gd_of h
              obtain ⟨S_71, eS_71, h⟩ := be_of h
              refine T_iastore hM hG eS_71 (by decide) g_70 dX7_lineRead_214 ?_
              exact V_lv [0, 2] rfl (J_10 r_69 S_71 h)
            · have h := if_f c_60 h
              refine V_aload_n hG 1 rfl dX7_lineRead_173 ?_
              refine V_iconst hG 3 rfl dX7_lineRead_174 ?_
              obtain ⟨r_74, S_73, hc_72, h⟩ := bd2_of h
              refine V_callV0 hE hG (As := [.int 3]) (rest := []) (ok_tw_wrong hE hM hc_72) hM.1 (by decide) rfl hw7_202 hd_tw_wrong ⟨Nat.le_of_ble_eq_true rfl, Nat.le_of_ble_eq_true rfl⟩ rfl rfl (Nat.le_of_ble_eq_true rfl) rfl rfl dX7_lineRead_175 ?_
              obtain ⟨g_75, h⟩ := gd_of h
              cases h
              subst eQ
              exact V_zret hG g_75 dX7_lineRead_178
          · have h := if_f c_57 h
            refine V_aload_n hG 0 rfl dX7_lineRead_148 ?_
            refine V_iconst hG 1 rfl dX7_lineRead_149 ?_
            obtain ⟨r_78, S_77, hc_76, h⟩ := bd2_of h
            refine V_callV0 hE hG (As := [.int 1]) (rest := []) (ok_tw_wrong hE hM hc_76) hM.1 (by decide) rfl hw7_202 hd_tw_wrong ⟨Nat.le_of_ble_eq_true rfl, Nat.le_of_ble_eq_true rfl⟩ rfl rfl (Nat.le_of_ble_eq_true rfl) rfl rfl dX7_lineRead_150 ?_
            obtain ⟨g_79, h⟩ := gd_of h
            cases h
            subst eQ
            exact V_zret hG g_79 dX7_lineRead_153
    · have h := if_f c_6 h
      refine V_aload_n hG 0 rfl dX7_lineRead_17 ?_
      refine V_iconst hG 1 rfl dX7_lineRead_18 ?_
      obtain ⟨r_82, S_81, hc_80, h⟩ := bd2_of h
      refine V_callV0 hE hG (As := [.int 1]) (rest := []) (ok_tw_wrong hE hM hc_80) hM.1 (by decide) rfl hw7_202 hd_tw_wrong ⟨Nat.le_of_ble_eq_true rfl, Nat.le_of_ble_eq_true rfl⟩ rfl rfl (Nat.le_of_ble_eq_true rfl) rfl rfl dX7_lineRead_19 ?_
      obtain ⟨g_83, h⟩ := gd_of h
      cases h
      subst eQ
      exact V_zret hG g_83 dX7_lineRead_22

def tw_meet_b1 (N : Nat) (p1 : Int32) (p2 : Int32) (x3_12 : Int32) (S_13 : TS) : Option (((Int32 × TS) ⊕ (Int32 × TS)) ⊕ (Int32 × TS)) :=
if 200 ≤ x3_12 then (
some (.inl (.inl (x3_12, S_13))))
else (
bd (tw_hourGoes N 1 S_13) fun S_24 =>
gd (inb (6 + p1) (lenA 31)) (
if tI S_24 31 (Int32.toNatClampNeg (6 + p1)) = 0 then (
be (x3_12 + 1) fun (x3_27 : Int32) =>
some (.inr (x3_27, S_24)))
else (
gd (inb (6 + p2) (lenA 31)) (
if tI S_24 31 (Int32.toNatClampNeg (6 + p2)) = 0 then (
be (x3_12 + 1) fun (x3_30 : Int32) =>
some (.inr (x3_30, S_24)))
else (
gd (inb (6 + p1) (lenA 27)) (
gd (inb (6 + p2) (lenA 27)) (
if tI S_24 27 (Int32.toNatClampNeg (6 + p1)) = tI S_24 27 (Int32.toNatClampNeg (6 + p2)) then (
some (.inl (.inr (x3_12, S_24))))
else (
be (x3_12 + 1) fun (x3_34 : Int32) =>
some (.inr (x3_34, S_24))))))))))
def tw_meet (N : Nat) (p1 : Int32) (p2 : Int32) (S : TS) : Option (Int32 × TS) :=
be (tsI S 0 2 0) fun S_1 =>
bd (tw_areTwo p1 p2 S_1) fun r_3 =>
if r_3 = 0 then (
some ((-1), S_1))
else (
bd (tw_layTried N S_1) fun S_6 =>
bx2 (lp N (fun s_21 : Int32 × TS => tw_meet_b1 N p1 p2 s_21.1 s_21.2) (1, S_6)) (fun (x3_15 : Int32) (S_16 : TS) =>
some ((-2), S_16)) (fun (w_37 : Int32 × TS) => some w_37))
def rm_tw_meet : Room := { frames := 6, cells := 0, slots := 0, locals := 147 }
theorem ok_tw_meet {E : En} (hE : EOk E) {o : Nat} {M0 : Mem} (hM : TwS o M0) {N : Nat} {p1 : Int32} {p2 : Int32} {S : TS} {r : Int32} {S' : TS} (h : tw_meet N p1 p2 S = some (r, S')) : CM E yX7_meet cX7_meet 4 (some .int) rm_tw_meet [rf E o, .int p1, .int p2] (tw o S M0) (some (.int r)) (tw o S' M0) := by
  unfold tw_meet at h
  refine CM_intro (own := RX7) rfl (by decide) (Nat.le_of_ble_eq_true rfl) rfl (fun G hG => ?_)
  obtain ⟨Q, eQ⟩ : ∃ Q, Q = QM E G (some (.int r)) (tw o S' M0) 0 0 := ⟨_, rfl⟩
  show V E G (tw o S M0) 0 0 4 0 [(0, rf E o), (1, .int p1), (2, .int p2)] [] (QM E G (some (.int r)) (tw o S' M0) 0 0)
  rw [← eQ]
  refine V_aload_n hG 0 rfl dX7_meet_0 ?_
  refine V_iconst hG 0 rfl dX7_meet_1 ?_
  obtain ⟨S_1, eS_1, h⟩ := be_of h
  refine p7_160 hM hG eS_1 dX7_meet_2 ?_
  refine V_aload_n hG 0 rfl dX7_meet_5 ?_
  refine V_iload_n hG 1 rfl dX7_meet_6 ?_
  refine V_iload_n hG 2 rfl dX7_meet_7 ?_
  obtain ⟨r_3, hc_2, h⟩ := bd_of h
  refine V_callV0 hE hG (As := [.int p1, .int p2]) (rest := []) (ok_tw_areTwo hE hM hc_2) hM.1 (by decide) rfl hw7_482 hd_tw_areTwo ⟨Nat.le_of_ble_eq_true rfl, Nat.le_of_ble_eq_true rfl⟩ rfl rfl (Nat.le_of_ble_eq_true rfl) rfl rfl dX7_meet_8 ?_
  refine V_if_ne hG 16 dX7_meet_11 (by decide) (fun c_4 => ?_) (fun c_4 => ?_)
  · have h := if_f c_4 h
    refine V_aload_n hG 0 rfl dX7_meet_16 ?_
    obtain ⟨S_6, hc_5, h⟩ := bd_of h
    refine V_callV0 hE hG (As := []) (rest := []) (ok_tw_layTried hE hM hc_5) hM.1 (by decide) rfl hw7_473 hd_tw_layTried ⟨Nat.le_of_ble_eq_true rfl, Nat.le_of_ble_eq_true rfl⟩ rfl rfl (Nat.le_of_ble_eq_true rfl) rfl rfl dX7_meet_17 ?_
    refine V_iconst hG 1 rfl dX7_meet_20 ?_
    refine V_istore_n hG rfl [(3, .int 1), (0, rf E o), (1, .int p1), (2, .int p2)] dX7_meet_21 (Nat.le_of_ble_eq_true rfl) rfl ?_
    obtain ⟨rr_18, hL_17, hl_19, hr_14⟩ := bx2_of h
    have J_11 : ∀ q_20 : Int32 × TS, Sum.inl q_20 = rr_18 → V E G (tw o q_20.2 M0) 0 0 4 87 [(3, .int q_20.1), (0, rf E o), (1, .int p1), (2, .int p2)] [] Q := by
      intro q_20 e9
      obtain ⟨x3_15, S_16⟩ := q_20
      have h := hl_19 x3_15 S_16 e9.symm
      show V E G (tw o S_16 M0) 0 0 4 87 [(3, .int x3_15), (0, rf E o), (1, .int p1), (2, .int p2)] [] Q
      refine V_bipush hG (-2) (by decide) dX7_meet_87 ?_
      cases h
      subst eQ
      exact V_iret hG dX7_meet_89
    refine lp_walk (W := fun s_21 : Int32 × TS => V E G (tw o s_21.2 M0) 0 0 4 22 [(3, .int s_21.1), (0, rf E o), (1, .int p1), (2, .int p2)] [] Q) ?_ N (1, S_6) hL_17
    intro s_21 b_7 hb_8 hk_9 hx_10
    obtain ⟨x3_12, S_13⟩ := s_21
    have hb_8 : tw_meet_b1 N p1 p2 x3_12 S_13 = some b_7 := hb_8
    unfold tw_meet_b1 at hb_8
    show V E G (tw o S_13 M0) 0 0 4 22 [(3, .int x3_12), (0, rf E o), (1, .int p1), (2, .int p2)] [] Q
    refine V_iload_n hG 0 rfl dX7_meet_22 ?_
    refine V_sipush hG 200 (by decide) dX7_meet_23 ?_
    refine V_icmp_ge hG 87 dX7_meet_26 (by decide) (fun c_22 => ?_) (fun c_22 => ?_)
    · have hb_8 := if_t c_22 hb_8
      cases hb_8
      exact J_11 _ (hx_10 _ rfl)
    · have hb_8 := if_f c_22 hb_8
      refine V_aload_n hG 1 rfl dX7_meet_29 ?_
      refine V_iconst hG 1 rfl dX7_meet_30 ?_
      obtain ⟨S_24, hc_23, hb_8⟩ := bd_of hb_8
      refine V_callV0 hE hG (As := [.int 1]) (rest := []) (ok_tw_hourGoes hE hM hc_23) hM.1 (by decide) rfl hw7_456 hd_tw_hourGoes ⟨Nat.le_of_ble_eq_true rfl, Nat.le_of_ble_eq_true rfl⟩ rfl rfl (Nat.le_of_ble_eq_true rfl) rfl rfl dX7_meet_31 ?_
      refine V_aload_n hG 1 rfl dX7_meet_34 ?_
      refine g7_106 hM hG dX7_meet_35 ?_
      refine V_bipush hG 6 (by decide) dX7_meet_38 ?_
      refine V_iload_n hG 2 rfl dX7_meet_40 ?_
      refine V_iadd hG dX7_meet_41 ?_
      obtain ⟨g_25, hb_8⟩ := gd_of hb_8
      refine T_zaload hM hG (by decide) g_25 dX7_meet_42 ?_
      refine V_if_eq hG 81 dX7_meet_43 (by decide) (fun c_26 => ?_) (fun c_26 => ?_)
      · have hb_8 := if_t c_26 hb_8
        obtain ⟨x3_27, ex3_27, hb_8⟩ := be_of hb_8
        refine V_iinc hG 0 x3_27 rfl (by rw [ex3_27]; rfl) [(3, .int x3_27), (0, rf E o), (1, .int p1), (2, .int p2)] dX7_meet_81 (Nat.le_of_ble_eq_true rfl) rfl ?_
        refine V_goto hG 22 dX7_meet_84 (by decide) ?_
        cases hb_8
        exact hk_9 _ rfl
      · have hb_8 := if_f c_26 hb_8
        refine V_aload_n hG 1 rfl dX7_meet_46 ?_
        refine g7_106 hM hG dX7_meet_47 ?_
        refine V_bipush hG 6 (by decide) dX7_meet_50 ?_
        refine V_iload_n hG 3 rfl dX7_meet_52 ?_
        refine V_iadd hG dX7_meet_53 ?_
        obtain ⟨g_28, hb_8⟩ := gd_of hb_8
        refine T_zaload hM hG (by decide) g_28 dX7_meet_54 ?_
        refine V_if_eq hG 81 dX7_meet_55 (by decide) (fun c_29 => ?_) (fun c_29 => ?_)
        · have hb_8 := if_t c_29 hb_8
          obtain ⟨x3_30, ex3_30, hb_8⟩ := be_of hb_8
          refine V_iinc hG 0 x3_30 rfl (by rw [ex3_30]; rfl) [(3, .int x3_30), (0, rf E o), (1, .int p1), (2, .int p2)] dX7_meet_81 (Nat.le_of_ble_eq_true rfl) rfl ?_
          refine V_goto hG 22 dX7_meet_84 (by decide) ?_
          cases hb_8
          exact hk_9 _ rfl
        · have hb_8 := if_f c_29 hb_8
          refine V_aload_n hG 1 rfl dX7_meet_58 ?_
          refine g7_94 hM hG dX7_meet_59 ?_
          refine V_bipush hG 6 (by decide) dX7_meet_62 ?_
          refine V_iload_n hG 2 rfl dX7_meet_64 ?_
          refine V_iadd hG dX7_meet_65 ?_
          obtain ⟨g_31, hb_8⟩ := gd_of hb_8
          refine T_iaload hM hG (by decide) g_31 dX7_meet_66 ?_
          refine V_aload_n hG 1 rfl dX7_meet_67 ?_
          refine g7_94 hM hG dX7_meet_68 ?_
          refine V_bipush hG 6 (by decide) dX7_meet_71 ?_
          refine V_iload_n hG 3 rfl dX7_meet_73 ?_
          refine V_iadd hG dX7_meet_74 ?_
          obtain ⟨g_32, hb_8⟩ := gd_of hb_8
          refine T_iaload hM hG (by decide) g_32 dX7_meet_75 ?_
          refine V_icmp_ne hG 81 dX7_meet_76 (by decide) (fun c_33 => ?_) (fun c_33 => ?_)
          · have hb_8 := if_f c_33 hb_8
            obtain ⟨x3_34, ex3_34, hb_8⟩ := be_of hb_8
            refine V_iinc hG 0 x3_34 rfl (by rw [ex3_34]; rfl) [(3, .int x3_34), (0, rf E o), (1, .int p1), (2, .int p2)] dX7_meet_81 (Nat.le_of_ble_eq_true rfl) rfl ?_
            refine V_goto hG 22 dX7_meet_84 (by decide) ?_
            cases hb_8
            exact hk_9 _ rfl
          · have hb_8 := if_t c_33 hb_8
            refine V_iload_n hG 0 rfl dX7_meet_79 ?_
            cases hb_8
            have e_35 := hx_10 _ rfl
            have h_36 : some (x3_12, S_24) = some (r, S') := hr_14 _ e_35.symm
            cases h_36
            subst eQ
            exact V_iret hG dX7_meet_80
  · have h := if_t c_4 h
    refine V_iconst hG (-1) rfl dX7_meet_14 ?_
    cases h
    subst eQ
    exact V_iret hG dX7_meet_15

def tw_named (N : Nat) (p1 : Int32) (p2 : Int32) (S : TS) : Option (Int32 × TS) :=
be (tsI S 0 2 0) fun S_1 =>
bd (if p1 = 0 then (
bd (tw_find N 5 0 (tI S_1 0 12) p2 S_1) fun r_10 =>
some r_10)
else (
if p1 = 1 then (
bd (tw_find N 9 0 (tI S_1 0 13) p2 S_1) fun r_8 =>
some r_8)
else (
some (-1))) : Option (Int32)) fun (t_2 : Int32) =>
some (t_2, S_1)
def rm_tw_named : Room := { frames := 1, cells := 0, slots := 0, locals := 24 }
theorem ok_tw_named {E : En} (hE : EOk E) {o : Nat} {M0 : Mem} (hM : TwS o M0) {N : Nat} {p1 : Int32} {p2 : Int32} {S : TS} {r : Int32} {S' : TS} (h : tw_named N p1 p2 S = some (r, S')) : CM E yX7_named cX7_named 3 (some .int) rm_tw_named [rf E o, .int p1, .int p2] (tw o S M0) (some (.int r)) (tw o S' M0) := by
  unfold tw_named at h
  refine CM_intro (own := RX7) rfl (by decide) (Nat.le_of_ble_eq_true rfl) rfl (fun G hG => ?_)
  obtain ⟨Q, eQ⟩ : ∃ Q, Q = QM E G (some (.int r)) (tw o S' M0) 0 0 := ⟨_, rfl⟩
  show V E G (tw o S M0) 0 0 3 0 [(0, rf E o), (1, .int p1), (2, .int p2)] [] (QM E G (some (.int r)) (tw o S' M0) 0 0)
  rw [← eQ]
  refine V_aload_n hG 0 rfl dX7_named_0 ?_
  refine V_iconst hG 0 rfl dX7_named_1 ?_
  obtain ⟨S_1, eS_1, h⟩ := be_of h
  refine p7_160 hM hG eS_1 dX7_named_2 ?_
  refine V_iload_n hG 1 rfl dX7_named_5 ?_
  obtain ⟨t_2, hj_4, h⟩ := bd_of h
  have J_3 : V E G (tw o S_1 M0) 0 0 3 47 [(0, rf E o), (1, .int p1), (2, .int p2)] [.int t_2] Q := by
    cases h
    subst eQ
    exact V_iret hG dX7_named_47
  refine V_if_ne hG 25 dX7_named_6 (by decide) (fun c_5 => ?_) (fun c_5 => ?_)
  · have hj_4 := if_f c_5 hj_4
    refine V_iload_n hG 1 rfl dX7_named_25 ?_
    refine V_iconst hG 1 rfl dX7_named_26 ?_
    refine V_icmp_ne hG 46 dX7_named_27 (by decide) (fun c_6 => ?_) (fun c_6 => ?_)
    · have hj_4 := if_f c_6 hj_4
      refine V_iconst hG (-1) rfl dX7_named_46 ?_
      cases hj_4
      exact J_3
    · have hj_4 := if_t c_6 hj_4
      refine V_aload_n hG 0 rfl dX7_named_30 ?_
      refine g7_39 hM hG dX7_named_31 ?_
      refine V_iconst hG 0 rfl dX7_named_34 ?_
      refine V_aload_n hG 0 rfl dX7_named_35 ?_
      refine g7_246 hM hG dX7_named_36 ?_
      refine V_iload_n hG 2 rfl dX7_named_39 ?_
      obtain ⟨r_8, hc_7, hj_4⟩ := bd_of hj_4
      refine V_callS0 hE hG (As := [rf E ((o + 9)), .int 0, .int (tI S_1 0 13), .int p2]) (rest := []) (ok_tw_find hE hM hc_7) hw7_265 hd_tw_find ⟨Nat.le_of_ble_eq_true rfl, Nat.le_of_ble_eq_true rfl⟩ rfl rfl (Nat.le_of_ble_eq_true rfl) rfl rfl dX7_named_40 ?_
      refine V_goto hG 47 dX7_named_43 (by decide) ?_
      cases hj_4
      exact J_3
  · have hj_4 := if_t c_5 hj_4
    refine V_aload_n hG 0 rfl dX7_named_9 ?_
    refine g7_27 hM hG dX7_named_10 ?_
    refine V_iconst hG 0 rfl dX7_named_13 ?_
    refine V_aload_n hG 0 rfl dX7_named_14 ?_
    refine g7_243 hM hG dX7_named_15 ?_
    refine V_iload_n hG 2 rfl dX7_named_18 ?_
    obtain ⟨r_10, hc_9, hj_4⟩ := bd_of hj_4
    refine V_callS0 hE hG (As := [rf E ((o + 5)), .int 0, .int (tI S_1 0 12), .int p2]) (rest := []) (ok_tw_find hE hM hc_9) hw7_265 hd_tw_find ⟨Nat.le_of_ble_eq_true rfl, Nat.le_of_ble_eq_true rfl⟩ rfl rfl (Nat.le_of_ble_eq_true rfl) rfl rfl dX7_named_19 ?_
    refine V_goto hG 47 dX7_named_22 (by decide) ?_
    cases hj_4
    exact J_3

def tw_nearest_b1 (N : Nat) (p1 : Int32) (S_1 : TS) (x3_10 : Int32) (x2_11 : Int32) : Option ((Int32 × Int32) ⊕ (Int32 × Int32)) :=
if tI S_1 0 12 ≤ x3_10 then (
some (.inl (x3_10, x2_11)))
else (
bd (if x2_11 < 0 then (
some x3_10)
else (
gd (inb x3_10 (lenA 6)) (
gd (inb p1 (lenA 27)) (
bd (tw_sizeOf ((tI S_1 6 (Int32.toNatClampNeg x3_10)) - (tI S_1 27 (Int32.toNatClampNeg p1))) S_1) fun r_26 =>
gd (inb x2_11 (lenA 6)) (
gd (inb p1 (lenA 27)) (
bd (tw_sizeOf ((tI S_1 6 (Int32.toNatClampNeg x2_11)) - (tI S_1 27 (Int32.toNatClampNeg p1))) S_1) fun r_30 =>
if r_30 ≤ r_26 then (
some x2_11)
else (
some x3_10)))))) : Option (Int32)) fun (t_18 : Int32) =>
be (x3_10 + 1) fun (x3_21 : Int32) =>
some (.inr (x3_21, t_18)))
def tw_nearest (N : Nat) (p1 : Int32) (S : TS) : Option (Int32 × TS) :=
be (tsI S 0 2 0) fun S_1 =>
bd (tw_isHorse p1 S_1) fun r_3 =>
if r_3 = 0 then (
some ((-1), S_1))
else (
bd2 (lp N (fun s_16 : Int32 × Int32 => tw_nearest_b1 N p1 S_1 s_16.1 s_16.2) (0, (-2))) fun (x3_12 : Int32) (x2_13 : Int32) =>
some (x2_13, S_1))
def rm_tw_nearest : Room := { frames := 1, cells := 0, slots := 0, locals := 21 }
theorem ok_tw_nearest {E : En} (hE : EOk E) {o : Nat} {M0 : Mem} (hM : TwS o M0) {N : Nat} {p1 : Int32} {S : TS} {r : Int32} {S' : TS} (h : tw_nearest N p1 S = some (r, S')) : CM E yX7_nearest cX7_nearest 4 (some .int) rm_tw_nearest [rf E o, .int p1] (tw o S M0) (some (.int r)) (tw o S' M0) := by
  unfold tw_nearest at h
  refine CM_intro (own := RX7) rfl (by decide) (Nat.le_of_ble_eq_true rfl) rfl (fun G hG => ?_)
  obtain ⟨Q, eQ⟩ : ∃ Q, Q = QM E G (some (.int r)) (tw o S' M0) 0 0 := ⟨_, rfl⟩
  show V E G (tw o S M0) 0 0 4 0 [(0, rf E o), (1, .int p1)] [] (QM E G (some (.int r)) (tw o S' M0) 0 0)
  rw [← eQ]
  refine V_aload_n hG 0 rfl dX7_nearest_0 ?_
  refine V_iconst hG 0 rfl dX7_nearest_1 ?_
  obtain ⟨S_1, eS_1, h⟩ := be_of h
  refine p7_160 hM hG eS_1 dX7_nearest_2 ?_
  refine V_aload_n hG 0 rfl dX7_nearest_5 ?_
  refine V_iload_n hG 1 rfl dX7_nearest_6 ?_
  obtain ⟨r_3, hc_2, h⟩ := bd_of h
  refine V_callV0 hE hG (As := [.int p1]) (rest := []) (ok_tw_isHorse hE hM hc_2) hM.1 (by decide) rfl hw7_459 hd_tw_isHorse ⟨Nat.le_of_ble_eq_true rfl, Nat.le_of_ble_eq_true rfl⟩ rfl rfl (Nat.le_of_ble_eq_true rfl) rfl rfl dX7_nearest_7 ?_
  refine V_if_ne hG 15 dX7_nearest_10 (by decide) (fun c_4 => ?_) (fun c_4 => ?_)
  · have h := if_f c_4 h
    refine V_bipush hG (-2) (by decide) dX7_nearest_15 ?_
    refine V_istore_n hG rfl [(2, .int (-2)), (0, rf E o), (1, .int p1)] dX7_nearest_17 (Nat.le_of_ble_eq_true rfl) rfl ?_
    refine V_iconst hG 0 rfl dX7_nearest_18 ?_
    refine V_istore_n hG rfl [(3, .int 0), (2, .int (-2)), (0, rf E o), (1, .int p1)] dX7_nearest_19 (Nat.le_of_ble_eq_true rfl) rfl ?_
    obtain ⟨x3_12, x2_13, hL_14, h⟩ := bd2_of h
    have J_9 : ∀ q_15 : Int32 × Int32, q_15 = (x3_12, x2_13) → V E G (tw o S_1 M0) 0 0 4 79 [(3, .int q_15.1), (2, .int q_15.2), (0, rf E o), (1, .int p1)] [] Q := by
      intro q_15 e9
      subst q_15
      show V E G (tw o S_1 M0) 0 0 4 79 [(3, .int x3_12), (2, .int x2_13), (0, rf E o), (1, .int p1)] [] Q
      refine V_iload_n hG 1 rfl dX7_nearest_79 ?_
      cases h
      subst eQ
      exact V_iret hG dX7_nearest_80
    refine lp_walk (W := fun s_16 : Int32 × Int32 => V E G (tw o S_1 M0) 0 0 4 20 [(3, .int s_16.1), (2, .int s_16.2), (0, rf E o), (1, .int p1)] [] Q) ?_ N (0, (-2)) hL_14
    intro s_16 b_5 hb_6 hk_7 hx_8
    obtain ⟨x3_10, x2_11⟩ := s_16
    have hb_6 : tw_nearest_b1 N p1 S_1 x3_10 x2_11 = some b_5 := hb_6
    unfold tw_nearest_b1 at hb_6
    show V E G (tw o S_1 M0) 0 0 4 20 [(3, .int x3_10), (2, .int x2_11), (0, rf E o), (1, .int p1)] [] Q
    refine V_iload_n hG 0 rfl dX7_nearest_20 ?_
    refine V_aload_n hG 2 rfl dX7_nearest_21 ?_
    refine g7_243 hM hG dX7_nearest_22 ?_
    refine V_icmp_ge hG 79 dX7_nearest_25 (by decide) (fun c_17 => ?_) (fun c_17 => ?_)
    · have hb_6 := if_t c_17 hb_6
      cases hb_6
      exact J_9 _ (hx_8 _ rfl)
    · have hb_6 := if_f c_17 hb_6
      refine V_iload_n hG 1 rfl dX7_nearest_28 ?_
      obtain ⟨t_18, hj_20, hb_6⟩ := bd_of hb_6
      have J_19 : V E G (tw o S_1 M0) 0 0 4 72 [(3, .int x3_10), (2, .int x2_11), (0, rf E o), (1, .int p1)] [.int t_18] Q := by
        refine V_istore_n hG rfl [(2, .int t_18), (3, .int x3_10), (0, rf E o), (1, .int p1)] dX7_nearest_72 (Nat.le_of_ble_eq_true rfl) rfl ?_
        obtain ⟨x3_21, ex3_21, hb_6⟩ := be_of hb_6
        refine V_iinc hG 1 x3_21 rfl (by rw [ex3_21]; rfl) [(3, .int x3_21), (2, .int t_18), (0, rf E o), (1, .int p1)] dX7_nearest_73 (Nat.le_of_ble_eq_true rfl) rfl ?_
        refine V_goto hG 20 dX7_nearest_76 (by decide) ?_
        cases hb_6
        exact hk_7 _ rfl
      refine V_if_lt hG 67 dX7_nearest_29 (by decide) (fun c_22 => ?_) (fun c_22 => ?_)
      · have hj_20 := if_t c_22 hj_20
        refine V_iload_n hG 0 rfl dX7_nearest_67 ?_
        refine V_goto hG 72 dX7_nearest_68 (by decide) ?_
        cases hj_20
        exact J_19
      · have hj_20 := if_f c_22 hj_20
        refine V_aload_n hG 2 rfl dX7_nearest_32 ?_
        refine g7_30 hM hG dX7_nearest_33 ?_
        refine V_iload_n hG 0 rfl dX7_nearest_36 ?_
        obtain ⟨g_23, hj_20⟩ := gd_of hj_20
        refine T_iaload hM hG (by decide) g_23 dX7_nearest_37 ?_
        refine V_aload_n hG 2 rfl dX7_nearest_38 ?_
        refine g7_94 hM hG dX7_nearest_39 ?_
        refine V_iload_n hG 3 rfl dX7_nearest_42 ?_
        obtain ⟨g_24, hj_20⟩ := gd_of hj_20
        refine T_iaload hM hG (by decide) g_24 dX7_nearest_43 ?_
        refine V_isub hG dX7_nearest_44 ?_
        obtain ⟨r_26, hc_25, hj_20⟩ := bd_of hj_20
        refine V_callS0 hE hG (As := [.int ((tI S_1 6 (Int32.toNatClampNeg x3_10)) - (tI S_1 27 (Int32.toNatClampNeg p1)))]) (rest := []) (ok_tw_sizeOf hE hM hc_25) hw7_398 hd_tw_sizeOf ⟨Nat.le_of_ble_eq_true rfl, Nat.le_of_ble_eq_true rfl⟩ rfl rfl (Nat.le_of_ble_eq_true rfl) rfl rfl dX7_nearest_45 ?_
        refine V_aload_n hG 2 rfl dX7_nearest_48 ?_
        refine g7_30 hM hG dX7_nearest_49 ?_
        refine V_iload_n hG 1 rfl dX7_nearest_52 ?_
        obtain ⟨g_27, hj_20⟩ := gd_of hj_20
        refine T_iaload hM hG (by decide) g_27 dX7_nearest_53 ?_
        refine V_aload_n hG 2 rfl dX7_nearest_54 ?_
        refine g7_94 hM hG dX7_nearest_55 ?_
        refine V_iload_n hG 3 rfl dX7_nearest_58 ?_
        obtain ⟨g_28, hj_20⟩ := gd_of hj_20
        refine T_iaload hM hG (by decide) g_28 dX7_nearest_59 ?_
        refine V_isub hG dX7_nearest_60 ?_
        obtain ⟨r_30, hc_29, hj_20⟩ := bd_of hj_20
        refine V_callS0 hE hG (As := [.int ((tI S_1 6 (Int32.toNatClampNeg x2_11)) - (tI S_1 27 (Int32.toNatClampNeg p1)))]) (rest := [.int r_26]) (ok_tw_sizeOf hE hM hc_29) hw7_398 hd_tw_sizeOf ⟨Nat.le_of_ble_eq_true rfl, Nat.le_of_ble_eq_true rfl⟩ rfl rfl (Nat.le_of_ble_eq_true rfl) rfl rfl dX7_nearest_61 ?_
        refine V_icmp_ge hG 71 dX7_nearest_64 (by decide) (fun c_31 => ?_) (fun c_31 => ?_)
        · have hj_20 := if_t c_31 hj_20
          refine V_iload_n hG 1 rfl dX7_nearest_71 ?_
          cases hj_20
          exact J_19
        · have hj_20 := if_f c_31 hj_20
          refine V_iload_n hG 0 rfl dX7_nearest_67 ?_
          refine V_goto hG 72 dX7_nearest_68 (by decide) ?_
          cases hj_20
          exact J_19
  · have h := if_t c_4 h
    refine V_iconst hG (-1) rfl dX7_nearest_13 ?_
    cases h
    subst eQ
    exact V_iret hG dX7_nearest_14

def tw_nextFight_b1 (N : Nat) (p1 : Int32) (x2_12 : Int32) (S_13 : TS) : Option (((Int32 × TS) ⊕ (Int32 × TS)) ⊕ (Int32 × TS)) :=
if 200 ≤ x2_12 then (
some (.inl (.inl (x2_12, S_13))))
else (
bd (tw_hourGoes N 1 S_13) fun S_24 =>
if tI S_24 0 68 < 0 then (
be (x2_12 + 1) fun (x2_26 : Int32) =>
some (.inr (x2_26, S_24)))
else (
be (if p1 = 0 then (
x2_12)
else (
tI S_24 0 68) : Int32) fun (y_30 : Int32) =>
some (.inl (.inr (y_30, S_24)))))
def tw_nextFight (N : Nat) (p1 : Int32) (S : TS) : Option (Int32 × TS) :=
be (tsI S 0 2 0) fun S_1 =>
bd (tw_isIn p1 0 1 S_1) fun r_3 =>
if r_3 = 0 then (
some ((-1), S_1))
else (
bd (tw_layTried N S_1) fun S_6 =>
bx2 (lp N (fun s_21 : Int32 × TS => tw_nextFight_b1 N p1 s_21.1 s_21.2) (1, S_6)) (fun (x2_15 : Int32) (S_16 : TS) =>
some ((-2), S_16)) (fun (w_33 : Int32 × TS) => some w_33))
def rm_tw_nextFight : Room := { frames := 6, cells := 0, slots := 0, locals := 147 }
theorem ok_tw_nextFight {E : En} (hE : EOk E) {o : Nat} {M0 : Mem} (hM : TwS o M0) {N : Nat} {p1 : Int32} {S : TS} {r : Int32} {S' : TS} (h : tw_nextFight N p1 S = some (r, S')) : CM E yX7_nextFight cX7_nextFight 3 (some .int) rm_tw_nextFight [rf E o, .int p1] (tw o S M0) (some (.int r)) (tw o S' M0) := by
  unfold tw_nextFight at h
  refine CM_intro (own := RX7) rfl (by decide) (Nat.le_of_ble_eq_true rfl) rfl (fun G hG => ?_)
  obtain ⟨Q, eQ⟩ : ∃ Q, Q = QM E G (some (.int r)) (tw o S' M0) 0 0 := ⟨_, rfl⟩
  show V E G (tw o S M0) 0 0 3 0 [(0, rf E o), (1, .int p1)] [] (QM E G (some (.int r)) (tw o S' M0) 0 0)
  rw [← eQ]
  refine V_aload_n hG 0 rfl dX7_nextFight_0 ?_
  refine V_iconst hG 0 rfl dX7_nextFight_1 ?_
  obtain ⟨S_1, eS_1, h⟩ := be_of h
  refine p7_160 hM hG eS_1 dX7_nextFight_2 ?_
  refine V_iload_n hG 1 rfl dX7_nextFight_5 ?_
  refine V_iconst hG 0 rfl dX7_nextFight_6 ?_
  refine V_iconst hG 1 rfl dX7_nextFight_7 ?_
  obtain ⟨r_3, hc_2, h⟩ := bd_of h
  refine V_callS0 hE hG (As := [.int p1, .int 0, .int 1]) (rest := []) (ok_tw_isIn hE hM hc_2) hw7_205 hd_tw_isIn ⟨Nat.le_of_ble_eq_true rfl, Nat.le_of_ble_eq_true rfl⟩ rfl rfl (Nat.le_of_ble_eq_true rfl) rfl rfl dX7_nextFight_8 ?_
  refine V_if_ne hG 16 dX7_nextFight_11 (by decide) (fun c_4 => ?_) (fun c_4 => ?_)
  · have h := if_f c_4 h
    refine V_aload_n hG 0 rfl dX7_nextFight_16 ?_
    obtain ⟨S_6, hc_5, h⟩ := bd_of h
    refine V_callV0 hE hG (As := []) (rest := []) (ok_tw_layTried hE hM hc_5) hM.1 (by decide) rfl hw7_473 hd_tw_layTried ⟨Nat.le_of_ble_eq_true rfl, Nat.le_of_ble_eq_true rfl⟩ rfl rfl (Nat.le_of_ble_eq_true rfl) rfl rfl dX7_nextFight_17 ?_
    refine V_iconst hG 1 rfl dX7_nextFight_20 ?_
    refine V_istore_n hG rfl [(2, .int 1), (0, rf E o), (1, .int p1)] dX7_nextFight_21 (Nat.le_of_ble_eq_true rfl) rfl ?_
    obtain ⟨rr_18, hL_17, hl_19, hr_14⟩ := bx2_of h
    have J_11 : ∀ q_20 : Int32 × TS, Sum.inl q_20 = rr_18 → V E G (tw o q_20.2 M0) 0 0 3 60 [(2, .int q_20.1), (0, rf E o), (1, .int p1)] [] Q := by
      intro q_20 e9
      obtain ⟨x2_15, S_16⟩ := q_20
      have h := hl_19 x2_15 S_16 e9.symm
      show V E G (tw o S_16 M0) 0 0 3 60 [(2, .int x2_15), (0, rf E o), (1, .int p1)] [] Q
      refine V_bipush hG (-2) (by decide) dX7_nextFight_60 ?_
      cases h
      subst eQ
      exact V_iret hG dX7_nextFight_62
    refine lp_walk (W := fun s_21 : Int32 × TS => V E G (tw o s_21.2 M0) 0 0 3 22 [(2, .int s_21.1), (0, rf E o), (1, .int p1)] [] Q) ?_ N (1, S_6) hL_17
    intro s_21 b_7 hb_8 hk_9 hx_10
    obtain ⟨x2_12, S_13⟩ := s_21
    have hb_8 : tw_nextFight_b1 N p1 x2_12 S_13 = some b_7 := hb_8
    unfold tw_nextFight_b1 at hb_8
    show V E G (tw o S_13 M0) 0 0 3 22 [(2, .int x2_12), (0, rf E o), (1, .int p1)] [] Q
    refine V_iload_n hG 0 rfl dX7_nextFight_22 ?_
    refine V_sipush hG 200 (by decide) dX7_nextFight_23 ?_
    refine V_icmp_ge hG 60 dX7_nextFight_26 (by decide) (fun c_22 => ?_) (fun c_22 => ?_)
    · have hb_8 := if_t c_22 hb_8
      cases hb_8
      exact J_11 _ (hx_10 _ rfl)
    · have hb_8 := if_f c_22 hb_8
      refine V_aload_n hG 1 rfl dX7_nextFight_29 ?_
      refine V_iconst hG 1 rfl dX7_nextFight_30 ?_
      obtain ⟨S_24, hc_23, hb_8⟩ := bd_of hb_8
      refine V_callV0 hE hG (As := [.int 1]) (rest := []) (ok_tw_hourGoes hE hM hc_23) hM.1 (by decide) rfl hw7_456 hd_tw_hourGoes ⟨Nat.le_of_ble_eq_true rfl, Nat.le_of_ble_eq_true rfl⟩ rfl rfl (Nat.le_of_ble_eq_true rfl) rfl rfl dX7_nextFight_31 ?_
      refine V_aload_n hG 1 rfl dX7_nextFight_34 ?_
      refine g7_438 hM hG dX7_nextFight_35 ?_
      refine V_if_lt hG 54 dX7_nextFight_38 (by decide) (fun c_25 => ?_) (fun c_25 => ?_)
      · have hb_8 := if_t c_25 hb_8
        obtain ⟨x2_26, ex2_26, hb_8⟩ := be_of hb_8
        refine V_iinc hG 0 x2_26 rfl (by rw [ex2_26]; rfl) [(2, .int x2_26), (0, rf E o), (1, .int p1)] dX7_nextFight_54 (Nat.le_of_ble_eq_true rfl) rfl ?_
        refine V_goto hG 22 dX7_nextFight_57 (by decide) ?_
        cases hb_8
        exact hk_9 _ rfl
      · have hb_8 := if_f c_25 hb_8
        refine V_iload_n hG 2 rfl dX7_nextFight_41 ?_
        obtain ⟨t_27, et_27, hb_8⟩ := be_of hb_8
        have J_28 : ∀ y_30 : Int32, y_30 = t_27 → V E G (tw o S_24 M0) 0 0 3 53 [(2, .int x2_12), (0, rf E o), (1, .int p1)] [.int y_30] Q := by
          intro y_30 ey
          subst ey
          cases hb_8
          have e_31 := hx_10 _ rfl
          have h_32 : some (y_30, S_24) = some (r, S') := hr_14 _ e_31.symm
          cases h_32
          subst eQ
          exact V_iret hG dX7_nextFight_53
        refine V_if_ne hG 49 dX7_nextFight_42 (by decide) (fun c_29 => ?_) (fun c_29 => ?_)
        · refine V_aload_n hG 1 rfl dX7_nextFight_49 ?_
          refine g7_438 hM hG dX7_nextFight_50 ?_
          exact J_28 _ (by rw [et_27, if_neg c_29])
        · refine V_iload_n hG 0 rfl dX7_nextFight_45 ?_
          refine V_goto hG 53 dX7_nextFight_46 (by decide) ?_
          exact J_28 _ (by rw [et_27, if_pos c_29])
  · have h := if_t c_4 h
    refine V_iconst hG (-1) rfl dX7_nextFight_14 ?_
    cases h
    subst eQ
    exact V_iret hG dX7_nextFight_15

def tw_noted (p1 : Int32) (p2 : Int32) (p3 : Int32) (p4 : Int32) (S : TS) : Option (Int32 × TS) :=
gd (inb (4 * (tI S 0 74)) (lenA 41)) (
be (tsI S 41 (Int32.toNatClampNeg (4 * (tI S 0 74))) p1) fun S_2 =>
gd (inb ((4 * (tI S_2 0 74)) + 1) (lenA 41)) (
be (tsI S_2 41 (Int32.toNatClampNeg ((4 * (tI S_2 0 74)) + 1)) p2) fun S_4 =>
gd (inb ((4 * (tI S_4 0 74)) + 2) (lenA 41)) (
be (tsI S_4 41 (Int32.toNatClampNeg ((4 * (tI S_4 0 74)) + 2)) p3) fun S_6 =>
gd (inb ((4 * (tI S_6 0 74)) + 3) (lenA 41)) (
be (tsI S_6 41 (Int32.toNatClampNeg ((4 * (tI S_6 0 74)) + 3)) p4) fun S_8 =>
be (tsI S_8 0 74 ((tI S_8 0 74) + 1)) fun S_9 =>
some ((tI S_9 0 74) - 1, S_9)))))
def rm_tw_noted : Room := { frames := 0, cells := 0, slots := 0, locals := 0 }
theorem ok_tw_noted {E : En} (hE : EOk E) {o : Nat} {M0 : Mem} (hM : TwS o M0) {p1 : Int32} {p2 : Int32} {p3 : Int32} {p4 : Int32} {S : TS} {r : Int32} {S' : TS} (h : tw_noted p1 p2 p3 p4 S = some (r, S')) : CM E yX7_noted cX7_noted 5 (some .int) rm_tw_noted [rf E o, .int p1, .int p2, .int p3, .int p4] (tw o S M0) (some (.int r)) (tw o S' M0) := by
  unfold tw_noted at h
  refine CM_intro (own := RX7) rfl (by decide) (Nat.le_of_ble_eq_true rfl) rfl (fun G hG => ?_)
  obtain ⟨Q, eQ⟩ : ∃ Q, Q = QM E G (some (.int r)) (tw o S' M0) 0 0 := ⟨_, rfl⟩
  show V E G (tw o S M0) 0 0 5 0 [(0, rf E o), (1, .int p1), (2, .int p2), (3, .int p3), (4, .int p4)] [] (QM E G (some (.int r)) (tw o S' M0) 0 0)
  rw [← eQ]
  refine V_aload_n hG 0 rfl dX7_noted_0 ?_
  refine g7_139 hM hG dX7_noted_1 ?_
  refine V_iconst hG 4 rfl dX7_noted_4 ?_
  refine V_aload_n hG 0 rfl dX7_noted_5 ?_
  refine g7_377 hM hG dX7_noted_6 ?_
  refine V_imul hG dX7_noted_9 ?_
  refine V_iload_n hG 1 rfl dX7_noted_10 ?_
  obtain ⟨g_1, h⟩ := gd_of h
  obtain ⟨S_2, eS_2, h⟩ := be_of h
  refine T_iastore hM hG eS_2 (by decide) g_1 dX7_noted_11 ?_
  refine V_aload_n hG 0 rfl dX7_noted_12 ?_
  refine g7_139 hM hG dX7_noted_13 ?_
  refine V_iconst hG 4 rfl dX7_noted_16 ?_
  refine V_aload_n hG 0 rfl dX7_noted_17 ?_
  refine g7_377 hM hG dX7_noted_18 ?_
  refine V_imul hG dX7_noted_21 ?_
  refine V_iconst hG 1 rfl dX7_noted_22 ?_
  refine V_iadd hG dX7_noted_23 ?_
  refine V_iload_n hG 2 rfl dX7_noted_24 ?_
  obtain ⟨g_3, h⟩ := gd_of h
  obtain ⟨S_4, eS_4, h⟩ := be_of h
  refine T_iastore hM hG eS_4 (by decide) g_3 dX7_noted_25 ?_
  refine V_aload_n hG 0 rfl dX7_noted_26 ?_
  refine g7_139 hM hG dX7_noted_27 ?_
  refine V_iconst hG 4 rfl dX7_noted_30 ?_
  refine V_aload_n hG 0 rfl dX7_noted_31 ?_
  refine g7_377 hM hG dX7_noted_32 ?_
  refine V_imul hG dX7_noted_35 ?_
  refine V_iconst hG 2 rfl dX7_noted_36 ?_
  refine V_iadd hG dX7_noted_37 ?_
  refine V_iload_n hG 3 rfl dX7_noted_38 ?_
  obtain ⟨g_5, h⟩ := gd_of h
  obtain ⟨S_6, eS_6, h⟩ := be_of h
  refine T_iastore hM hG eS_6 (by decide) g_5 dX7_noted_39 ?_
  refine V_aload_n hG 0 rfl dX7_noted_40 ?_
  refine g7_139 hM hG dX7_noted_41 ?_
  refine V_iconst hG 4 rfl dX7_noted_44 ?_
  refine V_aload_n hG 0 rfl dX7_noted_45 ?_
  refine g7_377 hM hG dX7_noted_46 ?_
  refine V_imul hG dX7_noted_49 ?_
  refine V_iconst hG 3 rfl dX7_noted_50 ?_
  refine V_iadd hG dX7_noted_51 ?_
  refine V_iload hG 4 rfl dX7_noted_52 ?_
  obtain ⟨g_7, h⟩ := gd_of h
  obtain ⟨S_8, eS_8, h⟩ := be_of h
  refine T_iastore hM hG eS_8 (by decide) g_7 dX7_noted_54 ?_
  refine V_aload_n hG 0 rfl dX7_noted_55 ?_
  refine V_dup hG rfl dX7_noted_56 ?_
  refine g7_377 hM hG dX7_noted_57 ?_
  refine V_iconst hG 1 rfl dX7_noted_60 ?_
  refine V_iadd hG dX7_noted_61 ?_
  obtain ⟨S_9, eS_9, h⟩ := be_of h
  refine p7_377 hM hG eS_9 dX7_noted_62 ?_
  refine V_aload_n hG 0 rfl dX7_noted_65 ?_
  refine g7_377 hM hG dX7_noted_66 ?_
  refine V_iconst hG 1 rfl dX7_noted_69 ?_
  refine V_isub hG dX7_noted_70 ?_
  cases h
  subst eQ
  exact V_iret hG dX7_noted_71
