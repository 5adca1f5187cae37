set_option maxRecDepth 100000
set_option maxHeartbeats 4000000
def tw_meets (N : Nat) (p1 : Int32) (p2 : Int32) (p3 : Int32) (S : TS) : Option (TS) :=
be ((6 * p1) + p2) fun (x4_1 : Int32) =>
be ((6 * p1) + p3) fun (x5_2 : Int32) =>
gd (inb x4_1 (lenA 31)) (
if tI S 31 (Int32.toNatClampNeg x4_1) = 0 then (
some S)
else (
gd (inb x5_2 (lenA 31)) (
if tI S 31 (Int32.toNatClampNeg x5_2) = 0 then (
some S)
else (
gd (inb x4_1 (lenA 27)) (
gd (inb x5_2 (lenA 27)) (
if tI S 27 (Int32.toNatClampNeg x4_1) = tI S 27 (Int32.toNatClampNeg x5_2) then (
gd (inb p2 (lenA 10)) (
gd (inb p3 (lenA 10)) (
if tI S 10 (Int32.toNatClampNeg p2) = tI S 10 (Int32.toNatClampNeg p3) then (
some S)
else (
gd (inb p2 (lenA 10)) (
gd (inb p3 (lenA 10)) (
gd (inb p3 (lenA 10)) (
gd (inb p2 (lenA 10)) (
be ((1 <<< (((4 * (tI S 10 (Int32.toNatClampNeg p2))) + (tI S 10 (Int32.toNatClampNeg p3))) &&& 31)) ||| (1 <<< (((4 * (tI S 10 (Int32.toNatClampNeg p3))) + (tI S 10 (Int32.toNatClampNeg p2))) &&& 31))) fun (x6_17 : Int32) =>
gd (inb x4_1 (lenA 32)) (
gd (inb x5_2 (lenA 32)) (
if (tI S 32 (Int32.toNatClampNeg x4_1)) + (tI S 32 (Int32.toNatClampNeg x5_2)) ≤ 0 then (
gd (inb p1 (lenA 34)) (
gd (inb p1 (lenA 34)) (
be (tsI S 34 (Int32.toNatClampNeg p1) ((tI S 34 (Int32.toNatClampNeg p1)) + 1)) fun S_23 =>
gd (inb p1 (lenA 39)) (
gd (inb p1 (lenA 39)) (
be (tsI S_23 39 (Int32.toNatClampNeg p1) ((tI S_23 39 (Int32.toNatClampNeg p1)) ||| x6_17)) fun S_26 =>
bd (if 0 ≤ tI S_26 0 68 then (
some S_26)
else (
gd (inb x4_1 (lenA 27)) (
be (tsI S_26 0 68 (tI S_26 27 (Int32.toNatClampNeg x4_1))) fun S_48 =>
some S_48)) : Option (TS)) fun (S_27 : TS) =>
gd (inb x4_1 (lenA 30)) (
bd2 (tw_boundLaw N p1 2 p2 1 S_27) fun r_33 S_32 =>
bd (tw_more (tI S_27 30 (Int32.toNatClampNeg x4_1)) r_33 S_32) fun r_35 =>
gd (inb x4_1 (lenA 30)) (
be (tsI S_32 30 (Int32.toNatClampNeg x4_1) r_35) fun S_37 =>
gd (inb x5_2 (lenA 30)) (
bd2 (tw_boundLaw N p1 2 p3 1 S_37) fun r_41 S_40 =>
bd (tw_more (tI S_37 30 (Int32.toNatClampNeg x5_2)) r_41 S_40) fun r_43 =>
gd (inb x5_2 (lenA 30)) (
be (tsI S_40 30 (Int32.toNatClampNeg x5_2) r_43) fun S_45 =>
some S_45)))))))))
else (
gd (inb p1 (lenA 35)) (
gd (inb p1 (lenA 35)) (
be (tsI S 35 (Int32.toNatClampNeg p1) ((tI S 35 (Int32.toNatClampNeg p1)) + 1)) fun S_51 =>
gd (inb p1 (lenA 38)) (
gd (inb p1 (lenA 38)) (
be (tsI S_51 38 (Int32.toNatClampNeg p1) ((tI S_51 38 (Int32.toNatClampNeg p1)) ||| x6_17)) fun S_54 =>
some S_54)))))))))))))))
else (
some S)))))))
def rm_tw_meets : Room := { frames := 4, cells := 0, slots := 0, locals := 98 }
theorem ok_tw_meets {E : En} (hE : EOk E) {o : Nat} {M0 : Mem} (hM : TwS o M0) {N : Nat} {p1 : Int32} {p2 : Int32} {p3 : Int32} {S : TS}  {S' : TS} (h : tw_meets N p1 p2 p3 S = some S') : CM E yX7_meets cX7_meets 7 none rm_tw_meets [rf E o, .int p1, .int p2, .int p3] (tw o S M0) none (tw o S' M0) := by
  unfold tw_meets at h
  refine CM_intro (own := RX7) rfl (by decide) (Nat.le_of_ble_eq_true rfl) rfl (fun G hG => ?_)
  obtain ⟨Q, eQ⟩ : ∃ Q, Q = QM E G none (tw o S' M0) 0 0 := ⟨_, rfl⟩
  show V E G (tw o S M0) 0 0 7 0 [(0, rf E o), (1, .int p1), (2, .int p2), (3, .int p3)] [] (QM E G none (tw o S' M0) 0 0)
  rw [← eQ]
  refine V_bipush hG 6 (by decide) dX7_meets_0 ?_
  refine V_iload_n hG 1 rfl dX7_meets_2 ?_
  refine V_imul hG dX7_meets_3 ?_
  refine V_iload_n hG 2 rfl dX7_meets_4 ?_
  refine V_iadd hG dX7_meets_5 ?_
  obtain ⟨x4_1, ex4_1, h⟩ := be_of h
  refine V_topi ex4_1 ?_
  refine V_istore hG [(4, .int x4_1), (0, rf E o), (1, .int p1), (2, .int p2), (3, .int p3)] dX7_meets_6 (Nat.le_of_ble_eq_true rfl) rfl ?_
  refine V_bipush hG 6 (by decide) dX7_meets_8 ?_
  refine V_iload_n hG 2 rfl dX7_meets_10 ?_
  refine V_imul hG dX7_meets_11 ?_
  refine V_iload_n hG 4 rfl dX7_meets_12 ?_
  refine V_iadd hG dX7_meets_13 ?_
  obtain ⟨x5_2, ex5_2, h⟩ := be_of h
  refine V_topi ex5_2 ?_
  refine V_istore hG [(5, .int x5_2), (4, .int x4_1), (0, rf E o), (1, .int p1), (2, .int p2), (3, .int p3)] dX7_meets_14 (Nat.le_of_ble_eq_true rfl) rfl ?_
  refine V_aload_n hG 2 rfl dX7_meets_16 ?_
  refine g7_106 hM hG dX7_meets_17 ?_
  refine V_iload hG 1 rfl dX7_meets_20 ?_
  obtain ⟨g_3, h⟩ := gd_of h
  refine T_zaload hM hG (by decide) g_3 dX7_meets_22 ?_
  refine V_if_eq hG 68 dX7_meets_23 (by decide) (fun c_4 => ?_) (fun c_4 => ?_)
  · have h := if_t c_4 h
    cases h
    subst eQ
    exact V_vret hG dX7_meets_68
  · have h := if_f c_4 h
    refine V_aload_n hG 2 rfl dX7_meets_26 ?_
    refine g7_106 hM hG dX7_meets_27 ?_
    refine V_iload hG 0 rfl dX7_meets_30 ?_
    obtain ⟨g_5, h⟩ := gd_of h
    refine T_zaload hM hG (by decide) g_5 dX7_meets_32 ?_
    refine V_if_eq hG 68 dX7_meets_33 (by decide) (fun c_6 => ?_) (fun c_6 => ?_)
    · have h := if_t c_6 h
      cases h
      subst eQ
      exact V_vret hG dX7_meets_68
    · have h := if_f c_6 h
      refine V_aload_n hG 2 rfl dX7_meets_36 ?_
      refine g7_94 hM hG dX7_meets_37 ?_
      refine V_iload hG 1 rfl dX7_meets_40 ?_
      obtain ⟨g_7, h⟩ := gd_of h
      refine T_iaload hM hG (by decide) g_7 dX7_meets_42 ?_
      refine V_aload_n hG 2 rfl dX7_meets_43 ?_
      refine g7_94 hM hG dX7_meets_44 ?_
      refine V_iload hG 0 rfl dX7_meets_47 ?_
      obtain ⟨g_8, h⟩ := gd_of h
      refine T_iaload hM hG (by decide) g_8 dX7_meets_49 ?_
      refine V_icmp_ne hG 68 dX7_meets_50 (by decide) (fun c_9 => ?_) (fun c_9 => ?_)
      · have h := if_f c_9 h
        cases h
        subst eQ
        exact V_vret hG dX7_meets_68
      · have h := if_t c_9 h
        refine V_aload_n hG 2 rfl dX7_meets_53 ?_
        refine g7_42 hM hG dX7_meets_54 ?_
        refine V_iload_n hG 4 rfl dX7_meets_57 ?_
        obtain ⟨g_10, h⟩ := gd_of h
        refine T_iaload hM hG (by decide) g_10 dX7_meets_58 ?_
        refine V_aload_n hG 2 rfl dX7_meets_59 ?_
        refine g7_42 hM hG dX7_meets_60 ?_
        refine V_iload_n hG 5 rfl dX7_meets_63 ?_
        obtain ⟨g_11, h⟩ := gd_of h
        refine T_iaload hM hG (by decide) g_11 dX7_meets_64 ?_
        refine V_icmp_ne hG 69 dX7_meets_65 (by decide) (fun c_12 => ?_) (fun c_12 => ?_)
        · have h := if_f c_12 h
          refine V_iconst hG 1 rfl dX7_meets_69 ?_
          refine V_iconst hG 4 rfl dX7_meets_70 ?_
          refine V_aload_n hG 2 rfl dX7_meets_71 ?_
          refine g7_42 hM hG dX7_meets_72 ?_
          refine V_iload_n hG 4 rfl dX7_meets_75 ?_
          obtain ⟨g_13, h⟩ := gd_of h
          refine T_iaload hM hG (by decide) g_13 dX7_meets_76 ?_
          refine V_imul hG dX7_meets_77 ?_
          refine V_aload_n hG 2 rfl dX7_meets_78 ?_
          refine g7_42 hM hG dX7_meets_79 ?_
          refine V_iload_n hG 5 rfl dX7_meets_82 ?_
          obtain ⟨g_14, h⟩ := gd_of h
          refine T_iaload hM hG (by decide) g_14 dX7_meets_83 ?_
          refine V_iadd hG dX7_meets_84 ?_
          refine V_ishl hG dX7_meets_85 ?_
          refine V_iconst hG 1 rfl dX7_meets_86 ?_
          refine V_iconst hG 4 rfl dX7_meets_87 ?_
          refine V_aload_n hG 2 rfl dX7_meets_88 ?_
          refine g7_42 hM hG dX7_meets_89 ?_
          refine V_iload_n hG 5 rfl dX7_meets_92 ?_
          obtain ⟨g_15, h⟩ := gd_of h
          refine T_iaload hM hG (by decide) g_15 dX7_meets_93 ?_
          refine V_imul hG dX7_meets_94 ?_
          refine V_aload_n hG 2 rfl dX7_meets_95 ?_
          refine g7_42 hM hG dX7_meets_96 ?_
          refine V_iload_n hG 4 rfl dX7_meets_99 ?_
          obtain ⟨g_16, h⟩ := gd_of h
          refine T_iaload hM hG (by decide) g_16 dX7_meets_100 ?_
          refine V_iadd hG dX7_meets_101 ?_
          refine V_ishl hG dX7_meets_102 ?_
          refine V_ior hG dX7_meets_103 ?_
          obtain ⟨x6_17, ex6_17, h⟩ := be_of h
          refine V_topi ex6_17 ?_
          refine V_istore hG [(6, .int x6_17), (5, .int x5_2), (4, .int x4_1), (0, rf E o), (1, .int p1), (2, .int p2), (3, .int p3)] dX7_meets_104 (Nat.le_of_ble_eq_true rfl) rfl ?_
          refine V_aload_n hG 3 rfl dX7_meets_106 ?_
          refine g7_109 hM hG dX7_meets_107 ?_
          refine V_iload hG 2 rfl dX7_meets_110 ?_
          obtain ⟨g_18, h⟩ := gd_of h
          refine T_iaload hM hG (by decide) g_18 dX7_meets_112 ?_
          refine V_aload_n hG 3 rfl dX7_meets_113 ?_
          refine g7_109 hM hG dX7_meets_114 ?_
          refine V_iload hG 1 rfl dX7_meets_117 ?_
          obtain ⟨g_19, h⟩ := gd_of h
          refine T_iaload hM hG (by decide) g_19 dX7_meets_119 ?_
          refine V_iadd hG dX7_meets_120 ?_
          refine V_if_le hG 146 dX7_meets_121 (by decide) (fun c_20 => ?_) (fun c_20 => ?_)
          · have h := if_t c_20 h
            refine V_aload_n hG 3 rfl dX7_meets_146 ?_
            refine g7_115 hM hG dX7_meets_147 ?_
            refine V_iload_n hG 4 rfl dX7_meets_150 ?_
            refine V_dup2 hG rfl rfl dX7_meets_151 ?_
            obtain ⟨g_21, h⟩ := gd_of h
            refine T_iaload hM hG (by decide) g_21 dX7_meets_152 ?_
            refine V_iconst hG 1 rfl dX7_meets_153 ?_
            refine V_iadd hG dX7_meets_154 ?_
            obtain ⟨g_22, h⟩ := gd_of h
            obtain ⟨S_23, eS_23, h⟩ := be_of h
            refine T_iastore hM hG eS_23 (by decide) g_22 dX7_meets_155 ?_
            refine V_aload_n hG 3 rfl dX7_meets_156 ?_
            refine g7_130 hM hG dX7_meets_157 ?_
            refine V_iload_n hG 4 rfl dX7_meets_160 ?_
            refine V_dup2 hG rfl rfl dX7_meets_161 ?_
            obtain ⟨g_24, h⟩ := gd_of h
            refine T_iaload hM hG (by decide) g_24 dX7_meets_162 ?_
            refine V_iload hG 0 rfl dX7_meets_163 ?_
            refine V_ior hG dX7_meets_165 ?_
            obtain ⟨g_25, h⟩ := gd_of h
            obtain ⟨S_26, eS_26, h⟩ := be_of h
            refine T_iastore hM hG eS_26 (by decide) g_25 dX7_meets_166 ?_
            refine V_aload_n hG 3 rfl dX7_meets_167 ?_
            refine g7_438 hM hG dX7_meets_168 ?_
            obtain ⟨S_27, hj_29, h⟩ := bd_of h
            have J_28 : V E G (tw o S_27 M0) 0 0 7 185 [(6, .int x6_17), (5, .int x5_2), (4, .int x4_1), (0, rf E o), (1, .int p1), (2, .int p2), (3, .int p3)] [] Q := by
              refine V_aload_n hG 3 rfl dX7_meets_185 ?_
              refine g7_103 hM hG dX7_meets_186 ?_
              refine V_iload hG 2 rfl dX7_meets_189 ?_
              refine V_aload_n hG 3 rfl dX7_meets_191 ?_
              refine V_aload_n hG 3 rfl dX7_meets_192 ?_
              refine g7_103 hM hG dX7_meets_193 ?_
              refine V_iload hG 2 rfl dX7_meets_196 ?_
              obtain ⟨g_30, h⟩ := gd_of h
              refine T_iaload hM hG (by decide) g_30 dX7_meets_198 ?_
              refine V_aload_n hG 3 rfl dX7_meets_199 ?_
              refine V_iload_n hG 4 rfl dX7_meets_200 ?_
              refine V_iconst hG 2 rfl dX7_meets_201 ?_
              refine V_iload_n hG 5 rfl dX7_meets_202 ?_
              refine V_iconst hG 1 rfl dX7_meets_203 ?_
              obtain ⟨r_33, S_32, hc_31, h⟩ := bd2_of h
              refine V_callV0 hE hG (As := [.int p1, .int 2, .int p2, .int 1]) (rest := [.int (tI S_27 30 (Int32.toNatClampNeg x4_1)), rf E o, .int x4_1, rf E ((o + 30))]) (ok_tw_boundLaw hE hM hc_31) hM.1 (by decide) rfl hw7_434 hd_tw_boundLaw ⟨Nat.le_of_ble_eq_true rfl, Nat.le_of_ble_eq_true rfl⟩ rfl rfl (Nat.le_of_ble_eq_true rfl) rfl rfl dX7_meets_204 ?_
              obtain ⟨r_35, hc_34, h⟩ := bd_of h
              refine V_callV0 hE hG (As := [.int (tI S_27 30 (Int32.toNatClampNeg x4_1)), .int r_33]) (rest := [.int x4_1, rf E ((o + 30))]) (ok_tw_more hE hM hc_34) hM.1 (by decide) rfl hw7_441 hd_tw_more ⟨Nat.le_of_ble_eq_true rfl, Nat.le_of_ble_eq_true rfl⟩ rfl rfl (Nat.le_of_ble_eq_true rfl) rfl rfl dX7_meets_207 ?_
              obtain ⟨g_36, h⟩ := gd_of h
              obtain ⟨S_37, eS_37, h⟩ := be_of h
              refine T_iastore hM hG eS_37 (by decide) g_36 dX7_meets_210 ?_
              refine V_aload_n hG 3 rfl dX7_meets_211 ?_
              refine g7_103 hM hG dX7_meets_212 ?_
              refine V_iload hG 1 rfl dX7_meets_215 ?_
              refine V_aload_n hG 3 rfl dX7_meets_217 ?_
              refine V_aload_n hG 3 rfl dX7_meets_218 ?_
              refine g7_103 hM hG dX7_meets_219 ?_
              refine V_iload hG 1 rfl dX7_meets_222 ?_
              obtain ⟨g_38, h⟩ := gd_of h
              refine T_iaload hM hG (by decide) g_38 dX7_meets_224 ?_
              refine V_aload_n hG 3 rfl dX7_meets_225 ?_
              refine V_iload_n hG 4 rfl dX7_meets_226 ?_
              refine V_iconst hG 2 rfl dX7_meets_227 ?_
              refine V_iload_n hG 6 rfl dX7_meets_228 ?_
              refine V_iconst hG 1 rfl dX7_meets_229 ?_
              obtain ⟨r_41, S_40, hc_39, h⟩ := bd2_of h
              refine V_callV0 hE hG (As := [.int p1, .int 2, .int p3, .int 1]) (rest := [.int (tI S_37 30 (Int32.toNatClampNeg x5_2)), rf E o, .int x5_2, rf E ((o + 30))]) (ok_tw_boundLaw hE hM hc_39) hM.1 (by decide) rfl hw7_434 hd_tw_boundLaw ⟨Nat.le_of_ble_eq_true rfl, Nat.le_of_ble_eq_true rfl⟩ rfl rfl (Nat.le_of_ble_eq_true rfl) rfl rfl dX7_meets_230 ?_
              obtain ⟨r_43, hc_42, h⟩ := bd_of h
              refine V_callV0 hE hG (As := [.int (tI S_37 30 (Int32.toNatClampNeg x5_2)), .int r_41]) (rest := [.int x5_2, rf E ((o + 30))]) (ok_tw_more hE hM hc_42) hM.1 (by decide) rfl hw7_441 hd_tw_more ⟨Nat.le_of_ble_eq_true rfl, Nat.le_of_ble_eq_true rfl⟩ rfl rfl (Nat.le_of_ble_eq_true rfl) rfl rfl dX7_meets_233 ?_
              obtain ⟨g_44, h⟩ := gd_of h
              obtain ⟨S_45, eS_45, h⟩ := be_of h
              refine T_iastore hM hG eS_45 (by decide) g_44 dX7_meets_236 ?_
              cases h
              subst eQ
              exact V_vret hG dX7_meets_237
            refine V_if_ge hG 185 dX7_meets_171 (by decide) (fun c_46 => ?_) (fun c_46 => ?_)
            · have hj_29 := if_t c_46 hj_29
              cases hj_29
              exact J_28
            · have hj_29 := if_f c_46 hj_29
              refine V_aload_n hG 3 rfl dX7_meets_174 ?_
              refine V_aload_n hG 3 rfl dX7_meets_175 ?_
              refine g7_94 hM hG dX7_meets_176 ?_
              refine V_iload hG 2 rfl dX7_meets_179 ?_
              obtain ⟨g_47, hj_29⟩ := gd_of hj_29
              refine T_iaload hM hG (by decide) g_47 dX7_meets_181 ?_
              obtain ⟨S_48, eS_48, hj_29⟩ := be_of hj_29
              refine p7_438 hM hG eS_48 dX7_meets_182 ?_
              cases hj_29
              exact J_28
          · have h := if_f c_20 h
            refine V_aload_n hG 3 rfl dX7_meets_124 ?_
            refine g7_118 hM hG dX7_meets_125 ?_
            refine V_iload_n hG 4 rfl dX7_meets_128 ?_
            refine V_dup2 hG rfl rfl dX7_meets_129 ?_
            obtain ⟨g_49, h⟩ := gd_of h
            refine T_iaload hM hG (by decide) g_49 dX7_meets_130 ?_
            refine V_iconst hG 1 rfl dX7_meets_131 ?_
            refine V_iadd hG dX7_meets_132 ?_
            obtain ⟨g_50, h⟩ := gd_of h
            obtain ⟨S_51, eS_51, h⟩ := be_of h
            refine T_iastore hM hG eS_51 (by decide) g_50 dX7_meets_133 ?_
            refine V_aload_n hG 3 rfl dX7_meets_134 ?_
            refine g7_127 hM hG dX7_meets_135 ?_
            refine V_iload_n hG 4 rfl dX7_meets_138 ?_
            refine V_dup2 hG rfl rfl dX7_meets_139 ?_
            obtain ⟨g_52, h⟩ := gd_of h
            refine T_iaload hM hG (by decide) g_52 dX7_meets_140 ?_
            refine V_iload hG 0 rfl dX7_meets_141 ?_
            refine V_ior hG dX7_meets_143 ?_
            obtain ⟨g_53, h⟩ := gd_of h
            obtain ⟨S_54, eS_54, h⟩ := be_of h
            refine T_iastore hM hG eS_54 (by decide) g_53 dX7_meets_144 ?_
            cases h
            subst eQ
            exact V_vret hG dX7_meets_145
        · have h := if_t c_12 h
          cases h
          subst eQ
          exact V_vret hG dX7_meets_68

def tw_walks (N : Nat) (p1 : Int32) (p2 : Int32) (S : TS) : Option (TS) :=
be ((6 * p1) + p2) fun (x3_1 : Int32) =>
bd (tw_farOf p1 p2 S) fun r_3 =>
bd (if r_3 ≤ 0 then (
some S)
else (
bd (tw_paceOf p2 S) fun r_15 =>
bd (if r_15 ≤ r_3 then (
bd (tw_paceOf p2 S) fun r_31 =>
some r_31)
else (
some r_3) : Option (Int32)) fun (t_16 : Int32) =>
gd (inb x3_1 (lenA 27)) (
gd (inb x3_1 (lenA 29)) (
gd (inb (tI S 29 (Int32.toNatClampNeg x3_1)) (lenA 6)) (
gd (inb x3_1 (lenA 27)) (
be (if tI S 6 (Int32.toNatClampNeg (tI S 29 (Int32.toNatClampNeg x3_1))) ≤ tI S 27 (Int32.toNatClampNeg x3_1) then (
-t_16)
else (
t_16) : Int32) fun (y_26 : Int32) =>
gd (inb x3_1 (lenA 27)) (
be (tsI S 27 (Int32.toNatClampNeg x3_1) ((tI S 27 (Int32.toNatClampNeg x3_1)) + y_26)) fun S_28 =>
some S_28)))))) : Option (TS)) fun (S_4 : TS) =>
gd (inb x3_1 (lenA 28)) (
bd2 (tw_boundLaw N p1 0 p2 1 S_4) fun r_10 S_9 =>
gd (inb x3_1 (lenA 28)) (
be (tsI S_9 28 (Int32.toNatClampNeg x3_1) ((tI S_4 28 (Int32.toNatClampNeg x3_1)) + r_10)) fun S_12 =>
some S_12))
def rm_tw_walks : Room := { frames := 4, cells := 0, slots := 0, locals := 98 }
theorem ok_tw_walks {E : En} (hE : EOk E) {o : Nat} {M0 : Mem} (hM : TwS o M0) {N : Nat} {p1 : Int32} {p2 : Int32} {S : TS}  {S' : TS} (h : tw_walks N p1 p2 S = some S') : CM E yX7_walks cX7_walks 6 none rm_tw_walks [rf E o, .int p1, .int p2] (tw o S M0) none (tw o S' M0) := by
  unfold tw_walks at h
  refine CM_intro (own := RX7) rfl (by decide) (Nat.le_of_ble_eq_true rfl) rfl (fun G hG => ?_)
  obtain ⟨Q, eQ⟩ : ∃ Q, Q = QM E G none (tw o S' M0) 0 0 := ⟨_, rfl⟩
  show V E G (tw o S M0) 0 0 6 0 [(0, rf E o), (1, .int p1), (2, .int p2)] [] (QM E G none (tw o S' M0) 0 0)
  rw [← eQ]
  refine V_bipush hG 6 (by decide) dX7_walks_0 ?_
  refine V_iload_n hG 1 rfl dX7_walks_2 ?_
  refine V_imul hG dX7_walks_3 ?_
  refine V_iload_n hG 2 rfl dX7_walks_4 ?_
  refine V_iadd hG dX7_walks_5 ?_
  obtain ⟨x3_1, ex3_1, h⟩ := be_of h
  refine V_topi ex3_1 ?_
  refine V_istore_n hG rfl [(3, .int x3_1), (0, rf E o), (1, .int p1), (2, .int p2)] dX7_walks_6 (Nat.le_of_ble_eq_true rfl) rfl ?_
  refine V_aload_n hG 1 rfl dX7_walks_7 ?_
  refine V_iload_n hG 2 rfl dX7_walks_8 ?_
  refine V_iload_n hG 3 rfl dX7_walks_9 ?_
  obtain ⟨r_3, hc_2, h⟩ := bd_of h
  refine V_callV0 hE hG (As := [.int p1, .int p2]) (rest := []) (ok_tw_farOf hE hM hc_2) hM.1 (by decide) rfl hw7_407 hd_tw_farOf ⟨Nat.le_of_ble_eq_true rfl, Nat.le_of_ble_eq_true rfl⟩ rfl rfl (Nat.le_of_ble_eq_true rfl) rfl rfl dX7_walks_10 ?_
  refine V_istore hG [(4, .int r_3), (3, .int x3_1), (0, rf E o), (1, .int p1), (2, .int p2)] dX7_walks_13 (Nat.le_of_ble_eq_true rfl) rfl ?_
  refine V_iload hG 0 rfl dX7_walks_15 ?_
  obtain ⟨S_4, hj_6, h⟩ := bd_of h
  have J_5 : V E G (tw o S_4 M0) 0 0 6 79 [(4, .int r_3), (3, .int x3_1), (0, rf E o), (1, .int p1), (2, .int p2)] [] Q := by
    refine V_aload_n hG 2 rfl dX7_walks_79 ?_
    refine g7_97 hM hG dX7_walks_80 ?_
    refine V_iload_n hG 1 rfl dX7_walks_83 ?_
    refine V_dup2 hG rfl rfl dX7_walks_84 ?_
    obtain ⟨g_7, h⟩ := gd_of h
    refine T_iaload hM hG (by decide) g_7 dX7_walks_85 ?_
    refine V_aload_n hG 2 rfl dX7_walks_86 ?_
    refine V_iload_n hG 3 rfl dX7_walks_87 ?_
    refine V_iconst hG 0 rfl dX7_walks_88 ?_
    refine V_iload_n hG 4 rfl dX7_walks_89 ?_
    refine V_iconst hG 1 rfl dX7_walks_90 ?_
    obtain ⟨r_10, S_9, hc_8, h⟩ := bd2_of h
    refine V_callV0 hE hG (As := [.int p1, .int 0, .int p2, .int 1]) (rest := [.int (tI S_4 28 (Int32.toNatClampNeg x3_1)), .int x3_1, rf E ((o + 28))]) (ok_tw_boundLaw hE hM hc_8) hM.1 (by decide) rfl hw7_434 hd_tw_boundLaw ⟨Nat.le_of_ble_eq_true rfl, Nat.le_of_ble_eq_true rfl⟩ rfl rfl (Nat.le_of_ble_eq_true rfl) rfl rfl dX7_walks_91 ?_
    refine V_iadd hG dX7_walks_94 ?_
    obtain ⟨g_11, h⟩ := gd_of h
    obtain ⟨S_12, eS_12, h⟩ := be_of h
    refine T_iastore hM hG eS_12 (by decide) g_11 dX7_walks_95 ?_
    cases h
    subst eQ
    exact V_vret hG dX7_walks_96
  refine V_if_le hG 79 dX7_walks_17 (by decide) (fun c_13 => ?_) (fun c_13 => ?_)
  · have hj_6 := if_t c_13 hj_6
    cases hj_6
    exact J_5
  · have hj_6 := if_f c_13 hj_6
    refine V_iload hG 0 rfl dX7_walks_20 ?_
    refine V_aload_n hG 2 rfl dX7_walks_22 ?_
    refine V_iload_n hG 4 rfl dX7_walks_23 ?_
    obtain ⟨r_15, hc_14, hj_6⟩ := bd_of hj_6
    refine V_callV0 hE hG (As := [.int p2]) (rest := [.int r_3]) (ok_tw_paceOf hE hM hc_14) hM.1 (by decide) rfl hw7_404 hd_tw_paceOf ⟨Nat.le_of_ble_eq_true rfl, Nat.le_of_ble_eq_true rfl⟩ rfl rfl (Nat.le_of_ble_eq_true rfl) rfl rfl dX7_walks_24 ?_
    obtain ⟨t_16, hj_18, hj_6⟩ := bd_of hj_6
    have J_17 : V E G (tw o S M0) 0 0 6 40 [(4, .int r_3), (3, .int x3_1), (0, rf E o), (1, .int p1), (2, .int p2)] [.int t_16] Q := by
      refine V_istore hG [(5, .int t_16), (4, .int r_3), (3, .int x3_1), (0, rf E o), (1, .int p1), (2, .int p2)] dX7_walks_40 (Nat.le_of_ble_eq_true rfl) rfl ?_
      refine V_aload_n hG 3 rfl dX7_walks_42 ?_
      refine g7_94 hM hG dX7_walks_43 ?_
      refine V_iload_n hG 2 rfl dX7_walks_46 ?_
      refine V_dup2 hG rfl rfl dX7_walks_47 ?_
      obtain ⟨g_19, hj_6⟩ := gd_of hj_6
      refine T_iaload hM hG (by decide) g_19 dX7_walks_48 ?_
      refine V_aload_n hG 3 rfl dX7_walks_49 ?_
      refine g7_30 hM hG dX7_walks_50 ?_
      refine V_aload_n hG 3 rfl dX7_walks_53 ?_
      refine g7_100 hM hG dX7_walks_54 ?_
      refine V_iload_n hG 2 rfl dX7_walks_57 ?_
      obtain ⟨g_20, hj_6⟩ := gd_of hj_6
      refine T_iaload hM hG (by decide) g_20 dX7_walks_58 ?_
      obtain ⟨g_21, hj_6⟩ := gd_of hj_6
      refine T_iaload hM hG (by decide) g_21 dX7_walks_59 ?_
      refine V_aload_n hG 3 rfl dX7_walks_60 ?_
      refine g7_94 hM hG dX7_walks_61 ?_
      refine V_iload_n hG 2 rfl dX7_walks_64 ?_
      obtain ⟨g_22, hj_6⟩ := gd_of hj_6
      refine T_iaload hM hG (by decide) g_22 dX7_walks_65 ?_
      obtain ⟨t_23, et_23, hj_6⟩ := be_of hj_6
      have J_24 : ∀ y_26 : Int32, y_26 = t_23 → V E G (tw o S M0) 0 0 6 77 [(5, .int t_16), (4, .int r_3), (3, .int x3_1), (0, rf E o), (1, .int p1), (2, .int p2)] [.int y_26, .int (tI S 27 (Int32.toNatClampNeg x3_1)), .int x3_1, rf E ((o + 27))] Q := by
        intro y_26 ey
        subst ey
        refine V_iadd hG dX7_walks_77 ?_
        obtain ⟨g_27, hj_6⟩ := gd_of hj_6
        obtain ⟨S_28, eS_28, hj_6⟩ := be_of hj_6
        refine T_iastore hM hG eS_28 (by decide) g_27 dX7_walks_78 ?_
        cases hj_6
        exact V_lv [1, 2, 3, 4, 5] rfl (J_5)
      refine V_icmp_le hG 74 dX7_walks_66 (by decide) (fun c_25 => ?_) (fun c_25 => ?_)
      · refine V_iload hG 0 rfl dX7_walks_74 ?_
        refine V_ineg hG dX7_walks_76 ?_
        exact J_24 _ (by rw [et_23, if_pos c_25])
      · refine V_iload hG 0 rfl dX7_walks_69 ?_
        refine V_goto hG 77 dX7_walks_71 (by decide) ?_
        exact J_24 _ (by rw [et_23, if_neg c_25])
    refine V_icmp_ge hG 35 dX7_walks_27 (by decide) (fun c_29 => ?_) (fun c_29 => ?_)
    · have hj_18 := if_t c_29 hj_18
      refine V_aload_n hG 2 rfl dX7_walks_35 ?_
      refine V_iload_n hG 4 rfl dX7_walks_36 ?_
      obtain ⟨r_31, hc_30, hj_18⟩ := bd_of hj_18
      refine V_callV0 hE hG (As := [.int p2]) (rest := []) (ok_tw_paceOf hE hM hc_30) hM.1 (by decide) rfl hw7_404 hd_tw_paceOf ⟨Nat.le_of_ble_eq_true rfl, Nat.le_of_ble_eq_true rfl⟩ rfl rfl (Nat.le_of_ble_eq_true rfl) rfl rfl dX7_walks_37 ?_
      cases hj_18
      exact J_17
    · have hj_18 := if_f c_29 hj_18
      refine V_iload hG 0 rfl dX7_walks_30 ?_
      refine V_goto hG 40 dX7_walks_32 (by decide) ?_
      cases hj_18
      exact J_17

def tw_hourGoes_b6 (N : Nat) (p1 : Int32) (x2_62 : Int32) (S_63 : TS) : Option ((Int32 × TS) ⊕ (Int32 × TS)) :=
if tI S_63 0 12 ≤ x2_62 then (
some (.inl (x2_62, S_63)))
else (
gd (inb p1 (lenA 37)) (
if (tI S_63 37 (Int32.toNatClampNeg p1)) - (tI S_63 37 (Int32.toNatClampNeg p1)) / 10 * 10 = 9 then (
bd2 (tw_isRain S_63) fun r_77 S_76 =>
bd (if r_77 = 0 then (
some S_76)
else (
gd (inb ((6 * p1) + x2_62) (lenA 33)) (
gd (inb x2_62 (lenA 8)) (
be ((tI S_76 33 (Int32.toNatClampNeg ((6 * p1) + x2_62))) + (tI S_76 8 (Int32.toNatClampNeg x2_62))) fun (x3_85 : Int32) =>
be (if x3_85 ≤ 99 then (
x3_85)
else (
99) : Int32) fun (y_89 : Int32) =>
gd (inb ((6 * p1) + x2_62) (lenA 33)) (
be (tsI S_76 33 (Int32.toNatClampNeg ((6 * p1) + x2_62)) y_89) fun S_91 =>
some S_91)))) : Option (TS)) fun (S_78 : TS) =>
be (x2_62 + 1) fun (x2_81 : Int32) =>
some (.inr (x2_81, S_78)))
else (
some (.inl (x2_62, S_63)))))
def tw_hourGoes_b5 (N : Nat) (p1 : Int32) (x2_51 : Int32) (S_52 : TS) : Option ((Int32 × TS) ⊕ (Int32 × TS)) :=
if tI S_52 0 13 ≤ x2_51 then (
some (.inl (x2_51, S_52)))
else (
gd (inb ((6 * p1) + x2_51) (lenA 31)) (
bd (if tI S_52 31 (Int32.toNatClampNeg ((6 * p1) + x2_51)) = 0 then (
some 0)
else (
gd (inb ((6 * p1) + x2_51) (lenA 28)) (
if 100 ≤ tI S_52 28 (Int32.toNatClampNeg ((6 * p1) + x2_51)) then (
some 0)
else (
gd (inb ((6 * p1) + x2_51) (lenA 30)) (
if 100 ≤ tI S_52 30 (Int32.toNatClampNeg ((6 * p1) + x2_51)) then (
some 0)
else (
some 1))))) : Option (Int32)) fun (t_95 : Int32) =>
gd (inb ((6 * p1) + x2_51) (lenA 31)) (
gd (t_95 = 0 ∨ t_95 = 1) (
be (tsI S_52 31 (Int32.toNatClampNeg ((6 * p1) + x2_51)) t_95) fun S_100 =>
be (x2_51 + 1) fun (x2_101 : Int32) =>
some (.inr (x2_101, S_100))))))
def tw_hourGoes_b7 (N : Nat) (x2_40 : Int32) (p1 : Int32) (x3_115 : Int32) (S_116 : TS) : Option ((Int32 × TS) ⊕ (Int32 × TS)) :=
if tI S_116 0 13 ≤ x3_115 then (
some (.inl (x3_115, S_116)))
else (
bd (tw_meets N p1 x2_40 x3_115 S_116) fun S_125 =>
be (x3_115 + 1) fun (x3_126 : Int32) =>
some (.inr (x3_126, S_125)))
def tw_hourGoes_b4 (N : Nat) (p1 : Int32) (x2_40 : Int32) (S_41 : TS) : Option ((Int32 × TS) ⊕ (Int32 × TS)) :=
if tI S_41 0 13 ≤ x2_40 then (
some (.inl (x2_40, S_41)))
else (
be (x2_40 + 1) fun (x3_109 : Int32) =>
bd2 (lp N (fun s_122 : Int32 × TS => tw_hourGoes_b7 N x2_40 p1 s_122.1 s_122.2) (x3_109, S_41)) fun (x3_117 : Int32) (S_118 : TS) =>
be (x2_40 + 1) fun (x2_121 : Int32) =>
some (.inr (x2_121, S_118)))
def tw_hourGoes_b3 (N : Nat) (p1 : Int32) (x2_29 : Int32) (S_30 : TS) : Option ((Int32 × TS) ⊕ (Int32 × TS)) :=
if tI S_30 0 13 ≤ x2_29 then (
some (.inl (x2_29, S_30)))
else (
bd (tw_drinks N p1 x2_29 S_30) fun S_130 =>
be (x2_29 + 1) fun (x2_131 : Int32) =>
some (.inr (x2_131, S_130)))
def tw_hourGoes_b2 (N : Nat) (p1 : Int32) (x2_18 : Int32) (S_19 : TS) : Option ((Int32 × TS) ⊕ (Int32 × TS)) :=
if tI S_19 0 13 ≤ x2_18 then (
some (.inl (x2_18, S_19)))
else (
gd (inb ((6 * p1) + x2_18) (lenA 31)) (
bd (if tI S_19 31 (Int32.toNatClampNeg ((6 * p1) + x2_18)) = 0 then (
some S_19)
else (
bd (tw_walks N p1 x2_18 S_19) fun S_141 =>
some S_141) : Option (TS)) fun (S_135 : TS) =>
be (x2_18 + 1) fun (x2_138 : Int32) =>
some (.inr (x2_138, S_135))))
def tw_hourGoes_b1 (N : Nat) (p1 : Int32) (x2_7 : Int32) (S_8 : TS) : Option ((Int32 × TS) ⊕ (Int32 × TS)) :=
if tI S_8 0 14 ≤ x2_7 then (
some (.inl (x2_7, S_8)))
else (
gd (inb x2_7 (lenA 16)) (
gd (inb p1 (lenA 37)) (
bd (if tI S_8 16 (Int32.toNatClampNeg x2_7) = tI S_8 37 (Int32.toNatClampNeg p1) then (
gd (inb x2_7 (lenA 14)) (
gd (inb x2_7 (lenA 15)) (
gd (inb ((6 * p1) + (tI S_8 14 (Int32.toNatClampNeg x2_7))) (lenA 29)) (
be (tsI S_8 29 (Int32.toNatClampNeg ((6 * p1) + (tI S_8 14 (Int32.toNatClampNeg x2_7)))) (tI S_8 15 (Int32.toNatClampNeg x2_7))) fun S_154 =>
some S_154))))
else (
some S_8) : Option (TS)) fun (S_146 : TS) =>
be (x2_7 + 1) fun (x2_149 : Int32) =>
some (.inr (x2_149, S_146)))))
def tw_hourGoes (N : Nat) (p1 : Int32) (S : TS) : Option (TS) :=
be (tsI S 0 68 (-1)) fun S_1 =>
bd2 (lp N (fun s_142 : Int32 × TS => tw_hourGoes_b1 N p1 s_142.1 s_142.2) (0, S_1)) fun (x2_9 : Int32) (S_10 : TS) =>
bd2 (lp N (fun s_132 : Int32 × TS => tw_hourGoes_b2 N p1 s_132.1 s_132.2) (0, S_10)) fun (x2_20 : Int32) (S_21 : TS) =>
bd2 (lp N (fun s_127 : Int32 × TS => tw_hourGoes_b3 N p1 s_127.1 s_127.2) (0, S_21)) fun (x2_31 : Int32) (S_32 : TS) =>
bd2 (lp N (fun s_107 : Int32 × TS => tw_hourGoes_b4 N p1 s_107.1 s_107.2) (0, S_32)) fun (x2_42 : Int32) (S_43 : TS) =>
bd2 (lp N (fun s_92 : Int32 × TS => tw_hourGoes_b5 N p1 s_92.1 s_92.2) (0, S_43)) fun (x2_53 : Int32) (S_54 : TS) =>
bd2 (lp N (fun s_71 : Int32 × TS => tw_hourGoes_b6 N p1 s_71.1 s_71.2) (0, S_54)) fun (x2_64 : Int32) (S_65 : TS) =>
gd (inb p1 (lenA 37)) (
gd (inb p1 (lenA 37)) (
be (tsI S_65 37 (Int32.toNatClampNeg p1) ((tI S_65 37 (Int32.toNatClampNeg p1)) + 1)) fun S_70 =>
some S_70))
def rm_tw_hourGoes : Room := { frames := 5, cells := 0, slots := 0, locals := 124 }
theorem ok_tw_hourGoes {E : En} (hE : EOk E) {o : Nat} {M0 : Mem} (hM : TwS o M0) {N : Nat} {p1 : Int32} {S : TS}  {S' : TS} (h : tw_hourGoes N p1 S = some S') : CM E yX7_hourGoes cX7_hourGoes 4 none rm_tw_hourGoes [rf E o, .int p1] (tw o S M0) none (tw o S' M0) := by
  unfold tw_hourGoes at h
  refine CM_intro (own := RX7) rfl (by decide) (Nat.le_of_ble_eq_true rfl) rfl (fun G hG => ?_)
  obtain ⟨Q, eQ⟩ : ∃ Q, Q = QM E G none (tw o S' M0) 0 0 := ⟨_, rfl⟩
  show V E G (tw o S M0) 0 0 4 0 [(0, rf E o), (1, .int p1)] [] (QM E G none (tw o S' M0) 0 0)
  rw [← eQ]
  refine V_aload_n hG 0 rfl dX7_hourGoes_0 ?_
  refine V_iconst hG (-1) rfl dX7_hourGoes_1 ?_
  obtain ⟨S_1, eS_1, h⟩ := be_of h
  refine p7_438 hM hG eS_1 dX7_hourGoes_2 ?_
  refine V_iconst hG 0 rfl dX7_hourGoes_5 ?_
  refine V_istore_n hG rfl [(2, .int 0), (0, rf E o), (1, .int p1)] dX7_hourGoes_6 (Nat.le_of_ble_eq_true rfl) rfl ?_
  obtain ⟨x2_9, S_10, hL_11, h⟩ := bd2_of h
  have J_6 : ∀ q_12 : Int32 × TS, q_12 = (x2_9, S_10) → V E G (tw o q_12.2 M0) 0 0 4 58 [(2, .int q_12.1), (0, rf E o), (1, .int p1)] [] Q := by
    intro q_12 e9
    subst q_12
    show V E G (tw o S_10 M0) 0 0 4 58 [(2, .int x2_9), (0, rf E o), (1, .int p1)] [] Q
    refine V_iconst hG 0 rfl dX7_hourGoes_58 ?_
    refine V_istore_n hG rfl [(2, .int 0), (0, rf E o), (1, .int p1)] dX7_hourGoes_59 (Nat.le_of_ble_eq_true rfl) rfl ?_
    obtain ⟨x2_20, S_21, hL_22, h⟩ := bd2_of h
    have J_17 : ∀ q_23 : Int32 × TS, q_23 = (x2_20, S_21) → V E G (tw o q_23.2 M0) 0 0 4 94 [(2, .int q_23.1), (0, rf E o), (1, .int p1)] [] Q := by
      intro q_23 e9
      subst q_23
      show V E G (tw o S_21 M0) 0 0 4 94 [(2, .int x2_20), (0, rf E o), (1, .int p1)] [] Q
      refine V_iconst hG 0 rfl dX7_hourGoes_94 ?_
      refine V_istore_n hG rfl [(2, .int 0), (0, rf E o), (1, .int p1)] dX7_hourGoes_95 (Nat.le_of_ble_eq_true rfl) rfl ?_
      obtain ⟨x2_31, S_32, hL_33, h⟩ := bd2_of h
      have J_28 : ∀ q_34 : Int32 × TS, q_34 = (x2_31, S_32) → V E G (tw o q_34.2 M0) 0 0 4 116 [(2, .int q_34.1), (0, rf E o), (1, .int p1)] [] Q := by
        intro q_34 e9
        subst q_34
        show V E G (tw o S_32 M0) 0 0 4 116 [(2, .int x2_31), (0, rf E o), (1, .int p1)] [] Q
        refine V_iconst hG 0 rfl dX7_hourGoes_116 ?_
        refine V_istore_n hG rfl [(2, .int 0), (0, rf E o), (1, .int p1)] dX7_hourGoes_117 (Nat.le_of_ble_eq_true rfl) rfl ?_
        obtain ⟨x2_42, S_43, hL_44, h⟩ := bd2_of h
        have J_39 : ∀ q_45 : Int32 × TS, q_45 = (x2_42, S_43) → V E G (tw o q_45.2 M0) 0 0 4 157 [(2, .int q_45.1), (0, rf E o), (1, .int p1)] [] Q := by
          intro q_45 e9
          subst q_45
          show V E G (tw o S_43 M0) 0 0 4 157 [(2, .int x2_42), (0, rf E o), (1, .int p1)] [] Q
          refine V_iconst hG 0 rfl dX7_hourGoes_157 ?_
          refine V_istore_n hG rfl [(2, .int 0), (0, rf E o), (1, .int p1)] dX7_hourGoes_158 (Nat.le_of_ble_eq_true rfl) rfl ?_
          obtain ⟨x2_53, S_54, hL_55, h⟩ := bd2_of h
          have J_50 : ∀ q_56 : Int32 × TS, q_56 = (x2_53, S_54) → V E G (tw o q_56.2 M0) 0 0 4 235 [(2, .int q_56.1), (0, rf E o), (1, .int p1)] [] Q := by
            intro q_56 e9
            subst q_56
            show V E G (tw o S_54 M0) 0 0 4 235 [(2, .int x2_53), (0, rf E o), (1, .int p1)] [] Q
            refine V_iconst hG 0 rfl dX7_hourGoes_235 ?_
            refine V_istore_n hG rfl [(2, .int 0), (0, rf E o), (1, .int p1)] dX7_hourGoes_236 (Nat.le_of_ble_eq_true rfl) rfl ?_
            obtain ⟨x2_64, S_65, hL_66, h⟩ := bd2_of h
            have J_61 : ∀ q_67 : Int32 × TS, q_67 = (x2_64, S_65) → V E G (tw o q_67.2 M0) 0 0 4 317 [(2, .int q_67.1), (0, rf E o), (1, .int p1)] [] Q := by
              intro q_67 e9
              subst q_67
              show V E G (tw o S_65 M0) 0 0 4 317 [(2, .int x2_64), (0, rf E o), (1, .int p1)] [] Q
              refine V_aload_n hG 1 rfl dX7_hourGoes_317 ?_
              refine g7_124 hM hG dX7_hourGoes_318 ?_
              refine V_iload_n hG 2 rfl dX7_hourGoes_321 ?_
              refine V_dup2 hG rfl rfl dX7_hourGoes_322 ?_
              obtain ⟨g_68, h⟩ := gd_of h
              refine T_iaload hM hG (by decide) g_68 dX7_hourGoes_323 ?_
              refine V_iconst hG 1 rfl dX7_hourGoes_324 ?_
              refine V_iadd hG dX7_hourGoes_325 ?_
              obtain ⟨g_69, h⟩ := gd_of h
              obtain ⟨S_70, eS_70, h⟩ := be_of h
              refine T_iastore hM hG eS_70 (by decide) g_69 dX7_hourGoes_326 ?_
              cases h
              subst eQ
              exact V_vret hG dX7_hourGoes_327
            refine lp_walk (W := fun s_71 : Int32 × TS => V E G (tw o s_71.2 M0) 0 0 4 237 [(2, .int s_71.1), (0, rf E o), (1, .int p1)] [] Q) ?_ N (0, S_54) hL_66
            intro s_71 b_57 hb_58 hk_59 hx_60
            obtain ⟨x2_62, S_63⟩ := s_71
            have hb_58 : tw_hourGoes_b6 N p1 x2_62 S_63 = some b_57 := hb_58
            unfold tw_hourGoes_b6 at hb_58
            show V E G (tw o S_63 M0) 0 0 4 237 [(2, .int x2_62), (0, rf E o), (1, .int p1)] [] Q
            refine V_iload_n hG 0 rfl dX7_hourGoes_237 ?_
            refine V_aload_n hG 1 rfl dX7_hourGoes_238 ?_
            refine g7_243 hM hG dX7_hourGoes_239 ?_
            refine V_icmp_ge hG 317 dX7_hourGoes_242 (by decide) (fun c_72 => ?_) (fun c_72 => ?_)
            · have hb_58 := if_t c_72 hb_58
              cases hb_58
              exact J_61 _ (hx_60 _ rfl)
            · have hb_58 := if_f c_72 hb_58
              refine V_aload_n hG 1 rfl dX7_hourGoes_245 ?_
              refine g7_124 hM hG dX7_hourGoes_246 ?_
              refine V_iload_n hG 2 rfl dX7_hourGoes_249 ?_
              obtain ⟨g_73, hb_58⟩ := gd_of hb_58
              refine T_iaload hM hG (by decide) g_73 dX7_hourGoes_250 ?_
              refine V_bipush hG 10 (by decide) dX7_hourGoes_251 ?_
              refine V_irem hG (by decide) dX7_hourGoes_253 ?_
              refine V_bipush hG 9 (by decide) dX7_hourGoes_254 ?_
              refine V_icmp_ne hG 317 dX7_hourGoes_256 (by decide) (fun c_74 => ?_) (fun c_74 => ?_)
              · have hb_58 := if_f c_74 hb_58
                cases hb_58
                exact J_61 _ (hx_60 _ rfl)
              · have hb_58 := if_t c_74 hb_58
                refine V_aload_n hG 1 rfl dX7_hourGoes_259 ?_
                obtain ⟨r_77, S_76, hc_75, hb_58⟩ := bd2_of hb_58
                refine V_callV0 hE hG (As := []) (rest := []) (ok_tw_isRain hE hM hc_75) hM.1 (by decide) rfl hw7_453 hd_tw_isRain ⟨Nat.le_of_ble_eq_true rfl, Nat.le_of_ble_eq_true rfl⟩ rfl rfl (Nat.le_of_ble_eq_true rfl) rfl rfl dX7_hourGoes_260 ?_
                obtain ⟨S_78, hj_80, hb_58⟩ := bd_of hb_58
                have J_79 : V E G (tw o S_78 M0) 0 0 4 311 [(2, .int x2_62), (0, rf E o), (1, .int p1)] [] Q := by
                  obtain ⟨x2_81, ex2_81, hb_58⟩ := be_of hb_58
                  refine V_iinc hG 0 x2_81 rfl (by rw [ex2_81]; rfl) [(2, .int x2_81), (0, rf E o), (1, .int p1)] dX7_hourGoes_311 (Nat.le_of_ble_eq_true rfl) rfl ?_
                  refine V_goto hG 237 dX7_hourGoes_314 (by decide) ?_
                  cases hb_58
                  exact hk_59 _ rfl
                refine V_if_ne hG 269 dX7_hourGoes_263 (by decide) (fun c_82 => ?_) (fun c_82 => ?_)
                · have hj_80 := if_f c_82 hj_80
                  refine V_aload_n hG 1 rfl dX7_hourGoes_269 ?_
                  refine g7_112 hM hG dX7_hourGoes_270 ?_
                  refine V_bipush hG 6 (by decide) dX7_hourGoes_273 ?_
                  refine V_iload_n hG 2 rfl dX7_hourGoes_275 ?_
                  refine V_imul hG dX7_hourGoes_276 ?_
                  refine V_iload_n hG 0 rfl dX7_hourGoes_277 ?_
                  refine V_iadd hG dX7_hourGoes_278 ?_
                  obtain ⟨g_83, hj_80⟩ := gd_of hj_80
                  refine T_iaload hM hG (by decide) g_83 dX7_hourGoes_279 ?_
                  refine V_aload_n hG 1 rfl dX7_hourGoes_280 ?_
                  refine g7_36 hM hG dX7_hourGoes_281 ?_
                  refine V_iload_n hG 0 rfl dX7_hourGoes_284 ?_
                  obtain ⟨g_84, hj_80⟩ := gd_of hj_80
                  refine T_iaload hM hG (by decide) g_84 dX7_hourGoes_285 ?_
                  refine V_iadd hG dX7_hourGoes_286 ?_
                  obtain ⟨x3_85, ex3_85, hj_80⟩ := be_of hj_80
                  refine V_topi ex3_85 ?_
                  refine V_istore_n hG rfl [(3, .int x3_85), (2, .int x2_62), (0, rf E o), (1, .int p1)] dX7_hourGoes_287 (Nat.le_of_ble_eq_true rfl) rfl ?_
                  refine V_aload_n hG 2 rfl dX7_hourGoes_288 ?_
                  refine g7_112 hM hG dX7_hourGoes_289 ?_
                  refine V_bipush hG 6 (by decide) dX7_hourGoes_292 ?_
                  refine V_iload_n hG 3 rfl dX7_hourGoes_294 ?_
                  refine V_imul hG dX7_hourGoes_295 ?_
                  refine V_iload_n hG 1 rfl dX7_hourGoes_296 ?_
                  refine V_iadd hG dX7_hourGoes_297 ?_
                  refine V_iload_n hG 0 rfl dX7_hourGoes_298 ?_
                  refine V_bipush hG 99 (by decide) dX7_hourGoes_299 ?_
                  obtain ⟨t_86, et_86, hj_80⟩ := be_of hj_80
                  have J_87 : ∀ y_89 : Int32, y_89 = t_86 → V E G (tw o S_76 M0) 0 0 4 310 [(3, .int x3_85), (2, .int x2_62), (0, rf E o), (1, .int p1)] [.int y_89, .int ((6 * p1) + x2_62), rf E ((o + 33))] Q := by
                    intro y_89 ey
                    subst ey
                    obtain ⟨g_90, hj_80⟩ := gd_of hj_80
                    obtain ⟨S_91, eS_91, hj_80⟩ := be_of hj_80
                    refine T_iastore hM hG eS_91 (by decide) g_90 dX7_hourGoes_310 ?_
                    cases hj_80
                    exact V_lv [1, 2, 3] rfl (J_79)
                  refine V_icmp_le hG 309 dX7_hourGoes_301 (by decide) (fun c_88 => ?_) (fun c_88 => ?_)
                  · refine V_iload_n hG 0 rfl dX7_hourGoes_309 ?_
                    exact J_87 _ (by rw [et_86, if_pos c_88])
                  · refine V_bipush hG 99 (by decide) dX7_hourGoes_304 ?_
                    refine V_goto hG 310 dX7_hourGoes_306 (by decide) ?_
                    exact J_87 _ (by rw [et_86, if_neg c_88])
                · have hj_80 := if_t c_82 hj_80
                  refine V_goto hG 311 dX7_hourGoes_266 (by decide) ?_
                  cases hj_80
                  exact J_79
          refine lp_walk (W := fun s_92 : Int32 × TS => V E G (tw o s_92.2 M0) 0 0 4 159 [(2, .int s_92.1), (0, rf E o), (1, .int p1)] [] Q) ?_ N (0, S_43) hL_55
          intro s_92 b_46 hb_47 hk_48 hx_49
          obtain ⟨x2_51, S_52⟩ := s_92
          have hb_47 : tw_hourGoes_b5 N p1 x2_51 S_52 = some b_46 := hb_47
          unfold tw_hourGoes_b5 at hb_47
          show V E G (tw o S_52 M0) 0 0 4 159 [(2, .int x2_51), (0, rf E o), (1, .int p1)] [] Q
          refine V_iload_n hG 0 rfl dX7_hourGoes_159 ?_
          refine V_aload_n hG 1 rfl dX7_hourGoes_160 ?_
          refine g7_246 hM hG dX7_hourGoes_161 ?_
          refine V_icmp_ge hG 235 dX7_hourGoes_164 (by decide) (fun c_93 => ?_) (fun c_93 => ?_)
          · have hb_47 := if_t c_93 hb_47
            cases hb_47
            exact J_50 _ (hx_49 _ rfl)
          · have hb_47 := if_f c_93 hb_47
            refine V_aload_n hG 1 rfl dX7_hourGoes_167 ?_
            refine g7_106 hM hG dX7_hourGoes_168 ?_
            refine V_bipush hG 6 (by decide) dX7_hourGoes_171 ?_
            refine V_iload_n hG 2 rfl dX7_hourGoes_173 ?_
            refine V_imul hG dX7_hourGoes_174 ?_
            refine V_iload_n hG 0 rfl dX7_hourGoes_175 ?_
            refine V_iadd hG dX7_hourGoes_176 ?_
            refine V_aload_n hG 1 rfl dX7_hourGoes_177 ?_
            refine g7_106 hM hG dX7_hourGoes_178 ?_
            refine V_bipush hG 6 (by decide) dX7_hourGoes_181 ?_
            refine V_iload_n hG 2 rfl dX7_hourGoes_183 ?_
            refine V_imul hG dX7_hourGoes_184 ?_
            refine V_iload_n hG 0 rfl dX7_hourGoes_185 ?_
            refine V_iadd hG dX7_hourGoes_186 ?_
            obtain ⟨g_94, hb_47⟩ := gd_of hb_47
            refine T_zaload hM hG (by decide) g_94 dX7_hourGoes_187 ?_
            obtain ⟨t_95, hj_97, hb_47⟩ := bd_of hb_47
            have J_96 : V E G (tw o S_52 M0) 0 0 4 228 [(2, .int x2_51), (0, rf E o), (1, .int p1)] [.int t_95, .int ((6 * p1) + x2_51), rf E ((o + 31))] Q := by
              obtain ⟨g_98, hb_47⟩ := gd_of hb_47
              obtain ⟨g_99, hb_47⟩ := gd_of hb_47
              obtain ⟨S_100, eS_100, hb_47⟩ := be_of hb_47
              refine T_zastore hM hG eS_100 g_99 (by decide) g_98 dX7_hourGoes_228 ?_
              obtain ⟨x2_101, ex2_101, hb_47⟩ := be_of hb_47
              refine V_iinc hG 0 x2_101 rfl (by rw [ex2_101]; rfl) [(2, .int x2_101), (0, rf E o), (1, .int p1)] dX7_hourGoes_229 (Nat.le_of_ble_eq_true rfl) rfl ?_
              refine V_goto hG 159 dX7_hourGoes_232 (by decide) ?_
              cases hb_47
              exact hk_48 _ rfl
            refine V_if_eq hG 227 dX7_hourGoes_188 (by decide) (fun c_102 => ?_) (fun c_102 => ?_)
            · have hj_97 := if_t c_102 hj_97
              refine V_iconst hG 0 rfl dX7_hourGoes_227 ?_
              cases hj_97
              exact J_96
            · have hj_97 := if_f c_102 hj_97
              refine V_aload_n hG 1 rfl dX7_hourGoes_191 ?_
              refine g7_97 hM hG dX7_hourGoes_192 ?_
              refine V_bipush hG 6 (by decide) dX7_hourGoes_195 ?_
              refine V_iload_n hG 2 rfl dX7_hourGoes_197 ?_
              refine V_imul hG dX7_hourGoes_198 ?_
              refine V_iload_n hG 0 rfl dX7_hourGoes_199 ?_
              refine V_iadd hG dX7_hourGoes_200 ?_
              obtain ⟨g_103, hj_97⟩ := gd_of hj_97
              refine T_iaload hM hG (by decide) g_103 dX7_hourGoes_201 ?_
              refine V_bipush hG 100 (by decide) dX7_hourGoes_202 ?_
              refine V_icmp_ge hG 227 dX7_hourGoes_204 (by decide) (fun c_104 => ?_) (fun c_104 => ?_)
              · have hj_97 := if_t c_104 hj_97
                refine V_iconst hG 0 rfl dX7_hourGoes_227 ?_
                cases hj_97
                exact J_96
              · have hj_97 := if_f c_104 hj_97
                refine V_aload_n hG 1 rfl dX7_hourGoes_207 ?_
                refine g7_103 hM hG dX7_hourGoes_208 ?_
                refine V_bipush hG 6 (by decide) dX7_hourGoes_211 ?_
                refine V_iload_n hG 2 rfl dX7_hourGoes_213 ?_
                refine V_imul hG dX7_hourGoes_214 ?_
                refine V_iload_n hG 0 rfl dX7_hourGoes_215 ?_
                refine V_iadd hG dX7_hourGoes_216 ?_
                obtain ⟨g_105, hj_97⟩ := gd_of hj_97
                refine T_iaload hM hG (by decide) g_105 dX7_hourGoes_217 ?_
                refine V_bipush hG 100 (by decide) dX7_hourGoes_218 ?_
                refine V_icmp_ge hG 227 dX7_hourGoes_220 (by decide) (fun c_106 => ?_) (fun c_106 => ?_)
                · have hj_97 := if_t c_106 hj_97
                  refine V_iconst hG 0 rfl dX7_hourGoes_227 ?_
                  cases hj_97
                  exact J_96
                · have hj_97 := if_f c_106 hj_97
                  refine V_iconst hG 1 rfl dX7_hourGoes_223 ?_
                  refine V_goto hG 228 dX7_hourGoes_224 (by decide) ?_
                  cases hj_97
                  exact J_96
        refine lp_walk (W := fun s_107 : Int32 × TS => V E G (tw o s_107.2 M0) 0 0 4 118 [(2, .int s_107.1), (0, rf E o), (1, .int p1)] [] Q) ?_ N (0, S_32) hL_44
        intro s_107 b_35 hb_36 hk_37 hx_38
        obtain ⟨x2_40, S_41⟩ := s_107
        have hb_36 : tw_hourGoes_b4 N p1 x2_40 S_41 = some b_35 := hb_36
        unfold tw_hourGoes_b4 at hb_36
        show V E G (tw o S_41 M0) 0 0 4 118 [(2, .int x2_40), (0, rf E o), (1, .int p1)] [] Q
        refine V_iload_n hG 0 rfl dX7_hourGoes_118 ?_
        refine V_aload_n hG 1 rfl dX7_hourGoes_119 ?_
        refine g7_246 hM hG dX7_hourGoes_120 ?_
        refine V_icmp_ge hG 157 dX7_hourGoes_123 (by decide) (fun c_108 => ?_) (fun c_108 => ?_)
        · have hb_36 := if_t c_108 hb_36
          cases hb_36
          exact J_39 _ (hx_38 _ rfl)
        · have hb_36 := if_f c_108 hb_36
          refine V_iload_n hG 0 rfl dX7_hourGoes_126 ?_
          refine V_iconst hG 1 rfl dX7_hourGoes_127 ?_
          refine V_iadd hG dX7_hourGoes_128 ?_
          obtain ⟨x3_109, ex3_109, hb_36⟩ := be_of hb_36
          refine V_topi ex3_109 ?_
          refine V_istore_n hG rfl [(3, .int x3_109), (2, .int x2_40), (0, rf E o), (1, .int p1)] dX7_hourGoes_129 (Nat.le_of_ble_eq_true rfl) rfl ?_
          obtain ⟨x3_117, S_118, hL_119, hb_36⟩ := bd2_of hb_36
          have J_114 : ∀ q_120 : Int32 × TS, q_120 = (x3_117, S_118) → V E G (tw o q_120.2 M0) 0 0 4 151 [(3, .int q_120.1), (2, .int x2_40), (0, rf E o), (1, .int p1)] [] Q := by
            intro q_120 e9
            subst q_120
            show V E G (tw o S_118 M0) 0 0 4 151 [(3, .int x3_117), (2, .int x2_40), (0, rf E o), (1, .int p1)] [] Q
            obtain ⟨x2_121, ex2_121, hb_36⟩ := be_of hb_36
            refine V_iinc hG 1 x2_121 rfl (by rw [ex2_121]; rfl) [(2, .int x2_121), (3, .int x3_117), (0, rf E o), (1, .int p1)] dX7_hourGoes_151 (Nat.le_of_ble_eq_true rfl) rfl ?_
            refine V_goto hG 118 dX7_hourGoes_154 (by decide) ?_
            cases hb_36
            exact V_lv [0, 2, 3] rfl (hk_37 _ rfl)
          refine lp_walk (W := fun s_122 : Int32 × TS => V E G (tw o s_122.2 M0) 0 0 4 130 [(3, .int s_122.1), (2, .int x2_40), (0, rf E o), (1, .int p1)] [] Q) ?_ N (x3_109, S_41) hL_119
          intro s_122 b_110 hb_111 hk_112 hx_113
          obtain ⟨x3_115, S_116⟩ := s_122
          have hb_111 : tw_hourGoes_b7 N x2_40 p1 x3_115 S_116 = some b_110 := hb_111
          unfold tw_hourGoes_b7 at hb_111
          show V E G (tw o S_116 M0) 0 0 4 130 [(3, .int x3_115), (2, .int x2_40), (0, rf E o), (1, .int p1)] [] Q
          refine V_iload_n hG 0 rfl dX7_hourGoes_130 ?_
          refine V_aload_n hG 2 rfl dX7_hourGoes_131 ?_
          refine g7_246 hM hG dX7_hourGoes_132 ?_
          refine V_icmp_ge hG 151 dX7_hourGoes_135 (by decide) (fun c_123 => ?_) (fun c_123 => ?_)
          · have hb_111 := if_t c_123 hb_111
            cases hb_111
            exact J_114 _ (hx_113 _ rfl)
          · have hb_111 := if_f c_123 hb_111
            refine V_aload_n hG 2 rfl dX7_hourGoes_138 ?_
            refine V_iload_n hG 3 rfl dX7_hourGoes_139 ?_
            refine V_iload_n hG 1 rfl dX7_hourGoes_140 ?_
            refine V_iload_n hG 0 rfl dX7_hourGoes_141 ?_
            obtain ⟨S_125, hc_124, hb_111⟩ := bd_of hb_111
            refine V_callV0 hE hG (As := [.int p1, .int x2_40, .int x3_115]) (rest := []) (ok_tw_meets hE hM hc_124) hM.1 (by decide) rfl hw7_450 hd_tw_meets ⟨Nat.le_of_ble_eq_true rfl, Nat.le_of_ble_eq_true rfl⟩ rfl rfl (Nat.le_of_ble_eq_true rfl) rfl rfl dX7_hourGoes_142 ?_
            obtain ⟨x3_126, ex3_126, hb_111⟩ := be_of hb_111
            refine V_iinc hG 0 x3_126 rfl (by rw [ex3_126]; rfl) [(3, .int x3_126), (2, .int x2_40), (0, rf E o), (1, .int p1)] dX7_hourGoes_145 (Nat.le_of_ble_eq_true rfl) rfl ?_
            refine V_goto hG 130 dX7_hourGoes_148 (by decide) ?_
            cases hb_111
            exact hk_112 _ rfl
      refine lp_walk (W := fun s_127 : Int32 × TS => V E G (tw o s_127.2 M0) 0 0 4 96 [(2, .int s_127.1), (0, rf E o), (1, .int p1)] [] Q) ?_ N (0, S_21) hL_33
      intro s_127 b_24 hb_25 hk_26 hx_27
      obtain ⟨x2_29, S_30⟩ := s_127
      have hb_25 : tw_hourGoes_b3 N p1 x2_29 S_30 = some b_24 := hb_25
      unfold tw_hourGoes_b3 at hb_25
      show V E G (tw o S_30 M0) 0 0 4 96 [(2, .int x2_29), (0, rf E o), (1, .int p1)] [] Q
      refine V_iload_n hG 0 rfl dX7_hourGoes_96 ?_
      refine V_aload_n hG 1 rfl dX7_hourGoes_97 ?_
      refine g7_246 hM hG dX7_hourGoes_98 ?_
      refine V_icmp_ge hG 116 dX7_hourGoes_101 (by decide) (fun c_128 => ?_) (fun c_128 => ?_)
      · have hb_25 := if_t c_128 hb_25
        cases hb_25
        exact J_28 _ (hx_27 _ rfl)
      · have hb_25 := if_f c_128 hb_25
        refine V_aload_n hG 1 rfl dX7_hourGoes_104 ?_
        refine V_iload_n hG 2 rfl dX7_hourGoes_105 ?_
        refine V_iload_n hG 0 rfl dX7_hourGoes_106 ?_
        obtain ⟨S_130, hc_129, hb_25⟩ := bd_of hb_25
        refine V_callV0 hE hG (As := [.int p1, .int x2_29]) (rest := []) (ok_tw_drinks hE hM hc_129) hM.1 (by decide) rfl hw7_447 hd_tw_drinks ⟨Nat.le_of_ble_eq_true rfl, Nat.le_of_ble_eq_true rfl⟩ rfl rfl (Nat.le_of_ble_eq_true rfl) rfl rfl dX7_hourGoes_107 ?_
        obtain ⟨x2_131, ex2_131, hb_25⟩ := be_of hb_25
        refine V_iinc hG 0 x2_131 rfl (by rw [ex2_131]; rfl) [(2, .int x2_131), (0, rf E o), (1, .int p1)] dX7_hourGoes_110 (Nat.le_of_ble_eq_true rfl) rfl ?_
        refine V_goto hG 96 dX7_hourGoes_113 (by decide) ?_
        cases hb_25
        exact hk_26 _ rfl
    refine lp_walk (W := fun s_132 : Int32 × TS => V E G (tw o s_132.2 M0) 0 0 4 60 [(2, .int s_132.1), (0, rf E o), (1, .int p1)] [] Q) ?_ N (0, S_10) hL_22
    intro s_132 b_13 hb_14 hk_15 hx_16
    obtain ⟨x2_18, S_19⟩ := s_132
    have hb_14 : tw_hourGoes_b2 N p1 x2_18 S_19 = some b_13 := hb_14
    unfold tw_hourGoes_b2 at hb_14
    show V E G (tw o S_19 M0) 0 0 4 60 [(2, .int x2_18), (0, rf E o), (1, .int p1)] [] Q
    refine V_iload_n hG 0 rfl dX7_hourGoes_60 ?_
    refine V_aload_n hG 1 rfl dX7_hourGoes_61 ?_
    refine g7_246 hM hG dX7_hourGoes_62 ?_
    refine V_icmp_ge hG 94 dX7_hourGoes_65 (by decide) (fun c_133 => ?_) (fun c_133 => ?_)
    · have hb_14 := if_t c_133 hb_14
      cases hb_14
      exact J_17 _ (hx_16 _ rfl)
    · have hb_14 := if_f c_133 hb_14
      refine V_aload_n hG 1 rfl dX7_hourGoes_68 ?_
      refine g7_106 hM hG dX7_hourGoes_69 ?_
      refine V_bipush hG 6 (by decide) dX7_hourGoes_72 ?_
      refine V_iload_n hG 2 rfl dX7_hourGoes_74 ?_
      refine V_imul hG dX7_hourGoes_75 ?_
      refine V_iload_n hG 0 rfl dX7_hourGoes_76 ?_
      refine V_iadd hG dX7_hourGoes_77 ?_
      obtain ⟨g_134, hb_14⟩ := gd_of hb_14
      refine T_zaload hM hG (by decide) g_134 dX7_hourGoes_78 ?_
      obtain ⟨S_135, hj_137, hb_14⟩ := bd_of hb_14
      have J_136 : V E G (tw o S_135 M0) 0 0 4 88 [(2, .int x2_18), (0, rf E o), (1, .int p1)] [] Q := by
        obtain ⟨x2_138, ex2_138, hb_14⟩ := be_of hb_14
        refine V_iinc hG 0 x2_138 rfl (by rw [ex2_138]; rfl) [(2, .int x2_138), (0, rf E o), (1, .int p1)] dX7_hourGoes_88 (Nat.le_of_ble_eq_true rfl) rfl ?_
        refine V_goto hG 60 dX7_hourGoes_91 (by decide) ?_
        cases hb_14
        exact hk_15 _ rfl
      refine V_if_eq hG 88 dX7_hourGoes_79 (by decide) (fun c_139 => ?_) (fun c_139 => ?_)
      · have hj_137 := if_t c_139 hj_137
        cases hj_137
        exact J_136
      · have hj_137 := if_f c_139 hj_137
        refine V_aload_n hG 1 rfl dX7_hourGoes_82 ?_
        refine V_iload_n hG 2 rfl dX7_hourGoes_83 ?_
        refine V_iload_n hG 0 rfl dX7_hourGoes_84 ?_
        obtain ⟨S_141, hc_140, hj_137⟩ := bd_of hj_137
        refine V_callV0 hE hG (As := [.int p1, .int x2_18]) (rest := []) (ok_tw_walks hE hM hc_140) hM.1 (by decide) rfl hw7_444 hd_tw_walks ⟨Nat.le_of_ble_eq_true rfl, Nat.le_of_ble_eq_true rfl⟩ rfl rfl (Nat.le_of_ble_eq_true rfl) rfl rfl dX7_hourGoes_85 ?_
        cases hj_137
        exact J_136
  refine lp_walk (W := fun s_142 : Int32 × TS => V E G (tw o s_142.2 M0) 0 0 4 7 [(2, .int s_142.1), (0, rf E o), (1, .int p1)] [] Q) ?_ N (0, S_1) hL_11
  intro s_142 b_2 hb_3 hk_4 hx_5
  obtain ⟨x2_7, S_8⟩ := s_142
  have hb_3 : tw_hourGoes_b1 N p1 x2_7 S_8 = some b_2 := hb_3
  unfold tw_hourGoes_b1 at hb_3
  show V E G (tw o S_8 M0) 0 0 4 7 [(2, .int x2_7), (0, rf E o), (1, .int p1)] [] Q
  refine V_iload_n hG 0 rfl dX7_hourGoes_7 ?_
  refine V_aload_n hG 1 rfl dX7_hourGoes_8 ?_
  refine g7_249 hM hG dX7_hourGoes_9 ?_
  refine V_icmp_ge hG 58 dX7_hourGoes_12 (by decide) (fun c_143 => ?_) (fun c_143 => ?_)
  · have hb_3 := if_t c_143 hb_3
    cases hb_3
    exact J_6 _ (hx_5 _ rfl)
  · have hb_3 := if_f c_143 hb_3
    refine V_aload_n hG 1 rfl dX7_hourGoes_15 ?_
    refine g7_60 hM hG dX7_hourGoes_16 ?_
    refine V_iload_n hG 0 rfl dX7_hourGoes_19 ?_
    obtain ⟨g_144, hb_3⟩ := gd_of hb_3
    refine T_iaload hM hG (by decide) g_144 dX7_hourGoes_20 ?_
    refine V_aload_n hG 1 rfl dX7_hourGoes_21 ?_
    refine g7_124 hM hG dX7_hourGoes_22 ?_
    refine V_iload_n hG 2 rfl dX7_hourGoes_25 ?_
    obtain ⟨g_145, hb_3⟩ := gd_of hb_3
    refine T_iaload hM hG (by decide) g_145 dX7_hourGoes_26 ?_
    obtain ⟨S_146, hj_148, hb_3⟩ := bd_of hb_3
    have J_147 : V E G (tw o S_146 M0) 0 0 4 52 [(2, .int x2_7), (0, rf E o), (1, .int p1)] [] Q := by
      obtain ⟨x2_149, ex2_149, hb_3⟩ := be_of hb_3
      refine V_iinc hG 0 x2_149 rfl (by rw [ex2_149]; rfl) [(2, .int x2_149), (0, rf E o), (1, .int p1)] dX7_hourGoes_52 (Nat.le_of_ble_eq_true rfl) rfl ?_
      refine V_goto hG 7 dX7_hourGoes_55 (by decide) ?_
      cases hb_3
      exact hk_4 _ rfl
    refine V_icmp_ne hG 52 dX7_hourGoes_27 (by decide) (fun c_150 => ?_) (fun c_150 => ?_)
    · have hj_148 := if_f c_150 hj_148
      cases hj_148
      exact J_147
    · have hj_148 := if_t c_150 hj_148
      refine V_aload_n hG 1 rfl dX7_hourGoes_30 ?_
      refine g7_100 hM hG dX7_hourGoes_31 ?_
      refine V_bipush hG 6 (by decide) dX7_hourGoes_34 ?_
      refine V_iload_n hG 2 rfl dX7_hourGoes_36 ?_
      refine V_imul hG dX7_hourGoes_37 ?_
      refine V_aload_n hG 1 rfl dX7_hourGoes_38 ?_
      refine g7_54 hM hG dX7_hourGoes_39 ?_
      refine V_iload_n hG 0 rfl dX7_hourGoes_42 ?_
      obtain ⟨g_151, hj_148⟩ := gd_of hj_148
      refine T_iaload hM hG (by decide) g_151 dX7_hourGoes_43 ?_
      refine V_iadd hG dX7_hourGoes_44 ?_
      refine V_aload_n hG 1 rfl dX7_hourGoes_45 ?_
      refine g7_57 hM hG dX7_hourGoes_46 ?_
      refine V_iload_n hG 0 rfl dX7_hourGoes_49 ?_
      obtain ⟨g_152, hj_148⟩ := gd_of hj_148
      refine T_iaload hM hG (by decide) g_152 dX7_hourGoes_50 ?_
      obtain ⟨g_153, hj_148⟩ := gd_of hj_148
      obtain ⟨S_154, eS_154, hj_148⟩ := be_of hj_148
      refine T_iastore hM hG eS_154 (by decide) g_153 dX7_hourGoes_51 ?_
      cases hj_148
      exact J_147

def tw_goMany_b1 (N : Nat) (p1 : Int32) (x2_6 : Int32) (S_7 : TS) : Option ((Int32 × TS) ⊕ (Int32 × TS)) :=
if p1 ≤ x2_6 then (
some (.inl (x2_6, S_7)))
else (
bd (tw_hourGoes N 1 S_7) fun S_15 =>
be (x2_6 + 1) fun (x2_16 : Int32) =>
some (.inr (x2_16, S_15)))
def tw_goMany (N : Nat) (p1 : Int32) (S : TS) : Option (TS) :=
bd2 (lp N (fun s_12 : Int32 × TS => tw_goMany_b1 N p1 s_12.1 s_12.2) (0, S)) fun (x2_8 : Int32) (S_9 : TS) =>
some S_9
def rm_tw_goMany : Room := { frames := 6, cells := 0, slots := 0, locals := 147 }
theorem ok_tw_goMany {E : En} (hE : EOk E) {o : Nat} {M0 : Mem} (hM : TwS o M0) {N : Nat} {p1 : Int32} {S : TS}  {S' : TS} (h : tw_goMany N p1 S = some S') : CM E yX7_goMany cX7_goMany 3 none rm_tw_goMany [rf E o, .int p1] (tw o S M0) none (tw o S' M0) := by
  unfold tw_goMany at h
  refine CM_intro (own := RX7) rfl (by decide) (Nat.le_of_ble_eq_true rfl) rfl (fun G hG => ?_)
  obtain ⟨Q, eQ⟩ : ∃ Q, Q = QM E G none (tw o S' M0) 0 0 := ⟨_, rfl⟩
  show V E G (tw o S M0) 0 0 3 0 [(0, rf E o), (1, .int p1)] [] (QM E G none (tw o S' M0) 0 0)
  rw [← eQ]
  refine V_iconst hG 0 rfl dX7_goMany_0 ?_
  refine V_istore_n hG rfl [(2, .int 0), (0, rf E o), (1, .int p1)] dX7_goMany_1 (Nat.le_of_ble_eq_true rfl) rfl ?_
  obtain ⟨x2_8, S_9, hL_10, h⟩ := bd2_of h
  have J_5 : ∀ q_11 : Int32 × TS, q_11 = (x2_8, S_9) → V E G (tw o q_11.2 M0) 0 0 3 18 [(2, .int q_11.1), (0, rf E o), (1, .int p1)] [] Q := by
    intro q_11 e9
    subst q_11
    show V E G (tw o S_9 M0) 0 0 3 18 [(2, .int x2_8), (0, rf E o), (1, .int p1)] [] Q
    cases h
    subst eQ
    exact V_vret hG dX7_goMany_18
  refine lp_walk (W := fun s_12 : Int32 × TS => V E G (tw o s_12.2 M0) 0 0 3 2 [(2, .int s_12.1), (0, rf E o), (1, .int p1)] [] Q) ?_ N (0, S) hL_10
  intro s_12 b_1 hb_2 hk_3 hx_4
  obtain ⟨x2_6, S_7⟩ := s_12
  have hb_2 : tw_goMany_b1 N p1 x2_6 S_7 = some b_1 := hb_2
  unfold tw_goMany_b1 at hb_2
  show V E G (tw o S_7 M0) 0 0 3 2 [(2, .int x2_6), (0, rf E o), (1, .int p1)] [] Q
  refine V_iload_n hG 0 rfl dX7_goMany_2 ?_
  refine V_iload_n hG 2 rfl dX7_goMany_3 ?_
  refine V_icmp_ge hG 18 dX7_goMany_4 (by decide) (fun c_13 => ?_) (fun c_13 => ?_)
  · have hb_2 := if_t c_13 hb_2
    cases hb_2
    exact J_5 _ (hx_4 _ rfl)
  · have hb_2 := if_f c_13 hb_2
    refine V_aload_n hG 1 rfl dX7_goMany_7 ?_
    refine V_iconst hG 1 rfl dX7_goMany_8 ?_
    obtain ⟨S_15, hc_14, hb_2⟩ := bd_of hb_2
    refine V_callV0 hE hG (As := [.int 1]) (rest := []) (ok_tw_hourGoes hE hM hc_14) hM.1 (by decide) rfl hw7_456 hd_tw_hourGoes ⟨Nat.le_of_ble_eq_true rfl, Nat.le_of_ble_eq_true rfl⟩ rfl rfl (Nat.le_of_ble_eq_true rfl) rfl rfl dX7_goMany_9 ?_
    obtain ⟨x2_16, ex2_16, hb_2⟩ := be_of hb_2
    refine V_iinc hG 0 x2_16 rfl (by rw [ex2_16]; rfl) [(2, .int x2_16), (0, rf E o), (1, .int p1)] dX7_goMany_12 (Nat.le_of_ble_eq_true rfl) rfl ?_
    refine V_goto hG 2 dX7_goMany_15 (by decide) ?_
    cases hb_2
    exact hk_3 _ rfl

def tw_isHorse (p1 : Int32) (S : TS) : Option (Int32) :=
be (if p1 < 0 then (
0)
else (
if tI S 0 13 ≤ p1 then (
0)
else (
1)) : Int32) fun (y_5 : Int32) =>
gd (y_5 = 0 ∨ y_5 = 1) (
some y_5)
def rm_tw_isHorse : Room := { frames := 0, cells := 0, slots := 0, locals := 0 }
theorem ok_tw_isHorse {E : En} (hE : EOk E) {o : Nat} {M0 : Mem} (hM : TwS o M0) {p1 : Int32} {S : TS} {r : Int32} (h : tw_isHorse p1 S = some r) : CM E yX7_isHorse cX7_isHorse 2 (some .boolean) rm_tw_isHorse [rf E o, .int p1] (tw o S M0) (some (.int r)) (tw o S M0) := by
  unfold tw_isHorse at h
  refine CM_intro (own := RX7) rfl (by decide) (Nat.le_of_ble_eq_true rfl) rfl (fun G hG => ?_)
  obtain ⟨Q, eQ⟩ : ∃ Q, Q = QM E G (some (.int r)) (tw o S M0) 0 0 := ⟨_, rfl⟩
  show V E G (tw o S M0) 0 0 2 0 [(0, rf E o), (1, .int p1)] [] (QM E G (some (.int r)) (tw o S M0) 0 0)
  rw [← eQ]
  refine V_iload_n hG 1 rfl dX7_isHorse_0 ?_
  obtain ⟨t_1, et_1, h⟩ := be_of h
  have J_2 : ∀ y_5 : Int32, y_5 = t_1 → V E G (tw o S M0) 0 0 2 17 [(0, rf E o), (1, .int p1)] [.int y_5] Q := by
    intro y_5 ey
    subst ey
    obtain ⟨g_6, h⟩ := gd_of h
    cases h
    subst eQ
    exact V_zret hG g_6 dX7_isHorse_17
  refine V_if_lt hG 16 dX7_isHorse_1 (by decide) (fun c_3 => ?_) (fun c_3 => ?_)
  · refine V_iconst hG 0 rfl dX7_isHorse_16 ?_
    exact J_2 _ (by rw [et_1, if_pos c_3])
  · refine V_iload_n hG 1 rfl dX7_isHorse_4 ?_
    refine V_aload_n hG 0 rfl dX7_isHorse_5 ?_
    refine g7_246 hM hG dX7_isHorse_6 ?_
    refine V_icmp_ge hG 16 dX7_isHorse_9 (by decide) (fun c_4 => ?_) (fun c_4 => ?_)
    · refine V_iconst hG 0 rfl dX7_isHorse_16 ?_
      exact J_2 _ (by rw [et_1, if_neg c_3, if_pos c_4])
    · refine V_iconst hG 1 rfl dX7_isHorse_12 ?_
      refine V_goto hG 17 dX7_isHorse_13 (by decide) ?_
      exact J_2 _ (by rw [et_1, if_neg c_3, if_neg c_4])

def tw_isIn (p0 : Int32) (p1 : Int32) (p2 : Int32) (S : TS) : Option (Int32) :=
be (if p0 < p1 then (
0)
else (
if p2 < p0 then (
0)
else (
1)) : Int32) fun (y_5 : Int32) =>
gd (y_5 = 0 ∨ y_5 = 1) (
some y_5)
def rm_tw_isIn : Room := { frames := 0, cells := 0, slots := 0, locals := 0 }
theorem ok_tw_isIn {E : En} (hE : EOk E) {o : Nat} {M0 : Mem} (hM : TwS o M0) {p0 : Int32} {p1 : Int32} {p2 : Int32} {S : TS} {r : Int32} (h : tw_isIn p0 p1 p2 S = some r) : CM E yX7_isIn cX7_isIn 3 (some .boolean) rm_tw_isIn [.int p0, .int p1, .int p2] (tw o S M0) (some (.int r)) (tw o S M0) := by
  unfold tw_isIn at h
  refine CM_intro (own := RX7) rfl (by decide) (Nat.le_of_ble_eq_true rfl) rfl (fun G hG => ?_)
  obtain ⟨Q, eQ⟩ : ∃ Q, Q = QM E G (some (.int r)) (tw o S M0) 0 0 := ⟨_, rfl⟩
  show V E G (tw o S M0) 0 0 3 0 [(0, .int p0), (1, .int p1), (2, .int p2)] [] (QM E G (some (.int r)) (tw o S M0) 0 0)
  rw [← eQ]
  refine V_iload_n hG 0 rfl dX7_isIn_0 ?_
  refine V_iload_n hG 1 rfl dX7_isIn_1 ?_
  obtain ⟨t_1, et_1, h⟩ := be_of h
  have J_2 : ∀ y_5 : Int32, y_5 = t_1 → V E G (tw o S M0) 0 0 3 15 [(0, .int p0), (1, .int p1), (2, .int p2)] [.int y_5] Q := by
    intro y_5 ey
    subst ey
    obtain ⟨g_6, h⟩ := gd_of h
    cases h
    subst eQ
    exact V_zret hG g_6 dX7_isIn_15
  refine V_icmp_lt hG 14 dX7_isIn_2 (by decide) (fun c_3 => ?_) (fun c_3 => ?_)
  · refine V_iconst hG 0 rfl dX7_isIn_14 ?_
    exact J_2 _ (by rw [et_1, if_pos c_3])
  · refine V_iload_n hG 0 rfl dX7_isIn_5 ?_
    refine V_iload_n hG 2 rfl dX7_isIn_6 ?_
    refine V_icmp_gt hG 14 dX7_isIn_7 (by decide) (fun c_4 => ?_) (fun c_4 => ?_)
    · refine V_iconst hG 0 rfl dX7_isIn_14 ?_
      exact J_2 _ (by rw [et_1, if_neg c_3, if_pos c_4])
    · refine V_iconst hG 1 rfl dX7_isIn_10 ?_
      refine V_goto hG 15 dX7_isIn_11 (by decide) ?_
      exact J_2 _ (by rw [et_1, if_neg c_3, if_neg c_4])

def tw_isTrough (p1 : Int32) (S : TS) : Option (Int32) :=
be (if p1 < 0 then (
0)
else (
if tI S 0 12 ≤ p1 then (
0)
else (
1)) : Int32) fun (y_5 : Int32) =>
gd (y_5 = 0 ∨ y_5 = 1) (
some y_5)
def rm_tw_isTrough : Room := { frames := 0, cells := 0, slots := 0, locals := 0 }
theorem ok_tw_isTrough {E : En} (hE : EOk E) {o : Nat} {M0 : Mem} (hM : TwS o M0) {p1 : Int32} {S : TS} {r : Int32} (h : tw_isTrough p1 S = some r) : CM E yX7_isTrough cX7_isTrough 2 (some .boolean) rm_tw_isTrough [rf E o, .int p1] (tw o S M0) (some (.int r)) (tw o S M0) := by
  unfold tw_isTrough at h
  refine CM_intro (own := RX7) rfl (by decide) (Nat.le_of_ble_eq_true rfl) rfl (fun G hG => ?_)
  obtain ⟨Q, eQ⟩ : ∃ Q, Q = QM E G (some (.int r)) (tw o S M0) 0 0 := ⟨_, rfl⟩
  show V E G (tw o S M0) 0 0 2 0 [(0, rf E o), (1, .int p1)] [] (QM E G (some (.int r)) (tw o S M0) 0 0)
  rw [← eQ]
  refine V_iload_n hG 1 rfl dX7_isTrough_0 ?_
  obtain ⟨t_1, et_1, h⟩ := be_of h
  have J_2 : ∀ y_5 : Int32, y_5 = t_1 → V E G (tw o S M0) 0 0 2 17 [(0, rf E o), (1, .int p1)] [.int y_5] Q := by
    intro y_5 ey
    subst ey
    obtain ⟨g_6, h⟩ := gd_of h
    cases h
    subst eQ
    exact V_zret hG g_6 dX7_isTrough_17
  refine V_if_lt hG 16 dX7_isTrough_1 (by decide) (fun c_3 => ?_) (fun c_3 => ?_)
  · refine V_iconst hG 0 rfl dX7_isTrough_16 ?_
    exact J_2 _ (by rw [et_1, if_pos c_3])
  · refine V_iload_n hG 1 rfl dX7_isTrough_4 ?_
    refine V_aload_n hG 0 rfl dX7_isTrough_5 ?_
    refine g7_243 hM hG dX7_isTrough_6 ?_
    refine V_icmp_ge hG 16 dX7_isTrough_9 (by decide) (fun c_4 => ?_) (fun c_4 => ?_)
    · refine V_iconst hG 0 rfl dX7_isTrough_16 ?_
      exact J_2 _ (by rw [et_1, if_neg c_3, if_pos c_4])
    · refine V_iconst hG 1 rfl dX7_isTrough_12 ?_
      refine V_goto hG 17 dX7_isTrough_13 (by decide) ?_
      exact J_2 _ (by rw [et_1, if_neg c_3, if_neg c_4])

def tw_plainTried  (S : TS) : Option (TS) :=
be (tsI S 0 69 0) fun S_1 =>
be (tsI S_1 0 70 0) fun S_2 =>
be (tsI S_2 0 71 0) fun S_3 =>
be (tsI S_3 0 72 0) fun S_4 =>
some S_4
def rm_tw_plainTried : Room := { frames := 0, cells := 0, slots := 0, locals := 0 }
theorem ok_tw_plainTried {E : En} (hE : EOk E) {o : Nat} {M0 : Mem} (hM : TwS o M0)  {S : TS}  {S' : TS} (h : tw_plainTried  S = some S') : CM E yX7_plainTried cX7_plainTried 1 none rm_tw_plainTried [rf E o] (tw o S M0) none (tw o S' M0) := by
  unfold tw_plainTried at h
  refine CM_intro (own := RX7) rfl (by decide) (Nat.le_of_ble_eq_true rfl) rfl (fun G hG => ?_)
  obtain ⟨Q, eQ⟩ : ∃ Q, Q = QM E G none (tw o S' M0) 0 0 := ⟨_, rfl⟩
  show V E G (tw o S M0) 0 0 1 0 [(0, rf E o)] [] (QM E G none (tw o S' M0) 0 0)
  rw [← eQ]
  refine V_aload_n hG 0 rfl dX7_plainTried_0 ?_
  refine V_iconst hG 0 rfl dX7_plainTried_1 ?_
  obtain ⟨S_1, eS_1, h⟩ := be_of h
  refine p7_386 hM hG eS_1 (Or.inl rfl) dX7_plainTried_2 ?_
  refine V_aload_n hG 0 rfl dX7_plainTried_5 ?_
  refine V_iconst hG 0 rfl dX7_plainTried_6 ?_
  obtain ⟨S_2, eS_2, h⟩ := be_of h
  refine p7_389 hM hG eS_2 (Or.inl rfl) dX7_plainTried_7 ?_
  refine V_aload_n hG 0 rfl dX7_plainTried_10 ?_
  refine V_iconst hG 0 rfl dX7_plainTried_11 ?_
  obtain ⟨S_3, eS_3, h⟩ := be_of h
  refine p7_392 hM hG eS_3 (Or.inl rfl) dX7_plainTried_12 ?_
  refine V_aload_n hG 0 rfl dX7_plainTried_15 ?_
  refine V_iconst hG 0 rfl dX7_plainTried_16 ?_
  obtain ⟨S_4, eS_4, h⟩ := be_of h
  refine p7_395 hM hG eS_4 (Or.inl rfl) dX7_plainTried_17 ?_
  cases h
  subst eQ
  exact V_vret hG dX7_plainTried_20

def tw_layTried_b1 (N : Nat) (x1_6 : Int32) (S_7 : TS) : Option ((Int32 × TS) ⊕ (Int32 × TS)) :=
if 6 ≤ x1_6 then (
some (.inl (x1_6, S_7)))
else (
gd (inb x1_6 (lenA 27)) (
gd (inb (6 + x1_6) (lenA 27)) (
be (tsI S_7 27 (Int32.toNatClampNeg (6 + x1_6)) (tI S_7 27 (Int32.toNatClampNeg x1_6))) fun S_24 =>
gd (inb x1_6 (lenA 28)) (
gd (inb (6 + x1_6) (lenA 28)) (
be (tsI S_24 28 (Int32.toNatClampNeg (6 + x1_6)) (tI S_24 28 (Int32.toNatClampNeg x1_6))) fun S_27 =>
gd (inb x1_6 (lenA 29)) (
gd (inb (6 + x1_6) (lenA 29)) (
be (tsI S_27 29 (Int32.toNatClampNeg (6 + x1_6)) (tI S_27 29 (Int32.toNatClampNeg x1_6))) fun S_30 =>
gd (inb x1_6 (lenA 30)) (
gd (inb (6 + x1_6) (lenA 30)) (
be (tsI S_30 30 (Int32.toNatClampNeg (6 + x1_6)) (tI S_30 30 (Int32.toNatClampNeg x1_6))) fun S_33 =>
gd (inb x1_6 (lenA 31)) (
gd (inb (6 + x1_6) (lenA 31)) (
gd (tI S_33 31 (Int32.toNatClampNeg x1_6) = 0 ∨ tI S_33 31 (Int32.toNatClampNeg x1_6) = 1) (
be (tsI S_33 31 (Int32.toNatClampNeg (6 + x1_6)) (tI S_33 31 (Int32.toNatClampNeg x1_6))) fun S_37 =>
gd (inb x1_6 (lenA 32)) (
gd (inb (6 + x1_6) (lenA 32)) (
be (tsI S_37 32 (Int32.toNatClampNeg (6 + x1_6)) (tI S_37 32 (Int32.toNatClampNeg x1_6))) fun S_40 =>
gd (inb x1_6 (lenA 33)) (
gd (inb (6 + x1_6) (lenA 33)) (
be (tsI S_40 33 (Int32.toNatClampNeg (6 + x1_6)) (tI S_40 33 (Int32.toNatClampNeg x1_6))) fun S_43 =>
be (x1_6 + 1) fun (x1_44 : Int32) =>
some (.inr (x1_44, S_43))))))))))))))))))
def tw_layTried (N : Nat)  (S : TS) : Option (TS) :=
bd2 (lp N (fun s_20 : Int32 × TS => tw_layTried_b1 N s_20.1 s_20.2) (0, S)) fun (x1_8 : Int32) (S_9 : TS) =>
be (tsI S_9 34 (Int32.toNatClampNeg 1) (tI S_9 34 (Int32.toNatClampNeg 0))) fun S_12 =>
be (tsI S_12 35 (Int32.toNatClampNeg 1) (tI S_12 35 (Int32.toNatClampNeg 0))) fun S_13 =>
be (tsI S_13 36 (Int32.toNatClampNeg 1) (tI S_13 36 (Int32.toNatClampNeg 0))) fun S_14 =>
be (tsI S_14 37 (Int32.toNatClampNeg 1) (tI S_14 37 (Int32.toNatClampNeg 0))) fun S_15 =>
be (tsI S_15 38 (Int32.toNatClampNeg 1) (tI S_15 38 (Int32.toNatClampNeg 0))) fun S_16 =>
be (tsI S_16 39 (Int32.toNatClampNeg 1) (tI S_16 39 (Int32.toNatClampNeg 0))) fun S_17 =>
bd (tw_plainTried S_17) fun S_19 =>
some S_19
def rm_tw_layTried : Room := { frames := 1, cells := 0, slots := 0, locals := 20 }
theorem ok_tw_layTried {E : En} (hE : EOk E) {o : Nat} {M0 : Mem} (hM : TwS o M0) {N : Nat}  {S : TS}  {S' : TS} (h : tw_layTried N  S = some S') : CM E yX7_layTried cX7_layTried 2 none rm_tw_layTried [rf E o] (tw o S M0) none (tw o S' M0) := by
  unfold tw_layTried at h
  refine CM_intro (own := RX7) rfl (by decide) (Nat.le_of_ble_eq_true rfl) rfl (fun G hG => ?_)
  obtain ⟨Q, eQ⟩ : ∃ Q, Q = QM E G none (tw o S' M0) 0 0 := ⟨_, rfl⟩
  show V E G (tw o S M0) 0 0 2 0 [(0, rf E o)] [] (QM E G none (tw o S' M0) 0 0)
  rw [← eQ]
  refine V_iconst hG 0 rfl dX7_layTried_0 ?_
  refine V_istore_n hG rfl [(1, .int 0), (0, rf E o)] dX7_layTried_1 (Nat.le_of_ble_eq_true rfl) rfl ?_
  obtain ⟨x1_8, S_9, hL_10, h⟩ := bd2_of h
  have J_5 : ∀ q_11 : Int32 × TS, q_11 = (x1_8, S_9) → V E G (tw o q_11.2 M0) 0 0 2 119 [(1, .int q_11.1), (0, rf E o)] [] Q := by
    intro q_11 e9
    subst q_11
    show V E G (tw o S_9 M0) 0 0 2 119 [(1, .int x1_8), (0, rf E o)] [] Q
    refine V_aload_n hG 1 rfl dX7_layTried_119 ?_
    refine g7_115 hM hG dX7_layTried_120 ?_
    refine V_iconst hG 1 rfl dX7_layTried_123 ?_
    refine V_aload_n hG 1 rfl dX7_layTried_124 ?_
    refine g7_115 hM hG dX7_layTried_125 ?_
    refine V_iconst hG 0 rfl dX7_layTried_128 ?_
    refine T_iaload hM hG (by decide) (by decide) dX7_layTried_129 ?_
    obtain ⟨S_12, eS_12, h⟩ := be_of h
    refine T_iastore hM hG eS_12 (by decide) (by decide) dX7_layTried_130 ?_
    refine V_aload_n hG 1 rfl dX7_layTried_131 ?_
    refine g7_118 hM hG dX7_layTried_132 ?_
    refine V_iconst hG 1 rfl dX7_layTried_135 ?_
    refine V_aload_n hG 1 rfl dX7_layTried_136 ?_
    refine g7_118 hM hG dX7_layTried_137 ?_
    refine V_iconst hG 0 rfl dX7_layTried_140 ?_
    refine T_iaload hM hG (by decide) (by decide) dX7_layTried_141 ?_
    obtain ⟨S_13, eS_13, h⟩ := be_of h
    refine T_iastore hM hG eS_13 (by decide) (by decide) dX7_layTried_142 ?_
    refine V_aload_n hG 1 rfl dX7_layTried_143 ?_
    refine g7_121 hM hG dX7_layTried_144 ?_
    refine V_iconst hG 1 rfl dX7_layTried_147 ?_
    refine V_aload_n hG 1 rfl dX7_layTried_148 ?_
    refine g7_121 hM hG dX7_layTried_149 ?_
    refine V_iconst hG 0 rfl dX7_layTried_152 ?_
    refine T_iaload hM hG (by decide) (by decide) dX7_layTried_153 ?_
    obtain ⟨S_14, eS_14, h⟩ := be_of h
    refine T_iastore hM hG eS_14 (by decide) (by decide) dX7_layTried_154 ?_
    refine V_aload_n hG 1 rfl dX7_layTried_155 ?_
    refine g7_124 hM hG dX7_layTried_156 ?_
    refine V_iconst hG 1 rfl dX7_layTried_159 ?_
    refine V_aload_n hG 1 rfl dX7_layTried_160 ?_
    refine g7_124 hM hG dX7_layTried_161 ?_
    refine V_iconst hG 0 rfl dX7_layTried_164 ?_
    refine T_iaload hM hG (by decide) (by decide) dX7_layTried_165 ?_
    obtain ⟨S_15, eS_15, h⟩ := be_of h
    refine T_iastore hM hG eS_15 (by decide) (by decide) dX7_layTried_166 ?_
    refine V_aload_n hG 1 rfl dX7_layTried_167 ?_
    refine g7_127 hM hG dX7_layTried_168 ?_
    refine V_iconst hG 1 rfl dX7_layTried_171 ?_
    refine V_aload_n hG 1 rfl dX7_layTried_172 ?_
    refine g7_127 hM hG dX7_layTried_173 ?_
    refine V_iconst hG 0 rfl dX7_layTried_176 ?_
    refine T_iaload hM hG (by decide) (by decide) dX7_layTried_177 ?_
    obtain ⟨S_16, eS_16, h⟩ := be_of h
    refine T_iastore hM hG eS_16 (by decide) (by decide) dX7_layTried_178 ?_
    refine V_aload_n hG 1 rfl dX7_layTried_179 ?_
    refine g7_130 hM hG dX7_layTried_180 ?_
    refine V_iconst hG 1 rfl dX7_layTried_183 ?_
    refine V_aload_n hG 1 rfl dX7_layTried_184 ?_
    refine g7_130 hM hG dX7_layTried_185 ?_
    refine V_iconst hG 0 rfl dX7_layTried_188 ?_
    refine T_iaload hM hG (by decide) (by decide) dX7_layTried_189 ?_
    obtain ⟨S_17, eS_17, h⟩ := be_of h
    refine T_iastore hM hG eS_17 (by decide) (by decide) dX7_layTried_190 ?_
    refine V_aload_n hG 1 rfl dX7_layTried_191 ?_
    obtain ⟨S_19, hc_18, h⟩ := bd_of h
    refine V_callV0 hE hG (As := []) (rest := []) (ok_tw_plainTried hE hM hc_18) hM.1 (by decide) rfl hw7_374 hd_tw_plainTried ⟨Nat.le_of_ble_eq_true rfl, Nat.le_of_ble_eq_true rfl⟩ rfl rfl (Nat.le_of_ble_eq_true rfl) rfl rfl dX7_layTried_192 ?_
    cases h
    subst eQ
    exact V_vret hG dX7_layTried_195
  refine lp_walk (W := fun s_20 : Int32 × TS => V E G (tw o s_20.2 M0) 0 0 2 2 [(1, .int s_20.1), (0, rf E o)] [] Q) ?_ N (0, S) hL_10
  intro s_20 b_1 hb_2 hk_3 hx_4
  obtain ⟨x1_6, S_7⟩ := s_20
  have hb_2 : tw_layTried_b1 N x1_6 S_7 = some b_1 := hb_2
  unfold tw_layTried_b1 at hb_2
  show V E G (tw o S_7 M0) 0 0 2 2 [(1, .int x1_6), (0, rf E o)] [] Q
  refine V_iload_n hG 0 rfl dX7_layTried_2 ?_
  refine V_bipush hG 6 (by decide) dX7_layTried_3 ?_
  refine V_icmp_ge hG 119 dX7_layTried_5 (by decide) (fun c_21 => ?_) (fun c_21 => ?_)
  · have hb_2 := if_t c_21 hb_2
    cases hb_2
    exact J_5 _ (hx_4 _ rfl)
  · have hb_2 := if_f c_21 hb_2
    refine V_aload_n hG 1 rfl dX7_layTried_8 ?_
    refine g7_94 hM hG dX7_layTried_9 ?_
    refine V_bipush hG 6 (by decide) dX7_layTried_12 ?_
    refine V_iload_n hG 0 rfl dX7_layTried_14 ?_
    refine V_iadd hG dX7_layTried_15 ?_
    refine V_aload_n hG 1 rfl dX7_layTried_16 ?_
    refine g7_94 hM hG dX7_layTried_17 ?_
    refine V_iload_n hG 0 rfl dX7_layTried_20 ?_
    obtain ⟨g_22, hb_2⟩ := gd_of hb_2
    refine T_iaload hM hG (by decide) g_22 dX7_layTried_21 ?_
    obtain ⟨g_23, hb_2⟩ := gd_of hb_2
    obtain ⟨S_24, eS_24, hb_2⟩ := be_of hb_2
    refine T_iastore hM hG eS_24 (by decide) g_23 dX7_layTried_22 ?_
    refine V_aload_n hG 1 rfl dX7_layTried_23 ?_
    refine g7_97 hM hG dX7_layTried_24 ?_
    refine V_bipush hG 6 (by decide) dX7_layTried_27 ?_
    refine V_iload_n hG 0 rfl dX7_layTried_29 ?_
    refine V_iadd hG dX7_layTried_30 ?_
    refine V_aload_n hG 1 rfl dX7_layTried_31 ?_
    refine g7_97 hM hG dX7_layTried_32 ?_
    refine V_iload_n hG 0 rfl dX7_layTried_35 ?_
    obtain ⟨g_25, hb_2⟩ := gd_of hb_2
    refine T_iaload hM hG (by decide) g_25 dX7_layTried_36 ?_
    obtain ⟨g_26, hb_2⟩ := gd_of hb_2
    obtain ⟨S_27, eS_27, hb_2⟩ := be_of hb_2
    refine T_iastore hM hG eS_27 (by decide) g_26 dX7_layTried_37 ?_
    refine V_aload_n hG 1 rfl dX7_layTried_38 ?_
    refine g7_100 hM hG dX7_layTried_39 ?_
    refine V_bipush hG 6 (by decide) dX7_layTried_42 ?_
    refine V_iload_n hG 0 rfl dX7_layTried_44 ?_
    refine V_iadd hG dX7_layTried_45 ?_
    refine V_aload_n hG 1 rfl dX7_layTried_46 ?_
    refine g7_100 hM hG dX7_layTried_47 ?_
    refine V_iload_n hG 0 rfl dX7_layTried_50 ?_
    obtain ⟨g_28, hb_2⟩ := gd_of hb_2
    refine T_iaload hM hG (by decide) g_28 dX7_layTried_51 ?_
    obtain ⟨g_29, hb_2⟩ := gd_of hb_2
    obtain ⟨S_30, eS_30, hb_2⟩ := be_of hb_2
    refine T_iastore hM hG eS_30 (by decide) g_29 dX7_layTried_52 ?_
    refine V_aload_n hG 1 rfl dX7_layTried_53 ?_
    refine g7_103 hM hG dX7_layTried_54 ?_
    refine V_bipush hG 6 (by decide) dX7_layTried_57 ?_
    refine V_iload_n hG 0 rfl dX7_layTried_59 ?_
    refine V_iadd hG dX7_layTried_60 ?_
    refine V_aload_n hG 1 rfl dX7_layTried_61 ?_
    refine g7_103 hM hG dX7_layTried_62 ?_
    refine V_iload_n hG 0 rfl dX7_layTried_65 ?_
    obtain ⟨g_31, hb_2⟩ := gd_of hb_2
    refine T_iaload hM hG (by decide) g_31 dX7_layTried_66 ?_
    obtain ⟨g_32, hb_2⟩ := gd_of hb_2
    obtain ⟨S_33, eS_33, hb_2⟩ := be_of hb_2
    refine T_iastore hM hG eS_33 (by decide) g_32 dX7_layTried_67 ?_
    refine V_aload_n hG 1 rfl dX7_layTried_68 ?_
    refine g7_106 hM hG dX7_layTried_69 ?_
    refine V_bipush hG 6 (by decide) dX7_layTried_72 ?_
    refine V_iload_n hG 0 rfl dX7_layTried_74 ?_
    refine V_iadd hG dX7_layTried_75 ?_
    refine V_aload_n hG 1 rfl dX7_layTried_76 ?_
    refine g7_106 hM hG dX7_layTried_77 ?_
    refine V_iload_n hG 0 rfl dX7_layTried_80 ?_
    obtain ⟨g_34, hb_2⟩ := gd_of hb_2
    refine T_zaload hM hG (by decide) g_34 dX7_layTried_81 ?_
    obtain ⟨g_35, hb_2⟩ := gd_of hb_2
    obtain ⟨g_36, hb_2⟩ := gd_of hb_2
    obtain ⟨S_37, eS_37, hb_2⟩ := be_of hb_2
    refine T_zastore hM hG eS_37 g_36 (by decide) g_35 dX7_layTried_82 ?_
    refine V_aload_n hG 1 rfl dX7_layTried_83 ?_
    refine g7_109 hM hG dX7_layTried_84 ?_
    refine V_bipush hG 6 (by decide) dX7_layTried_87 ?_
    refine V_iload_n hG 0 rfl dX7_layTried_89 ?_
    refine V_iadd hG dX7_layTried_90 ?_
    refine V_aload_n hG 1 rfl dX7_layTried_91 ?_
    refine g7_109 hM hG dX7_layTried_92 ?_
    refine V_iload_n hG 0 rfl dX7_layTried_95 ?_
    obtain ⟨g_38, hb_2⟩ := gd_of hb_2
    refine T_iaload hM hG (by decide) g_38 dX7_layTried_96 ?_
    obtain ⟨g_39, hb_2⟩ := gd_of hb_2
    obtain ⟨S_40, eS_40, hb_2⟩ := be_of hb_2
    refine T_iastore hM hG eS_40 (by decide) g_39 dX7_layTried_97 ?_
    refine V_aload_n hG 1 rfl dX7_layTried_98 ?_
    refine g7_112 hM hG dX7_layTried_99 ?_
    refine V_bipush hG 6 (by decide) dX7_layTried_102 ?_
    refine V_iload_n hG 0 rfl dX7_layTried_104 ?_
    refine V_iadd hG dX7_layTried_105 ?_
    refine V_aload_n hG 1 rfl dX7_layTried_106 ?_
    refine g7_112 hM hG dX7_layTried_107 ?_
    refine V_iload_n hG 0 rfl dX7_layTried_110 ?_
    obtain ⟨g_41, hb_2⟩ := gd_of hb_2
    refine T_iaload hM hG (by decide) g_41 dX7_layTried_111 ?_
    obtain ⟨g_42, hb_2⟩ := gd_of hb_2
    obtain ⟨S_43, eS_43, hb_2⟩ := be_of hb_2
    refine T_iastore hM hG eS_43 (by decide) g_42 dX7_layTried_112 ?_
    obtain ⟨x1_44, ex1_44, hb_2⟩ := be_of hb_2
    refine V_iinc hG 0 x1_44 rfl (by rw [ex1_44]; rfl) [(1, .int x1_44), (0, rf E o)] dX7_layTried_113 (Nat.le_of_ble_eq_true rfl) rfl ?_
    refine V_goto hG 2 dX7_layTried_116 (by decide) ?_
    cases hb_2
    exact hk_3 _ rfl

def tw_onMany_b1 (N : Nat) (p1 : Int32) (S : TS) (x3_6 : Int32) (x2_7 : Int32) : Option ((Int32 × Int32) ⊕ (Int32 × Int32)) :=
if tI S 0 13 ≤ x3_6 then (
some (.inl (x3_6, x2_7)))
else (
gd (inb ((6 * p1) + x3_6) (lenA 31)) (
be (if tI S 31 (Int32.toNatClampNeg ((6 * p1) + x3_6)) = 0 then (
0)
else (
1) : Int32) fun (y_18 : Int32) =>
be (x2_7 + y_18) fun (x2_19 : Int32) =>
be (x3_6 + 1) fun (x3_20 : Int32) =>
some (.inr (x3_20, x2_19))))
def tw_onMany (N : Nat) (p1 : Int32) (S : TS) : Option (Int32) :=
bd2 (lp N (fun s_12 : Int32 × Int32 => tw_onMany_b1 N p1 S s_12.1 s_12.2) (0, 0)) fun (x3_8 : Int32) (x2_9 : Int32) =>
some x2_9
def rm_tw_onMany : Room := { frames := 0, cells := 0, slots := 0, locals := 0 }
theorem ok_tw_onMany {E : En} (hE : EOk E) {o : Nat} {M0 : Mem} (hM : TwS o M0) {N : Nat} {p1 : Int32} {S : TS} {r : Int32} (h : tw_onMany N p1 S = some r) : CM E yX7_onMany cX7_onMany 4 (some .int) rm_tw_onMany [rf E o, .int p1] (tw o S M0) (some (.int r)) (tw o S M0) := by
  unfold tw_onMany at h
  refine CM_intro (own := RX7) rfl (by decide) (Nat.le_of_ble_eq_true rfl) rfl (fun G hG => ?_)
  obtain ⟨Q, eQ⟩ : ∃ Q, Q = QM E G (some (.int r)) (tw o S M0) 0 0 := ⟨_, rfl⟩
  show V E G (tw o S M0) 0 0 4 0 [(0, rf E o), (1, .int p1)] [] (QM E G (some (.int r)) (tw o S M0) 0 0)
  rw [← eQ]
  refine V_iconst hG 0 rfl dX7_onMany_0 ?_
  refine V_istore_n hG rfl [(2, .int 0), (0, rf E o), (1, .int p1)] dX7_onMany_1 (Nat.le_of_ble_eq_true rfl) rfl ?_
  refine V_iconst hG 0 rfl dX7_onMany_2 ?_
  refine V_istore_n hG rfl [(3, .int 0), (2, .int 0), (0, rf E o), (1, .int p1)] dX7_onMany_3 (Nat.le_of_ble_eq_true rfl) rfl ?_
  obtain ⟨x3_8, x2_9, hL_10, h⟩ := bd2_of h
  have J_5 : ∀ q_11 : Int32 × Int32, q_11 = (x3_8, x2_9) → V E G (tw o S M0) 0 0 4 40 [(3, .int q_11.1), (2, .int q_11.2), (0, rf E o), (1, .int p1)] [] Q := by
    intro q_11 e9
    subst q_11
    show V E G (tw o S M0) 0 0 4 40 [(3, .int x3_8), (2, .int x2_9), (0, rf E o), (1, .int p1)] [] Q
    refine V_iload_n hG 1 rfl dX7_onMany_40 ?_
    cases h
    subst eQ
    exact V_iret hG dX7_onMany_41
  refine lp_walk (W := fun s_12 : Int32 × Int32 => V E G (tw o S M0) 0 0 4 4 [(3, .int s_12.1), (2, .int s_12.2), (0, rf E o), (1, .int p1)] [] Q) ?_ N (0, 0) hL_10
  intro s_12 b_1 hb_2 hk_3 hx_4
  obtain ⟨x3_6, x2_7⟩ := s_12
  have hb_2 : tw_onMany_b1 N p1 S x3_6 x2_7 = some b_1 := hb_2
  unfold tw_onMany_b1 at hb_2
  show V E G (tw o S M0) 0 0 4 4 [(3, .int x3_6), (2, .int x2_7), (0, rf E o), (1, .int p1)] [] Q
  refine V_iload_n hG 0 rfl dX7_onMany_4 ?_
  refine V_aload_n hG 2 rfl dX7_onMany_5 ?_
  refine g7_246 hM hG dX7_onMany_6 ?_
  refine V_icmp_ge hG 40 dX7_onMany_9 (by decide) (fun c_13 => ?_) (fun c_13 => ?_)
  · have hb_2 := if_t c_13 hb_2
    cases hb_2
    exact J_5 _ (hx_4 _ rfl)
  · have hb_2 := if_f c_13 hb_2
    refine V_iload_n hG 1 rfl dX7_onMany_12 ?_
    refine V_aload_n hG 2 rfl dX7_onMany_13 ?_
    refine g7_106 hM hG dX7_onMany_14 ?_
    refine V_bipush hG 6 (by decide) dX7_onMany_17 ?_
    refine V_iload_n hG 3 rfl dX7_onMany_19 ?_
    refine V_imul hG dX7_onMany_20 ?_
    refine V_iload_n hG 0 rfl dX7_onMany_21 ?_
    refine V_iadd hG dX7_onMany_22 ?_
    obtain ⟨g_14, hb_2⟩ := gd_of hb_2
    refine T_zaload hM hG (by decide) g_14 dX7_onMany_23 ?_
    obtain ⟨t_15, et_15, hb_2⟩ := be_of hb_2
    have J_16 : ∀ y_18 : Int32, y_18 = t_15 → V E G (tw o S M0) 0 0 4 32 [(3, .int x3_6), (2, .int x2_7), (0, rf E o), (1, .int p1)] [.int y_18, .int x2_7] Q := by
      intro y_18 ey
      subst ey
      refine V_iadd hG dX7_onMany_32 ?_
      obtain ⟨x2_19, ex2_19, hb_2⟩ := be_of hb_2
      refine V_topi ex2_19 ?_
      refine V_istore_n hG rfl [(2, .int x2_19), (3, .int x3_6), (0, rf E o), (1, .int p1)] dX7_onMany_33 (Nat.le_of_ble_eq_true rfl) rfl ?_
      obtain ⟨x3_20, ex3_20, hb_2⟩ := be_of hb_2
      refine V_iinc hG 1 x3_20 rfl (by rw [ex3_20]; rfl) [(3, .int x3_20), (2, .int x2_19), (0, rf E o), (1, .int p1)] dX7_onMany_34 (Nat.le_of_ble_eq_true rfl) rfl ?_
      refine V_goto hG 4 dX7_onMany_37 (by decide) ?_
      cases hb_2
      exact hk_3 _ rfl
    refine V_if_eq hG 31 dX7_onMany_24 (by decide) (fun c_17 => ?_) (fun c_17 => ?_)
    · refine V_iconst hG 0 rfl dX7_onMany_31 ?_
      exact J_16 _ (by rw [et_15, if_pos c_17])
    · refine V_iconst hG 1 rfl dX7_onMany_27 ?_
      refine V_goto hG 32 dX7_onMany_28 (by decide) ?_
      exact J_16 _ (by rw [et_15, if_neg c_17])

def tw_ahead (N : Nat) (p1 : Int32) (p2 : Int32) (p3 : Int32) (S : TS) : Option (Int32 × TS) :=
be (tsI S 0 2 0) fun S_1 =>
bd (tw_isIn p1 0 200 S_1) fun r_3 =>
if r_3 = 0 then (
some ((-1), S_1))
else (
bd (tw_isIn p2 0 4 S_1) fun r_6 =>
if r_6 = 0 then (
some ((-1), S_1))
else (
be (fun (u_10 : Unit) =>
be (fun (u_13 : Unit) =>
bd (tw_layTried N S_1) fun S_15 =>
bd (tw_goMany N p1 S_15) fun S_17 =>
if p2 = 0 then (
some ((tI S_17 34 (Int32.toNatClampNeg 1)) - (tI S_17 34 (Int32.toNatClampNeg 0)), S_17))
else (
if p2 = 1 then (
some ((tI S_17 35 (Int32.toNatClampNeg 1)) - (tI S_17 35 (Int32.toNatClampNeg 0)), S_17))
else (
if p2 = 2 then (
gd (inb (6 + p3) (lenA 28)) (
some (tI S_17 28 (Int32.toNatClampNeg (6 + p3)), S_17)))
else (
if p2 = 3 then (
gd (inb (6 + p3) (lenA 33)) (
some (tI S_17 33 (Int32.toNatClampNeg (6 + p3)), S_17)))
else (
bd (tw_onMany N 1 S_17) fun r_25 =>
some (r_25, S_17)))))) fun (k_11 : Unit → Option (Int32 × TS)) =>
if p2 = 3 then (
bd (tw_isTrough p3 S_1) fun r_28 =>
if r_28 = 0 then (
some ((-1), S_1))
else (
k_11 (())))
else (
k_11 (()))) fun (k_8 : Unit → Option (Int32 × TS)) =>
if p2 = 2 then (
bd (tw_isHorse p3 S_1) fun r_32 =>
if r_32 = 0 then (
some ((-1), S_1))
else (
k_8 (())))
else (
k_8 (()))))
def rm_tw_ahead : Room := { frames := 7, cells := 0, slots := 0, locals := 169 }
theorem ok_tw_ahead {E : En} (hE : EOk E) {o : Nat} {M0 : Mem} (hM : TwS o M0) {N : Nat} {p1 : Int32} {p2 : Int32} {p3 : Int32} {S : TS} {r : Int32} {S' : TS} (h : tw_ahead N p1 p2 p3 S = some (r, S')) : CM E yX7_ahead cX7_ahead 4 (some .int) rm_tw_ahead [rf E o, .int p1, .int p2, .int p3] (tw o S M0) (some (.int r)) (tw o S' M0) := by
  unfold tw_ahead at h
  refine CM_intro (own := RX7) rfl (by decide) (Nat.le_of_ble_eq_true rfl) rfl (fun G hG => ?_)
  obtain ⟨Q, eQ⟩ : ∃ Q, Q = QM E G (some (.int r)) (tw o S' M0) 0 0 := ⟨_, rfl⟩
  show V E G (tw o S M0) 0 0 4 0 [(0, rf E o), (1, .int p1), (2, .int p2), (3, .int p3)] [] (QM E G (some (.int r)) (tw o S' M0) 0 0)
  rw [← eQ]
  refine V_aload_n hG 0 rfl dX7_ahead_0 ?_
  refine V_iconst hG 0 rfl dX7_ahead_1 ?_
  obtain ⟨S_1, eS_1, h⟩ := be_of h
  refine p7_160 hM hG eS_1 dX7_ahead_2 ?_
  refine V_iload_n hG 1 rfl dX7_ahead_5 ?_
  refine V_iconst hG 0 rfl dX7_ahead_6 ?_
  refine V_sipush hG 200 (by decide) dX7_ahead_7 ?_
  obtain ⟨r_3, hc_2, h⟩ := bd_of h
  refine V_callS0 hE hG (As := [.int p1, .int 0, .int 200]) (rest := []) (ok_tw_isIn hE hM hc_2) hw7_205 hd_tw_isIn ⟨Nat.le_of_ble_eq_true rfl, Nat.le_of_ble_eq_true rfl⟩ rfl rfl (Nat.le_of_ble_eq_true rfl) rfl rfl dX7_ahead_10 ?_
  refine V_if_eq hG 51 dX7_ahead_13 (by decide) (fun c_4 => ?_) (fun c_4 => ?_)
  · have h := if_t c_4 h
    refine V_iconst hG (-1) rfl dX7_ahead_51 ?_
    cases h
    subst eQ
    exact V_iret hG dX7_ahead_52
  · have h := if_f c_4 h
    refine V_iload_n hG 2 rfl dX7_ahead_16 ?_
    refine V_iconst hG 0 rfl dX7_ahead_17 ?_
    refine V_iconst hG 4 rfl dX7_ahead_18 ?_
    obtain ⟨r_6, hc_5, h⟩ := bd_of h
    refine V_callS0 hE hG (As := [.int p2, .int 0, .int 4]) (rest := []) (ok_tw_isIn hE hM hc_5) hw7_205 hd_tw_isIn ⟨Nat.le_of_ble_eq_true rfl, Nat.le_of_ble_eq_true rfl⟩ rfl rfl (Nat.le_of_ble_eq_true rfl) rfl rfl dX7_ahead_19 ?_
    refine V_if_eq hG 51 dX7_ahead_22 (by decide) (fun c_7 => ?_) (fun c_7 => ?_)
    · have h := if_t c_7 h
      refine V_iconst hG (-1) rfl dX7_ahead_51 ?_
      cases h
      subst eQ
      exact V_iret hG dX7_ahead_52
    · have h := if_f c_7 h
      refine V_iload_n hG 2 rfl dX7_ahead_25 ?_
      refine V_iconst hG 2 rfl dX7_ahead_26 ?_
      obtain ⟨k_8, ek_8, h⟩ := bek1_of h
      have J_9 : ∀ (u_10 : Unit), k_8 u_10 = some (r, S') → V E G (tw o S_1 M0) 0 0 4 38 [(0, rf E o), (1, .int p1), (2, .int p2), (3, .int p3)] [] Q := by
        intro u_10 h
        have h := ek_8 _ _ h
        refine V_iload_n hG 2 rfl dX7_ahead_38 ?_
        refine V_iconst hG 3 rfl dX7_ahead_39 ?_
        obtain ⟨k_11, ek_11, h⟩ := bek1_of h
        have J_12 : ∀ (u_13 : Unit), k_11 u_13 = some (r, S') → V E G (tw o S_1 M0) 0 0 4 53 [(0, rf E o), (1, .int p1), (2, .int p2), (3, .int p3)] [] Q := by
          intro u_13 h
          have h := ek_11 _ _ h
          refine V_aload_n hG 0 rfl dX7_ahead_53 ?_
          obtain ⟨S_15, hc_14, h⟩ := bd_of h
          refine V_callV0 hE hG (As := []) (rest := []) (ok_tw_layTried hE hM hc_14) hM.1 (by decide) rfl hw7_473 hd_tw_layTried ⟨Nat.le_of_ble_eq_true rfl, Nat.le_of_ble_eq_true rfl⟩ rfl rfl (Nat.le_of_ble_eq_true rfl) rfl rfl dX7_ahead_54 ?_
          refine V_aload_n hG 0 rfl dX7_ahead_57 ?_
          refine V_iload_n hG 1 rfl dX7_ahead_58 ?_
          obtain ⟨S_17, hc_16, h⟩ := bd_of h
          refine V_callV0 hE hG (As := [.int p1]) (rest := []) (ok_tw_goMany hE hM hc_16) hM.1 (by decide) rfl hw7_476 hd_tw_goMany ⟨Nat.le_of_ble_eq_true rfl, Nat.le_of_ble_eq_true rfl⟩ rfl rfl (Nat.le_of_ble_eq_true rfl) rfl rfl dX7_ahead_59 ?_
          refine V_iload_n hG 2 rfl dX7_ahead_62 ?_
          by_cases c_18 : p2 = 0
          · have h := if_t c_18 h
            refine V_tableIn hG 92 dX7_ahead_63 (by rw [c_18]; decide) (by rw [c_18]; decide) (by rw [c_18]; rfl) (by decide) ?_
            refine V_aload_n hG 0 rfl dX7_ahead_92 ?_
            refine g7_115 hM hG dX7_ahead_93 ?_
            refine V_iconst hG 1 rfl dX7_ahead_96 ?_
            refine T_iaload hM hG (by decide) (by decide) dX7_ahead_97 ?_
            refine V_aload_n hG 0 rfl dX7_ahead_98 ?_
            refine g7_115 hM hG dX7_ahead_99 ?_
            refine V_iconst hG 0 rfl dX7_ahead_102 ?_
            refine T_iaload hM hG (by decide) (by decide) dX7_ahead_103 ?_
            refine V_isub hG dX7_ahead_104 ?_
            cases h
            subst eQ
            exact V_iret hG dX7_ahead_105
          have h := if_f c_18 h
          by_cases c_19 : p2 = 1
          · have h := if_t c_19 h
            refine V_tableIn hG 106 dX7_ahead_63 (by rw [c_19]; decide) (by rw [c_19]; decide) (by rw [c_19]; rfl) (by decide) ?_
            refine V_aload_n hG 0 rfl dX7_ahead_106 ?_
            refine g7_118 hM hG dX7_ahead_107 ?_
            refine V_iconst hG 1 rfl dX7_ahead_110 ?_
            refine T_iaload hM hG (by decide) (by decide) dX7_ahead_111 ?_
            refine V_aload_n hG 0 rfl dX7_ahead_112 ?_
            refine g7_118 hM hG dX7_ahead_113 ?_
            refine V_iconst hG 0 rfl dX7_ahead_116 ?_
            refine T_iaload hM hG (by decide) (by decide) dX7_ahead_117 ?_
            refine V_isub hG dX7_ahead_118 ?_
            cases h
            subst eQ
            exact V_iret hG dX7_ahead_119
          have h := if_f c_19 h
          by_cases c_20 : p2 = 2
          · have h := if_t c_20 h
            refine V_tableIn hG 120 dX7_ahead_63 (by rw [c_20]; decide) (by rw [c_20]; decide) (by rw [c_20]; rfl) (by decide) ?_
            refine V_aload_n hG 0 rfl dX7_ahead_120 ?_
            refine g7_97 hM hG dX7_ahead_121 ?_
            refine V_bipush hG 6 (by decide) dX7_ahead_124 ?_
            refine V_iload_n hG 3 rfl dX7_ahead_126 ?_
            refine V_iadd hG dX7_ahead_127 ?_
            obtain ⟨g_21, h⟩ := gd_of h
            refine T_iaload hM hG (by decide) g_21 dX7_ahead_128 ?_
            cases h
            subst eQ
            exact V_iret hG dX7_ahead_129
          have h := if_f c_20 h
          by_cases c_22 : p2 = 3
          · have h := if_t c_22 h
            refine V_tableIn hG 130 dX7_ahead_63 (by rw [c_22]; decide) (by rw [c_22]; decide) (by rw [c_22]; rfl) (by decide) ?_
            refine V_aload_n hG 0 rfl dX7_ahead_130 ?_
            refine g7_112 hM hG dX7_ahead_131 ?_
            refine V_bipush hG 6 (by decide) dX7_ahead_134 ?_
            refine V_iload_n hG 3 rfl dX7_ahead_136 ?_
            refine V_iadd hG dX7_ahead_137 ?_
            obtain ⟨g_23, h⟩ := gd_of h
            refine T_iaload hM hG (by decide) g_23 dX7_ahead_138 ?_
            cases h
            subst eQ
            exact V_iret hG dX7_ahead_139
          have h := if_f c_22 h
          refine V_tableOut hG 140 dX7_ahead_63 (by have := lv_neT c_18 (show Int32.toInt 0 = 0 from rfl); have := lv_neT c_19 (show Int32.toInt 1 = 1 from rfl); have := lv_neT c_20 (show Int32.toInt 2 = 2 from rfl); have := lv_neT c_22 (show Int32.toInt 3 = 3 from rfl); omega) (by decide) ?_
          refine V_aload_n hG 0 rfl dX7_ahead_140 ?_
          refine V_iconst hG 1 rfl dX7_ahead_141 ?_
          obtain ⟨r_25, hc_24, h⟩ := bd_of h
          refine V_callV0 hE hG (As := [.int 1]) (rest := []) (ok_tw_onMany hE hM hc_24) hM.1 (by decide) rfl hw7_479 hd_tw_onMany ⟨Nat.le_of_ble_eq_true rfl, Nat.le_of_ble_eq_true rfl⟩ rfl rfl (Nat.le_of_ble_eq_true rfl) rfl rfl dX7_ahead_142 ?_
          cases h
          subst eQ
          exact V_iret hG dX7_ahead_145
        refine V_icmp_ne hG 53 dX7_ahead_40 (by decide) (fun c_26 => ?_) (fun c_26 => ?_)
        · have h := if_f c_26 h
          exact J_12 (()) h
        · have h := if_t c_26 h
          refine V_aload_n hG 0 rfl dX7_ahead_43 ?_
          refine V_iload_n hG 3 rfl dX7_ahead_44 ?_
          obtain ⟨r_28, hc_27, h⟩ := bd_of h
          refine V_callV0 hE hG (As := [.int p3]) (rest := []) (ok_tw_isTrough hE hM hc_27) hM.1 (by decide) rfl hw7_465 hd_tw_isTrough ⟨Nat.le_of_ble_eq_true rfl, Nat.le_of_ble_eq_true rfl⟩ rfl rfl (Nat.le_of_ble_eq_true rfl) rfl rfl dX7_ahead_45 ?_
          refine V_if_ne hG 53 dX7_ahead_48 (by decide) (fun c_29 => ?_) (fun c_29 => ?_)
          · have h := if_f c_29 h
            exact J_12 (()) h
          · have h := if_t c_29 h
            refine V_iconst hG (-1) rfl dX7_ahead_51 ?_
            cases h
            subst eQ
            exact V_iret hG dX7_ahead_52
      refine V_icmp_ne hG 38 dX7_ahead_27 (by decide) (fun c_30 => ?_) (fun c_30 => ?_)
      · have h := if_f c_30 h
        exact J_9 (()) h
      · have h := if_t c_30 h
        refine V_aload_n hG 0 rfl dX7_ahead_30 ?_
        refine V_iload_n hG 3 rfl dX7_ahead_31 ?_
        obtain ⟨r_32, hc_31, h⟩ := bd_of h
        refine V_callV0 hE hG (As := [.int p3]) (rest := []) (ok_tw_isHorse hE hM hc_31) hM.1 (by decide) rfl hw7_459 hd_tw_isHorse ⟨Nat.le_of_ble_eq_true rfl, Nat.le_of_ble_eq_true rfl⟩ rfl rfl (Nat.le_of_ble_eq_true rfl) rfl rfl dX7_ahead_32 ?_
        refine V_if_eq hG 51 dX7_ahead_35 (by decide) (fun c_33 => ?_) (fun c_33 => ?_)
        · have h := if_t c_33 h
          refine V_iconst hG (-1) rfl dX7_ahead_51 ?_
          cases h
          subst eQ
          exact V_iret hG dX7_ahead_52
        · have h := if_f c_33 h
          exact J_9 (()) h

def tw_areTwo (p1 : Int32) (p2 : Int32) (S : TS) : Option (Int32) :=
bd (tw_isHorse p1 S) fun r_2 =>
bd (if r_2 = 0 then (
some 0)
else (
bd (tw_isHorse p2 S) fun r_9 =>
if r_9 = 0 then (
some 0)
else (
if p1 = p2 then (
some 0)
else (
some 1))) : Option (Int32)) fun (t_3 : Int32) =>
gd (t_3 = 0 ∨ t_3 = 1) (
some t_3)
def rm_tw_areTwo : Room := { frames := 1, cells := 0, slots := 0, locals := 21 }
theorem ok_tw_areTwo {E : En} (hE : EOk E) {o : Nat} {M0 : Mem} (hM : TwS o M0) {p1 : Int32} {p2 : Int32} {S : TS} {r : Int32} (h : tw_areTwo p1 p2 S = some r) : CM E yX7_areTwo cX7_areTwo 3 (some .boolean) rm_tw_areTwo [rf E o, .int p1, .int p2] (tw o S M0) (some (.int r)) (tw o S M0) := by
  unfold tw_areTwo at h
  refine CM_intro (own := RX7) rfl (by decide) (Nat.le_of_ble_eq_true rfl) rfl (fun G hG => ?_)
  obtain ⟨Q, eQ⟩ : ∃ Q, Q = QM E G (some (.int r)) (tw o S M0) 0 0 := ⟨_, rfl⟩
  show V E G (tw o S M0) 0 0 3 0 [(0, rf E o), (1, .int p1), (2, .int p2)] [] (QM E G (some (.int r)) (tw o S M0) 0 0)
  rw [← eQ]
  refine V_aload_n hG 0 rfl dX7_areTwo_0 ?_
  refine V_iload_n hG 1 rfl dX7_areTwo_1 ?_
  obtain ⟨r_2, hc_1, h⟩ := bd_of h
  refine V_callV0 hE hG (As := [.int p1]) (rest := []) (ok_tw_isHorse hE hM hc_1) hM.1 (by decide) rfl hw7_459 hd_tw_isHorse ⟨Nat.le_of_ble_eq_true rfl, Nat.le_of_ble_eq_true rfl⟩ rfl rfl (Nat.le_of_ble_eq_true rfl) rfl rfl dX7_areTwo_2 ?_
  obtain ⟨t_3, hj_5, h⟩ := bd_of h
  have J_4 : V E G (tw o S M0) 0 0 3 26 [(0, rf E o), (1, .int p1), (2, .int p2)] [.int t_3] Q := by
    obtain ⟨g_6, h⟩ := gd_of h
    cases h
    subst eQ
    exact V_zret hG g_6 dX7_areTwo_26
  refine V_if_eq hG 25 dX7_areTwo_5 (by decide) (fun c_7 => ?_) (fun c_7 => ?_)
  · have hj_5 := if_t c_7 hj_5
    refine V_iconst hG 0 rfl dX7_areTwo_25 ?_
    cases hj_5
    exact J_4
  · have hj_5 := if_f c_7 hj_5
    refine V_aload_n hG 0 rfl dX7_areTwo_8 ?_
    refine V_iload_n hG 2 rfl dX7_areTwo_9 ?_
    obtain ⟨r_9, hc_8, hj_5⟩ := bd_of hj_5
    refine V_callV0 hE hG (As := [.int p2]) (rest := []) (ok_tw_isHorse hE hM hc_8) hM.1 (by decide) rfl hw7_459 hd_tw_isHorse ⟨Nat.le_of_ble_eq_true rfl, Nat.le_of_ble_eq_true rfl⟩ rfl rfl (Nat.le_of_ble_eq_true rfl) rfl rfl dX7_areTwo_10 ?_
    refine V_if_eq hG 25 dX7_areTwo_13 (by decide) (fun c_10 => ?_) (fun c_10 => ?_)
    · have hj_5 := if_t c_10 hj_5
      refine V_iconst hG 0 rfl dX7_areTwo_25 ?_
      cases hj_5
      exact J_4
    · have hj_5 := if_f c_10 hj_5
      refine V_iload_n hG 1 rfl dX7_areTwo_16 ?_
      refine V_iload_n hG 2 rfl dX7_areTwo_17 ?_
      refine V_icmp_eq hG 25 dX7_areTwo_18 (by decide) (fun c_11 => ?_) (fun c_11 => ?_)
      · have hj_5 := if_t c_11 hj_5
        refine V_iconst hG 0 rfl dX7_areTwo_25 ?_
        cases hj_5
        exact J_4
      · have hj_5 := if_f c_11 hj_5
        refine V_iconst hG 1 rfl dX7_areTwo_21 ?_
        refine V_goto hG 26 dX7_areTwo_22 (by decide) ?_
        cases hj_5
        exact J_4

def tw_atFirst_b2 (N : Nat) (p1 : Int32) (x2_17 : Int32) (S_18 : TS) : Option ((Int32 × TS) ⊕ (Int32 × TS)) :=
if 6 ≤ x2_17 then (
some (.inl (x2_17, S_18)))
else (
gd (inb x2_17 (lenA 7)) (
gd (inb ((6 * p1) + x2_17) (lenA 33)) (
be (tsI S_18 33 (Int32.toNatClampNeg ((6 * p1) + x2_17)) (tI S_18 7 (Int32.toNatClampNeg x2_17))) fun S_39 =>
be (x2_17 + 1) fun (x2_40 : Int32) =>
some (.inr (x2_40, S_39)))))
def tw_atFirst_b1 (N : Nat) (p1 : Int32) (x2_6 : Int32) (S_7 : TS) : Option ((Int32 × TS) ⊕ (Int32 × TS)) :=
if 6 ≤ x2_6 then (
some (.inl (x2_6, S_7)))
else (
gd (inb x2_6 (lenA 11)) (
gd (inb ((6 * p1) + x2_6) (lenA 27)) (
be (tsI S_7 27 (Int32.toNatClampNeg ((6 * p1) + x2_6)) (tI S_7 11 (Int32.toNatClampNeg x2_6))) fun S_45 =>
gd (inb x2_6 (lenA 12)) (
gd (inb ((6 * p1) + x2_6) (lenA 28)) (
be (tsI S_45 28 (Int32.toNatClampNeg ((6 * p1) + x2_6)) (tI S_45 12 (Int32.toNatClampNeg x2_6))) fun S_48 =>
gd (inb ((6 * p1) + x2_6) (lenA 29)) (
be (tsI S_48 29 (Int32.toNatClampNeg ((6 * p1) + x2_6)) (-1)) fun S_50 =>
gd (inb ((6 * p1) + x2_6) (lenA 30)) (
be (tsI S_50 30 (Int32.toNatClampNeg ((6 * p1) + x2_6)) 0) fun S_52 =>
gd (inb ((6 * p1) + x2_6) (lenA 31)) (
be (tsI S_52 31 (Int32.toNatClampNeg ((6 * p1) + x2_6)) 1) fun S_54 =>
gd (inb ((6 * p1) + x2_6) (lenA 32)) (
be (tsI S_54 32 (Int32.toNatClampNeg ((6 * p1) + x2_6)) 0) fun S_56 =>
be (x2_6 + 1) fun (x2_57 : Int32) =>
some (.inr (x2_57, S_56)))))))))))
def tw_atFirst (N : Nat) (p1 : Int32) (S : TS) : Option (TS) :=
bd2 (lp N (fun s_41 : Int32 × TS => tw_atFirst_b1 N p1 s_41.1 s_41.2) (0, S)) fun (x2_8 : Int32) (S_9 : TS) =>
bd2 (lp N (fun s_35 : Int32 × TS => tw_atFirst_b2 N p1 s_35.1 s_35.2) (0, S_9)) fun (x2_19 : Int32) (S_20 : TS) =>
gd (inb p1 (lenA 34)) (
be (tsI S_20 34 (Int32.toNatClampNeg p1) 0) fun S_24 =>
gd (inb p1 (lenA 35)) (
be (tsI S_24 35 (Int32.toNatClampNeg p1) 0) fun S_26 =>
gd (inb p1 (lenA 36)) (
be (tsI S_26 36 (Int32.toNatClampNeg p1) 0) fun S_28 =>
gd (inb p1 (lenA 37)) (
be (tsI S_28 37 (Int32.toNatClampNeg p1) 0) fun S_30 =>
gd (inb p1 (lenA 38)) (
be (tsI S_30 38 (Int32.toNatClampNeg p1) 0) fun S_32 =>
gd (inb p1 (lenA 39)) (
be (tsI S_32 39 (Int32.toNatClampNeg p1) 0) fun S_34 =>
some S_34))))))
def rm_tw_atFirst : Room := { frames := 0, cells := 0, slots := 0, locals := 0 }
theorem ok_tw_atFirst {E : En} (hE : EOk E) {o : Nat} {M0 : Mem} (hM : TwS o M0) {N : Nat} {p1 : Int32} {S : TS}  {S' : TS} (h : tw_atFirst N p1 S = some S') : CM E yX7_atFirst cX7_atFirst 3 none rm_tw_atFirst [rf E o, .int p1] (tw o S M0) none (tw o S' M0) := by
  unfold tw_atFirst at h
  refine CM_intro (own := RX7) rfl (by decide) (Nat.le_of_ble_eq_true rfl) rfl (fun G hG => ?_)
  obtain ⟨Q, eQ⟩ : ∃ Q, Q = QM E G none (tw o S' M0) 0 0 := ⟨_, rfl⟩
  show V E G (tw o S M0) 0 0 3 0 [(0, rf E o), (1, .int p1)] [] (QM E G none (tw o S' M0) 0 0)
  rw [← eQ]
  refine V_iconst hG 0 rfl dX7_atFirst_0 ?_
  refine V_istore_n hG rfl [(2, .int 0), (0, rf E o), (1, .int p1)] dX7_atFirst_1 (Nat.le_of_ble_eq_true rfl) rfl ?_
  obtain ⟨x2_8, S_9, hL_10, h⟩ := bd2_of h
  have J_5 : ∀ q_11 : Int32 × TS, q_11 = (x2_8, S_9) → V E G (tw o q_11.2 M0) 0 0 3 96 [(2, .int q_11.1), (0, rf E o), (1, .int p1)] [] Q := by
    intro q_11 e9
    subst q_11
    show V E G (tw o S_9 M0) 0 0 3 96 [(2, .int x2_8), (0, rf E o), (1, .int p1)] [] Q
    refine V_iconst hG 0 rfl dX7_atFirst_96 ?_
    refine V_istore_n hG rfl [(2, .int 0), (0, rf E o), (1, .int p1)] dX7_atFirst_97 (Nat.le_of_ble_eq_true rfl) rfl ?_
    obtain ⟨x2_19, S_20, hL_21, h⟩ := bd2_of h
    have J_16 : ∀ q_22 : Int32 × TS, q_22 = (x2_19, S_20) → V E G (tw o q_22.2 M0) 0 0 3 127 [(2, .int q_22.1), (0, rf E o), (1, .int p1)] [] Q := by
      intro q_22 e9
      subst q_22
      show V E G (tw o S_20 M0) 0 0 3 127 [(2, .int x2_19), (0, rf E o), (1, .int p1)] [] Q
      refine V_aload_n hG 1 rfl dX7_atFirst_127 ?_
      refine g7_115 hM hG dX7_atFirst_128 ?_
      refine V_iload_n hG 2 rfl dX7_atFirst_131 ?_
      refine V_iconst hG 0 rfl dX7_atFirst_132 ?_
      obtain ⟨g_23, h⟩ := gd_of h
      obtain ⟨S_24, eS_24, h⟩ := be_of h
      refine T_iastore hM hG eS_24 (by decide) g_23 dX7_atFirst_133 ?_
      refine V_aload_n hG 1 rfl dX7_atFirst_134 ?_
      refine g7_118 hM hG dX7_atFirst_135 ?_
      refine V_iload_n hG 2 rfl dX7_atFirst_138 ?_
      refine V_iconst hG 0 rfl dX7_atFirst_139 ?_
      obtain ⟨g_25, h⟩ := gd_of h
      obtain ⟨S_26, eS_26, h⟩ := be_of h
      refine T_iastore hM hG eS_26 (by decide) g_25 dX7_atFirst_140 ?_
      refine V_aload_n hG 1 rfl dX7_atFirst_141 ?_
      refine g7_121 hM hG dX7_atFirst_142 ?_
      refine V_iload_n hG 2 rfl dX7_atFirst_145 ?_
      refine V_iconst hG 0 rfl dX7_atFirst_146 ?_
      obtain ⟨g_27, h⟩ := gd_of h
      obtain ⟨S_28, eS_28, h⟩ := be_of h
      refine T_iastore hM hG eS_28 (by decide) g_27 dX7_atFirst_147 ?_
      refine V_aload_n hG 1 rfl dX7_atFirst_148 ?_
      refine g7_124 hM hG dX7_atFirst_149 ?_
      refine V_iload_n hG 2 rfl dX7_atFirst_152 ?_
      refine V_iconst hG 0 rfl dX7_atFirst_153 ?_
      obtain ⟨g_29, h⟩ := gd_of h
      obtain ⟨S_30, eS_30, h⟩ := be_of h
      refine T_iastore hM hG eS_30 (by decide) g_29 dX7_atFirst_154 ?_
      refine V_aload_n hG 1 rfl dX7_atFirst_155 ?_
      refine g7_127 hM hG dX7_atFirst_156 ?_
      refine V_iload_n hG 2 rfl dX7_atFirst_159 ?_
      refine V_iconst hG 0 rfl dX7_atFirst_160 ?_
      obtain ⟨g_31, h⟩ := gd_of h
      obtain ⟨S_32, eS_32, h⟩ := be_of h
      refine T_iastore hM hG eS_32 (by decide) g_31 dX7_atFirst_161 ?_
      refine V_aload_n hG 1 rfl dX7_atFirst_162 ?_
      refine g7_130 hM hG dX7_atFirst_163 ?_
      refine V_iload_n hG 2 rfl dX7_atFirst_166 ?_
      refine V_iconst hG 0 rfl dX7_atFirst_167 ?_
      obtain ⟨g_33, h⟩ := gd_of h
      obtain ⟨S_34, eS_34, h⟩ := be_of h
      refine T_iastore hM hG eS_34 (by decide) g_33 dX7_atFirst_168 ?_
      cases h
      subst eQ
      exact V_vret hG dX7_atFirst_169
    refine lp_walk (W := fun s_35 : Int32 × TS => V E G (tw o s_35.2 M0) 0 0 3 98 [(2, .int s_35.1), (0, rf E o), (1, .int p1)] [] Q) ?_ N (0, S_9) hL_21
    intro s_35 b_12 hb_13 hk_14 hx_15
    obtain ⟨x2_17, S_18⟩ := s_35
    have hb_13 : tw_atFirst_b2 N p1 x2_17 S_18 = some b_12 := hb_13
    unfold tw_atFirst_b2 at hb_13
    show V E G (tw o S_18 M0) 0 0 3 98 [(2, .int x2_17), (0, rf E o), (1, .int p1)] [] Q
    refine V_iload_n hG 0 rfl dX7_atFirst_98 ?_
    refine V_bipush hG 6 (by decide) dX7_atFirst_99 ?_
    refine V_icmp_ge hG 127 dX7_atFirst_101 (by decide) (fun c_36 => ?_) (fun c_36 => ?_)
    · have hb_13 := if_t c_36 hb_13
      cases hb_13
      exact J_16 _ (hx_15 _ rfl)
    · have hb_13 := if_f c_36 hb_13
      refine V_aload_n hG 1 rfl dX7_atFirst_104 ?_
      refine g7_112 hM hG dX7_atFirst_105 ?_
      refine V_bipush hG 6 (by decide) dX7_atFirst_108 ?_
      refine V_iload_n hG 2 rfl dX7_atFirst_110 ?_
      refine V_imul hG dX7_atFirst_111 ?_
      refine V_iload_n hG 0 rfl dX7_atFirst_112 ?_
      refine V_iadd hG dX7_atFirst_113 ?_
      refine V_aload_n hG 1 rfl dX7_atFirst_114 ?_
      refine g7_33 hM hG dX7_atFirst_115 ?_
      refine V_iload_n hG 0 rfl dX7_atFirst_118 ?_
      obtain ⟨g_37, hb_13⟩ := gd_of hb_13
      refine T_iaload hM hG (by decide) g_37 dX7_atFirst_119 ?_
      obtain ⟨g_38, hb_13⟩ := gd_of hb_13
      obtain ⟨S_39, eS_39, hb_13⟩ := be_of hb_13
      refine T_iastore hM hG eS_39 (by decide) g_38 dX7_atFirst_120 ?_
      obtain ⟨x2_40, ex2_40, hb_13⟩ := be_of hb_13
      refine V_iinc hG 0 x2_40 rfl (by rw [ex2_40]; rfl) [(2, .int x2_40), (0, rf E o), (1, .int p1)] dX7_atFirst_121 (Nat.le_of_ble_eq_true rfl) rfl ?_
      refine V_goto hG 98 dX7_atFirst_124 (by decide) ?_
      cases hb_13
      exact hk_14 _ rfl
  refine lp_walk (W := fun s_41 : Int32 × TS => V E G (tw o s_41.2 M0) 0 0 3 2 [(2, .int s_41.1), (0, rf E o), (1, .int p1)] [] Q) ?_ N (0, S) hL_10
  intro s_41 b_1 hb_2 hk_3 hx_4
  obtain ⟨x2_6, S_7⟩ := s_41
  have hb_2 : tw_atFirst_b1 N p1 x2_6 S_7 = some b_1 := hb_2
  unfold tw_atFirst_b1 at hb_2
  show V E G (tw o S_7 M0) 0 0 3 2 [(2, .int x2_6), (0, rf E o), (1, .int p1)] [] Q
  refine V_iload_n hG 0 rfl dX7_atFirst_2 ?_
  refine V_bipush hG 6 (by decide) dX7_atFirst_3 ?_
  refine V_icmp_ge hG 96 dX7_atFirst_5 (by decide) (fun c_42 => ?_) (fun c_42 => ?_)
  · have hb_2 := if_t c_42 hb_2
    cases hb_2
    exact J_5 _ (hx_4 _ rfl)
  · have hb_2 := if_f c_42 hb_2
    refine V_aload_n hG 1 rfl dX7_atFirst_8 ?_
    refine g7_94 hM hG dX7_atFirst_9 ?_
    refine V_bipush hG 6 (by decide) dX7_atFirst_12 ?_
    refine V_iload_n hG 2 rfl dX7_atFirst_14 ?_
    refine V_imul hG dX7_atFirst_15 ?_
    refine V_iload_n hG 0 rfl dX7_atFirst_16 ?_
    refine V_iadd hG dX7_atFirst_17 ?_
    refine V_aload_n hG 1 rfl dX7_atFirst_18 ?_
    refine g7_45 hM hG dX7_atFirst_19 ?_
    refine V_iload_n hG 0 rfl dX7_atFirst_22 ?_
    obtain ⟨g_43, hb_2⟩ := gd_of hb_2
    refine T_iaload hM hG (by decide) g_43 dX7_atFirst_23 ?_
    obtain ⟨g_44, hb_2⟩ := gd_of hb_2
    obtain ⟨S_45, eS_45, hb_2⟩ := be_of hb_2
    refine T_iastore hM hG eS_45 (by decide) g_44 dX7_atFirst_24 ?_
    refine V_aload_n hG 1 rfl dX7_atFirst_25 ?_
    refine g7_97 hM hG dX7_atFirst_26 ?_
    refine V_bipush hG 6 (by decide) dX7_atFirst_29 ?_
    refine V_iload_n hG 2 rfl dX7_atFirst_31 ?_
    refine V_imul hG dX7_atFirst_32 ?_
    refine V_iload_n hG 0 rfl dX7_atFirst_33 ?_
    refine V_iadd hG dX7_atFirst_34 ?_
    refine V_aload_n hG 1 rfl dX7_atFirst_35 ?_
    refine g7_48 hM hG dX7_atFirst_36 ?_
    refine V_iload_n hG 0 rfl dX7_atFirst_39 ?_
    obtain ⟨g_46, hb_2⟩ := gd_of hb_2
    refine T_iaload hM hG (by decide) g_46 dX7_atFirst_40 ?_
    obtain ⟨g_47, hb_2⟩ := gd_of hb_2
    obtain ⟨S_48, eS_48, hb_2⟩ := be_of hb_2
    refine T_iastore hM hG eS_48 (by decide) g_47 dX7_atFirst_41 ?_
    refine V_aload_n hG 1 rfl dX7_atFirst_42 ?_
    refine g7_100 hM hG dX7_atFirst_43 ?_
    refine V_bipush hG 6 (by decide) dX7_atFirst_46 ?_
    refine V_iload_n hG 2 rfl dX7_atFirst_48 ?_
    refine V_imul hG dX7_atFirst_49 ?_
    refine V_iload_n hG 0 rfl dX7_atFirst_50 ?_
    refine V_iadd hG dX7_atFirst_51 ?_
    refine V_iconst hG (-1) rfl dX7_atFirst_52 ?_
    obtain ⟨g_49, hb_2⟩ := gd_of hb_2
    obtain ⟨S_50, eS_50, hb_2⟩ := be_of hb_2
    refine T_iastore hM hG eS_50 (by decide) g_49 dX7_atFirst_53 ?_
    refine V_aload_n hG 1 rfl dX7_atFirst_54 ?_
    refine g7_103 hM hG dX7_atFirst_55 ?_
    refine V_bipush hG 6 (by decide) dX7_atFirst_58 ?_
    refine V_iload_n hG 2 rfl dX7_atFirst_60 ?_
    refine V_imul hG dX7_atFirst_61 ?_
    refine V_iload_n hG 0 rfl dX7_atFirst_62 ?_
    refine V_iadd hG dX7_atFirst_63 ?_
    refine V_iconst hG 0 rfl dX7_atFirst_64 ?_
    obtain ⟨g_51, hb_2⟩ := gd_of hb_2
    obtain ⟨S_52, eS_52, hb_2⟩ := be_of hb_2
    refine T_iastore hM hG eS_52 (by decide) g_51 dX7_atFirst_65 ?_
    refine V_aload_n hG 1 rfl dX7_atFirst_66 ?_
    refine g7_106 hM hG dX7_atFirst_67 ?_
    refine V_bipush hG 6 (by decide) dX7_atFirst_70 ?_
    refine V_iload_n hG 2 rfl dX7_atFirst_72 ?_
    refine V_imul hG dX7_atFirst_73 ?_
    refine V_iload_n hG 0 rfl dX7_atFirst_74 ?_
    refine V_iadd hG dX7_atFirst_75 ?_
    refine V_iconst hG 1 rfl dX7_atFirst_76 ?_
    obtain ⟨g_53, hb_2⟩ := gd_of hb_2
    obtain ⟨S_54, eS_54, hb_2⟩ := be_of hb_2
    refine T_zastore hM hG eS_54 (Or.inr rfl) (by decide) g_53 dX7_atFirst_77 ?_
    refine V_aload_n hG 1 rfl dX7_atFirst_78 ?_
    refine g7_109 hM hG dX7_atFirst_79 ?_
    refine V_bipush hG 6 (by decide) dX7_atFirst_82 ?_
    refine V_iload_n hG 2 rfl dX7_atFirst_84 ?_
    refine V_imul hG dX7_atFirst_85 ?_
    refine V_iload_n hG 0 rfl dX7_atFirst_86 ?_
    refine V_iadd hG dX7_atFirst_87 ?_
    refine V_iconst hG 0 rfl dX7_atFirst_88 ?_
    obtain ⟨g_55, hb_2⟩ := gd_of hb_2
    obtain ⟨S_56, eS_56, hb_2⟩ := be_of hb_2
    refine T_iastore hM hG eS_56 (by decide) g_55 dX7_atFirst_89 ?_
    obtain ⟨x2_57, ex2_57, hb_2⟩ := be_of hb_2
    refine V_iinc hG 0 x2_57 rfl (by rw [ex2_57]; rfl) [(2, .int x2_57), (0, rf E o), (1, .int p1)] dX7_atFirst_90 (Nat.le_of_ble_eq_true rfl) rfl ?_
    refine V_goto hG 2 dX7_atFirst_93 (by decide) ?_
    cases hb_2
    exact hk_3 _ rfl
