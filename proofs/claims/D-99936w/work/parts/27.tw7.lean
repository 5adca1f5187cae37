set_option maxRecDepth 100000
set_option maxHeartbeats 4000000
def tw_stops_b5 (N : Nat) (x4_58 : Int32) (x3_29 : Int32) (p1 : Int32) (p2 : Int32) (x5_72 : Int32) (S_73 : TS) : Option ((Int32 × TS) ⊕ (Int32 × TS)) :=
if tI S_73 0 12 ≤ x5_72 then (
some (.inl (x5_72, S_73)))
else (
gd (inb (6 + x4_58) (lenA 40)) (
bd (if 0 ≤ tI S_73 40 (Int32.toNatClampNeg (6 + x4_58)) then (
gd (inb (6 + x4_58) (lenA 40)) (
gd (inb x4_58 (lenA 6)) (
gd (inb x5_72 (lenA 6)) (
bd (tw_legOf p1 (tI S_73 6 (Int32.toNatClampNeg x4_58)) (tI S_73 6 (Int32.toNatClampNeg x5_72)) S_73) fun r_91 =>
be ((tI S_73 40 (Int32.toNatClampNeg (6 + x4_58))) + r_91) fun (x6_92 : Int32) =>
if x6_92 < 100 then (
gd (inb x5_72 (lenA 33)) (
be (if tI S_73 33 (Int32.toNatClampNeg x5_72) ≤ 0 then (
x6_92)
else (
0) : Int32) fun (y_98 : Int32) =>
gd (inb x5_72 (lenA 40)) (
if tI S_73 40 (Int32.toNatClampNeg x5_72) < 0 then (
gd (inb x5_72 (lenA 40)) (
be (tsI S_73 40 (Int32.toNatClampNeg x5_72) y_98) fun S_102 =>
some S_102))
else (
gd (inb x5_72 (lenA 40)) (
if tI S_73 40 (Int32.toNatClampNeg x5_72) ≤ y_98 then (
some S_73)
else (
gd (inb x5_72 (lenA 40)) (
be (tsI S_73 40 (Int32.toNatClampNeg x5_72) y_98) fun S_106 =>
some S_106)))))))
else (
some S_73)))))
else (
some S_73) : Option (TS)) fun (S_82 : TS) =>
be (x5_72 + 1) fun (x5_85 : Int32) =>
some (.inr (x5_85, S_82))))
def tw_stops_b4 (N : Nat) (x3_29 : Int32) (p1 : Int32) (p2 : Int32) (x4_58 : Int32) (S_59 : TS) : Option ((Int32 × TS) ⊕ (Int32 × TS)) :=
if tI S_59 0 12 ≤ x4_58 then (
some (.inl (x4_58, S_59)))
else (
bd2 (lp N (fun s_79 : Int32 × TS => tw_stops_b5 N x4_58 x3_29 p1 p2 s_79.1 s_79.2) (0, S_59)) fun (x5_74 : Int32) (S_75 : TS) =>
be (x4_58 + 1) fun (x4_78 : Int32) =>
some (.inr (x4_78, S_75)))
def tw_stops_b3 (N : Nat) (x3_29 : Int32) (p1 : Int32) (p2 : Int32) (x4_47 : Int32) (S_48 : TS) : Option ((Int32 × TS) ⊕ (Int32 × TS)) :=
if tI S_48 0 12 ≤ x4_47 then (
some (.inl (x4_47, S_48)))
else (
gd (inb x4_47 (lenA 40)) (
gd (inb (6 + x4_47) (lenA 40)) (
be (tsI S_48 40 (Int32.toNatClampNeg (6 + x4_47)) (tI S_48 40 (Int32.toNatClampNeg x4_47))) fun S_111 =>
be (x4_47 + 1) fun (x4_112 : Int32) =>
some (.inr (x4_112, S_111)))))
def tw_stops_b2 (N : Nat) (p1 : Int32) (p2 : Int32) (x3_29 : Int32) (S_30 : TS) : Option (((Int32 × TS) ⊕ (Int32 × TS)) ⊕ (Int32 × TS)) :=
if 14 ≤ x3_29 then (
some (.inl (.inl (x3_29, S_30))))
else (
gd (inb p2 (lenA 40)) (
if tI S_30 40 (Int32.toNatClampNeg p2) < 0 then (
bd2 (lp N (fun s_107 : Int32 × TS => tw_stops_b3 N x3_29 p1 p2 s_107.1 s_107.2) (0, S_30)) fun (x4_49 : Int32) (S_50 : TS) =>
bd2 (lp N (fun s_65 : Int32 × TS => tw_stops_b4 N x3_29 p1 p2 s_65.1 s_65.2) (0, S_50)) fun (x4_60 : Int32) (S_61 : TS) =>
be (x3_29 + 1) fun (x3_64 : Int32) =>
some (.inr (x3_64, S_61)))
else (
some (.inl (.inr (x3_29, S_30))))))
def tw_stops_b1 (N : Nat) (p1 : Int32) (p2 : Int32) (x3_18 : Int32) (S_19 : TS) : Option ((Int32 × TS) ⊕ (Int32 × TS)) :=
if tI S_19 0 12 ≤ x3_18 then (
some (.inl (x3_18, S_19)))
else (
gd (inb p1 (lenA 28)) (
gd (inb p1 (lenA 27)) (
gd (inb x3_18 (lenA 6)) (
bd (tw_legOf p1 (tI S_19 27 (Int32.toNatClampNeg p1)) (tI S_19 6 (Int32.toNatClampNeg x3_18)) S_19) fun r_122 =>
be ((tI S_19 28 (Int32.toNatClampNeg p1)) + r_122) fun (x4_123 : Int32) =>
bd (if x4_123 < 100 then (
gd (inb x3_18 (lenA 33)) (
if tI S_19 33 (Int32.toNatClampNeg x3_18) ≤ 0 then (
some x4_123)
else (
some 0)))
else (
some (-1)) : Option (Int32)) fun (t_124 : Int32) =>
gd (inb x3_18 (lenA 40)) (
be (tsI S_19 40 (Int32.toNatClampNeg x3_18) t_124) fun S_128 =>
be (x3_18 + 1) fun (x3_129 : Int32) =>
some (.inr (x3_129, S_128)))))))
def tw_stops (N : Nat) (p1 : Int32) (p2 : Int32) (S : TS) : Option (Int32 × TS) :=
be (tsI S 0 2 0) fun S_1 =>
bd (tw_isHorse p1 S_1) fun r_3 =>
if r_3 = 0 then (
some ((-1), S_1))
else (
bd (tw_isTrough p2 S_1) fun r_6 =>
if r_6 = 0 then (
some ((-1), S_1))
else (
gd (inb p1 (lenA 31)) (
if tI S_1 31 (Int32.toNatClampNeg p1) = 0 then (
some ((-2), S_1))
else (
gd (inb p1 (lenA 27)) (
gd (inb p2 (lenA 6)) (
if tI S_1 27 (Int32.toNatClampNeg p1) = tI S_1 6 (Int32.toNatClampNeg p2) then (
some (0, S_1))
else (
bd2 (lp N (fun s_116 : Int32 × TS => tw_stops_b1 N p1 p2 s_116.1 s_116.2) (0, S_1)) fun (x3_20 : Int32) (S_21 : TS) =>
bx2 (lp N (fun s_38 : Int32 × TS => tw_stops_b2 N p1 p2 s_38.1 s_38.2) (1, S_21)) (fun (x3_32 : Int32) (S_33 : TS) =>
some ((-2), S_33)) (fun (w_115 : Int32 × TS) => some w_115))))))))
def rm_tw_stops : Room := { frames := 2, cells := 0, slots := 0, locals := 43 }
theorem ok_tw_stops {E : En} (hE : EOk E) {o : Nat} {M0 : Mem} (hM : TwS o M0) {N : Nat} {p1 : Int32} {p2 : Int32} {S : TS} {r : Int32} {S' : TS} (h : tw_stops N p1 p2 S = some (r, S')) : CM E yX7_stops cX7_stops 7 (some .int) rm_tw_stops [rf E o, .int p1, .int p2] (tw o S M0) (some (.int r)) (tw o S' M0) := by
  unfold tw_stops at h
  refine CM_intro (own := RX7) rfl (by decide) (Nat.le_of_ble_eq_true rfl) rfl (fun G hG => ?_)
  obtain ⟨Q, eQ⟩ : ∃ Q, Q = QM E G (some (.int r)) (tw o S' M0) 0 0 := ⟨_, rfl⟩
  show V E G (tw o S M0) 0 0 7 0 [(0, rf E o), (1, .int p1), (2, .int p2)] [] (QM E G (some (.int r)) (tw o S' M0) 0 0)
  rw [← eQ]
  refine V_aload_n hG 0 rfl dX7_stops_0 ?_
  refine V_iconst hG 0 rfl dX7_stops_1 ?_
  obtain ⟨S_1, eS_1, h⟩ := be_of h
  refine p7_160 hM hG eS_1 dX7_stops_2 ?_
  refine V_aload_n hG 0 rfl dX7_stops_5 ?_
  refine V_iload_n hG 1 rfl dX7_stops_6 ?_
  obtain ⟨r_3, hc_2, h⟩ := bd_of h
  refine V_callV0 hE hG (As := [.int p1]) (rest := []) (ok_tw_isHorse hE hM hc_2) hM.1 (by decide) rfl hw7_459 hd_tw_isHorse ⟨Nat.le_of_ble_eq_true rfl, Nat.le_of_ble_eq_true rfl⟩ rfl rfl (Nat.le_of_ble_eq_true rfl) rfl rfl dX7_stops_7 ?_
  refine V_if_eq hG 21 dX7_stops_10 (by decide) (fun c_4 => ?_) (fun c_4 => ?_)
  · have h := if_t c_4 h
    refine V_iconst hG (-1) rfl dX7_stops_21 ?_
    cases h
    subst eQ
    exact V_iret hG dX7_stops_22
  · have h := if_f c_4 h
    refine V_aload_n hG 0 rfl dX7_stops_13 ?_
    refine V_iload_n hG 2 rfl dX7_stops_14 ?_
    obtain ⟨r_6, hc_5, h⟩ := bd_of h
    refine V_callV0 hE hG (As := [.int p2]) (rest := []) (ok_tw_isTrough hE hM hc_5) hM.1 (by decide) rfl hw7_465 hd_tw_isTrough ⟨Nat.le_of_ble_eq_true rfl, Nat.le_of_ble_eq_true rfl⟩ rfl rfl (Nat.le_of_ble_eq_true rfl) rfl rfl dX7_stops_15 ?_
    refine V_if_ne hG 23 dX7_stops_18 (by decide) (fun c_7 => ?_) (fun c_7 => ?_)
    · have h := if_f c_7 h
      refine V_aload_n hG 0 rfl dX7_stops_23 ?_
      refine g7_106 hM hG dX7_stops_24 ?_
      refine V_iload_n hG 1 rfl dX7_stops_27 ?_
      obtain ⟨g_8, h⟩ := gd_of h
      refine T_zaload hM hG (by decide) g_8 dX7_stops_28 ?_
      refine V_if_ne hG 35 dX7_stops_29 (by decide) (fun c_9 => ?_) (fun c_9 => ?_)
      · have h := if_f c_9 h
        refine V_aload_n hG 0 rfl dX7_stops_35 ?_
        refine g7_94 hM hG dX7_stops_36 ?_
        refine V_iload_n hG 1 rfl dX7_stops_39 ?_
        obtain ⟨g_10, h⟩ := gd_of h
        refine T_iaload hM hG (by decide) g_10 dX7_stops_40 ?_
        refine V_aload_n hG 0 rfl dX7_stops_41 ?_
        refine g7_30 hM hG dX7_stops_42 ?_
        refine V_iload_n hG 2 rfl dX7_stops_45 ?_
        obtain ⟨g_11, h⟩ := gd_of h
        refine T_iaload hM hG (by decide) g_11 dX7_stops_46 ?_
        refine V_icmp_ne hG 52 dX7_stops_47 (by decide) (fun c_12 => ?_) (fun c_12 => ?_)
        · have h := if_f c_12 h
          refine V_iconst hG 0 rfl dX7_stops_52 ?_
          refine V_istore_n hG rfl [(3, .int 0), (0, rf E o), (1, .int p1), (2, .int p2)] dX7_stops_53 (Nat.le_of_ble_eq_true rfl) rfl ?_
          obtain ⟨x3_20, S_21, hL_22, h⟩ := bd2_of h
          have J_17 : ∀ q_23 : Int32 × TS, q_23 = (x3_20, S_21) → V E G (tw o q_23.2 M0) 0 0 7 126 [(3, .int q_23.1), (0, rf E o), (1, .int p1), (2, .int p2)] [] Q := by
            intro q_23 e9
            subst q_23
            show V E G (tw o S_21 M0) 0 0 7 126 [(3, .int x3_20), (0, rf E o), (1, .int p1), (2, .int p2)] [] Q
            refine V_iconst hG 1 rfl dX7_stops_126 ?_
            refine V_istore_n hG rfl [(3, .int 1), (0, rf E o), (1, .int p1), (2, .int p2)] dX7_stops_127 (Nat.le_of_ble_eq_true rfl) rfl ?_
            obtain ⟨rr_35, hL_34, hl_36, hr_31⟩ := bx2_of h
            have J_28 : ∀ q_37 : Int32 × TS, Sum.inl q_37 = rr_35 → V E G (tw o q_37.2 M0) 0 0 7 329 [(3, .int q_37.1), (0, rf E o), (1, .int p1), (2, .int p2)] [] Q := by
              intro q_37 e9
              obtain ⟨x3_32, S_33⟩ := q_37
              have h := hl_36 x3_32 S_33 e9.symm
              show V E G (tw o S_33 M0) 0 0 7 329 [(3, .int x3_32), (0, rf E o), (1, .int p1), (2, .int p2)] [] Q
              refine V_bipush hG (-2) (by decide) dX7_stops_329 ?_
              cases h
              subst eQ
              exact V_iret hG dX7_stops_331
            refine lp_walk (W := fun s_38 : Int32 × TS => V E G (tw o s_38.2 M0) 0 0 7 128 [(3, .int s_38.1), (0, rf E o), (1, .int p1), (2, .int p2)] [] Q) ?_ N (1, S_21) hL_34
            intro s_38 b_24 hb_25 hk_26 hx_27
            obtain ⟨x3_29, S_30⟩ := s_38
            have hb_25 : tw_stops_b2 N p1 p2 x3_29 S_30 = some b_24 := hb_25
            unfold tw_stops_b2 at hb_25
            show V E G (tw o S_30 M0) 0 0 7 128 [(3, .int x3_29), (0, rf E o), (1, .int p1), (2, .int p2)] [] Q
            refine V_iload_n hG 0 rfl dX7_stops_128 ?_
            refine V_bipush hG 14 (by decide) dX7_stops_129 ?_
            refine V_icmp_ge hG 329 dX7_stops_131 (by decide) (fun c_39 => ?_) (fun c_39 => ?_)
            · have hb_25 := if_t c_39 hb_25
              cases hb_25
              exact J_28 _ (hx_27 _ rfl)
            · have hb_25 := if_f c_39 hb_25
              refine V_aload_n hG 1 rfl dX7_stops_134 ?_
              refine g7_133 hM hG dX7_stops_135 ?_
              refine V_iload_n hG 3 rfl dX7_stops_138 ?_
              obtain ⟨g_40, hb_25⟩ := gd_of hb_25
              refine T_iaload hM hG (by decide) g_40 dX7_stops_139 ?_
              refine V_if_lt hG 145 dX7_stops_140 (by decide) (fun c_41 => ?_) (fun c_41 => ?_)
              · have hb_25 := if_t c_41 hb_25
                refine V_iconst hG 0 rfl dX7_stops_145 ?_
                refine V_istore hG [(4, .int 0), (3, .int x3_29), (0, rf E o), (1, .int p1), (2, .int p2)] dX7_stops_146 (Nat.le_of_ble_eq_true rfl) rfl ?_
                obtain ⟨x4_49, S_50, hL_51, hb_25⟩ := bd2_of hb_25
                have J_46 : ∀ q_52 : Int32 × TS, q_52 = (x4_49, S_50) → V E G (tw o q_52.2 M0) 0 0 7 180 [(4, .int q_52.1), (3, .int x3_29), (0, rf E o), (1, .int p1), (2, .int p2)] [] Q := by
                  intro q_52 e9
                  subst q_52
                  show V E G (tw o S_50 M0) 0 0 7 180 [(4, .int x4_49), (3, .int x3_29), (0, rf E o), (1, .int p1), (2, .int p2)] [] Q
                  refine V_iconst hG 0 rfl dX7_stops_180 ?_
                  refine V_istore hG [(4, .int 0), (3, .int x3_29), (0, rf E o), (1, .int p1), (2, .int p2)] dX7_stops_181 (Nat.le_of_ble_eq_true rfl) rfl ?_
                  obtain ⟨x4_60, S_61, hL_62, hb_25⟩ := bd2_of hb_25
                  have J_57 : ∀ q_63 : Int32 × TS, q_63 = (x4_60, S_61) → V E G (tw o q_63.2 M0) 0 0 7 323 [(4, .int q_63.1), (3, .int x3_29), (0, rf E o), (1, .int p1), (2, .int p2)] [] Q := by
                    intro q_63 e9
                    subst q_63
                    show V E G (tw o S_61 M0) 0 0 7 323 [(4, .int x4_60), (3, .int x3_29), (0, rf E o), (1, .int p1), (2, .int p2)] [] Q
                    obtain ⟨x3_64, ex3_64, hb_25⟩ := be_of hb_25
                    refine V_iinc hG 1 x3_64 rfl (by rw [ex3_64]; rfl) [(3, .int x3_64), (4, .int x4_60), (0, rf E o), (1, .int p1), (2, .int p2)] dX7_stops_323 (Nat.le_of_ble_eq_true rfl) rfl ?_
                    refine V_goto hG 128 dX7_stops_326 (by decide) ?_
                    cases hb_25
                    exact V_lv [0, 2, 3, 4] rfl (hk_26 _ rfl)
                  refine lp_walk (W := fun s_65 : Int32 × TS => V E G (tw o s_65.2 M0) 0 0 7 183 [(4, .int s_65.1), (3, .int x3_29), (0, rf E o), (1, .int p1), (2, .int p2)] [] Q) ?_ N (0, S_50) hL_62
                  intro s_65 b_53 hb_54 hk_55 hx_56
                  obtain ⟨x4_58, S_59⟩ := s_65
                  have hb_54 : tw_stops_b4 N x3_29 p1 p2 x4_58 S_59 = some b_53 := hb_54
                  unfold tw_stops_b4 at hb_54
                  show V E G (tw o S_59 M0) 0 0 7 183 [(4, .int x4_58), (3, .int x3_29), (0, rf E o), (1, .int p1), (2, .int p2)] [] Q
                  refine V_iload hG 0 rfl dX7_stops_183 ?_
                  refine V_aload_n hG 2 rfl dX7_stops_185 ?_
                  refine g7_243 hM hG dX7_stops_186 ?_
                  refine V_icmp_ge hG 323 dX7_stops_189 (by decide) (fun c_66 => ?_) (fun c_66 => ?_)
                  · have hb_54 := if_t c_66 hb_54
                    cases hb_54
                    exact J_57 _ (hx_56 _ rfl)
                  · have hb_54 := if_f c_66 hb_54
                    refine V_iconst hG 0 rfl dX7_stops_192 ?_
                    refine V_istore hG [(5, .int 0), (4, .int x4_58), (3, .int x3_29), (0, rf E o), (1, .int p1), (2, .int p2)] dX7_stops_193 (Nat.le_of_ble_eq_true rfl) rfl ?_
                    obtain ⟨x5_74, S_75, hL_76, hb_54⟩ := bd2_of hb_54
                    have J_71 : ∀ q_77 : Int32 × TS, q_77 = (x5_74, S_75) → V E G (tw o q_77.2 M0) 0 0 7 317 [(5, .int q_77.1), (4, .int x4_58), (3, .int x3_29), (0, rf E o), (1, .int p1), (2, .int p2)] [] Q := by
                      intro q_77 e9
                      subst q_77
                      show V E G (tw o S_75 M0) 0 0 7 317 [(5, .int x5_74), (4, .int x4_58), (3, .int x3_29), (0, rf E o), (1, .int p1), (2, .int p2)] [] Q
                      obtain ⟨x4_78, ex4_78, hb_54⟩ := be_of hb_54
                      refine V_iinc hG 1 x4_78 rfl (by rw [ex4_78]; rfl) [(4, .int x4_78), (5, .int x5_74), (3, .int x3_29), (0, rf E o), (1, .int p1), (2, .int p2)] dX7_stops_317 (Nat.le_of_ble_eq_true rfl) rfl ?_
                      refine V_goto hG 183 dX7_stops_320 (by decide) ?_
                      cases hb_54
                      exact V_lv [0, 2, 3, 4, 5] rfl (hk_55 _ rfl)
                    refine lp_walk (W := fun s_79 : Int32 × TS => V E G (tw o s_79.2 M0) 0 0 7 195 [(5, .int s_79.1), (4, .int x4_58), (3, .int x3_29), (0, rf E o), (1, .int p1), (2, .int p2)] [] Q) ?_ N (0, S_59) hL_76
                    intro s_79 b_67 hb_68 hk_69 hx_70
                    obtain ⟨x5_72, S_73⟩ := s_79
                    have hb_68 : tw_stops_b5 N x4_58 x3_29 p1 p2 x5_72 S_73 = some b_67 := hb_68
                    unfold tw_stops_b5 at hb_68
                    show V E G (tw o S_73 M0) 0 0 7 195 [(5, .int x5_72), (4, .int x4_58), (3, .int x3_29), (0, rf E o), (1, .int p1), (2, .int p2)] [] Q
                    refine V_iload hG 0 rfl dX7_stops_195 ?_
                    refine V_aload_n hG 3 rfl dX7_stops_197 ?_
                    refine g7_243 hM hG dX7_stops_198 ?_
                    refine V_icmp_ge hG 317 dX7_stops_201 (by decide) (fun c_80 => ?_) (fun c_80 => ?_)
                    · have hb_68 := if_t c_80 hb_68
                      cases hb_68
                      exact J_71 _ (hx_70 _ rfl)
                    · have hb_68 := if_f c_80 hb_68
                      refine V_aload_n hG 3 rfl dX7_stops_204 ?_
                      refine g7_133 hM hG dX7_stops_205 ?_
                      refine V_bipush hG 6 (by decide) dX7_stops_208 ?_
                      refine V_iload hG 1 rfl dX7_stops_210 ?_
                      refine V_iadd hG dX7_stops_212 ?_
                      obtain ⟨g_81, hb_68⟩ := gd_of hb_68
                      refine T_iaload hM hG (by decide) g_81 dX7_stops_213 ?_
                      obtain ⟨S_82, hj_84, hb_68⟩ := bd_of hb_68
                      have J_83 : V E G (tw o S_82 M0) 0 0 7 311 [(5, .int x5_72), (4, .int x4_58), (3, .int x3_29), (0, rf E o), (1, .int p1), (2, .int p2)] [] Q := by
                        obtain ⟨x5_85, ex5_85, hb_68⟩ := be_of hb_68
                        refine V_iinc hG 0 x5_85 rfl (by rw [ex5_85]; rfl) [(5, .int x5_85), (4, .int x4_58), (3, .int x3_29), (0, rf E o), (1, .int p1), (2, .int p2)] dX7_stops_311 (Nat.le_of_ble_eq_true rfl) rfl ?_
                        refine V_goto hG 195 dX7_stops_314 (by decide) ?_
                        cases hb_68
                        exact hk_69 _ rfl
                      refine V_if_ge hG 220 dX7_stops_214 (by decide) (fun c_86 => ?_) (fun c_86 => ?_)
                      · have hj_84 := if_t c_86 hj_84
                        refine V_aload_n hG 3 rfl dX7_stops_220 ?_
                        refine g7_133 hM hG dX7_stops_221 ?_
                        refine V_bipush hG 6 (by decide) dX7_stops_224 ?_
                        refine V_iload hG 1 rfl dX7_stops_226 ?_
                        refine V_iadd hG dX7_stops_228 ?_
                        obtain ⟨g_87, hj_84⟩ := gd_of hj_84
                        refine T_iaload hM hG (by decide) g_87 dX7_stops_229 ?_
                        refine V_aload_n hG 3 rfl dX7_stops_230 ?_
                        refine V_iload_n hG 4 rfl dX7_stops_231 ?_
                        refine V_aload_n hG 3 rfl dX7_stops_232 ?_
                        refine g7_30 hM hG dX7_stops_233 ?_
                        refine V_iload hG 1 rfl dX7_stops_236 ?_
                        obtain ⟨g_88, hj_84⟩ := gd_of hj_84
                        refine T_iaload hM hG (by decide) g_88 dX7_stops_238 ?_
                        refine V_aload_n hG 3 rfl dX7_stops_239 ?_
                        refine g7_30 hM hG dX7_stops_240 ?_
                        refine V_iload hG 0 rfl dX7_stops_243 ?_
                        obtain ⟨g_89, hj_84⟩ := gd_of hj_84
                        refine T_iaload hM hG (by decide) g_89 dX7_stops_245 ?_
                        obtain ⟨r_91, hc_90, hj_84⟩ := bd_of hj_84
                        refine V_callV0 hE hG (As := [.int p1, .int (tI S_73 6 (Int32.toNatClampNeg x4_58)), .int (tI S_73 6 (Int32.toNatClampNeg x5_72))]) (rest := [.int (tI S_73 40 (Int32.toNatClampNeg (6 + x4_58)))]) (ok_tw_legOf hE hM hc_90) hM.1 (by decide) rfl hw7_491 hd_tw_legOf ⟨Nat.le_of_ble_eq_true rfl, Nat.le_of_ble_eq_true rfl⟩ rfl rfl (Nat.le_of_ble_eq_true rfl) rfl rfl dX7_stops_246 ?_
                        refine V_iadd hG dX7_stops_249 ?_
                        obtain ⟨x6_92, ex6_92, hj_84⟩ := be_of hj_84
                        refine V_topi ex6_92 ?_
                        refine V_istore hG [(6, .int x6_92), (5, .int x5_72), (4, .int x4_58), (3, .int x3_29), (0, rf E o), (1, .int p1), (2, .int p2)] dX7_stops_250 (Nat.le_of_ble_eq_true rfl) rfl ?_
                        refine V_iload hG 0 rfl dX7_stops_252 ?_
                        refine V_bipush hG 100 (by decide) dX7_stops_254 ?_
                        refine V_icmp_lt hG 262 dX7_stops_256 (by decide) (fun c_93 => ?_) (fun c_93 => ?_)
                        · have hj_84 := if_t c_93 hj_84
                          refine V_aload_n hG 4 rfl dX7_stops_262 ?_
                          refine g7_112 hM hG dX7_stops_263 ?_
                          refine V_iload hG 1 rfl dX7_stops_266 ?_
                          obtain ⟨g_94, hj_84⟩ := gd_of hj_84
                          refine T_iaload hM hG (by decide) g_94 dX7_stops_268 ?_
                          obtain ⟨t_95, et_95, hj_84⟩ := be_of hj_84
                          have J_96 : ∀ y_98 : Int32, y_98 = t_95 → V E G (tw o S_73 M0) 0 0 7 278 [(6, .int x6_92), (5, .int x5_72), (4, .int x4_58), (3, .int x3_29), (0, rf E o), (1, .int p1), (2, .int p2)] [.int y_98] Q := by
                            intro y_98 ey
                            subst ey
                            refine V_istore hG [(6, .int y_98), (5, .int x5_72), (4, .int x4_58), (3, .int x3_29), (0, rf E o), (1, .int p1), (2, .int p2)] dX7_stops_278 (Nat.le_of_ble_eq_true rfl) rfl ?_
                            refine V_aload_n hG 4 rfl dX7_stops_280 ?_
                            refine g7_133 hM hG dX7_stops_281 ?_
                            refine V_iload hG 1 rfl dX7_stops_284 ?_
                            obtain ⟨g_99, hj_84⟩ := gd_of hj_84
                            refine T_iaload hM hG (by decide) g_99 dX7_stops_286 ?_
                            refine V_if_lt hG 302 dX7_stops_287 (by decide) (fun c_100 => ?_) (fun c_100 => ?_)
                            · have hj_84 := if_t c_100 hj_84
                              refine V_aload_n hG 4 rfl dX7_stops_302 ?_
                              refine g7_133 hM hG dX7_stops_303 ?_
                              refine V_iload hG 1 rfl dX7_stops_306 ?_
                              refine V_iload hG 0 rfl dX7_stops_308 ?_
                              obtain ⟨g_101, hj_84⟩ := gd_of hj_84
                              obtain ⟨S_102, eS_102, hj_84⟩ := be_of hj_84
                              refine T_iastore hM hG eS_102 (by decide) g_101 dX7_stops_310 ?_
                              cases hj_84
                              exact V_lv [1, 2, 3, 4, 5, 6] rfl (J_83)
                            · have hj_84 := if_f c_100 hj_84
                              refine V_iload hG 0 rfl dX7_stops_290 ?_
                              refine V_aload_n hG 4 rfl dX7_stops_292 ?_
                              refine g7_133 hM hG dX7_stops_293 ?_
                              refine V_iload hG 1 rfl dX7_stops_296 ?_
                              obtain ⟨g_103, hj_84⟩ := gd_of hj_84
                              refine T_iaload hM hG (by decide) g_103 dX7_stops_298 ?_
                              refine V_icmp_ge hG 311 dX7_stops_299 (by decide) (fun c_104 => ?_) (fun c_104 => ?_)
                              · have hj_84 := if_t c_104 hj_84
                                cases hj_84
                                exact V_lv [1, 2, 3, 4, 5, 6] rfl (J_83)
                              · have hj_84 := if_f c_104 hj_84
                                refine V_aload_n hG 4 rfl dX7_stops_302 ?_
                                refine g7_133 hM hG dX7_stops_303 ?_
                                refine V_iload hG 1 rfl dX7_stops_306 ?_
                                refine V_iload hG 0 rfl dX7_stops_308 ?_
                                obtain ⟨g_105, hj_84⟩ := gd_of hj_84
                                obtain ⟨S_106, eS_106, hj_84⟩ := be_of hj_84
                                refine T_iastore hM hG eS_106 (by decide) g_105 dX7_stops_310 ?_
                                cases hj_84
                                exact V_lv [1, 2, 3, 4, 5, 6] rfl (J_83)
                          refine V_if_le hG 276 dX7_stops_269 (by decide) (fun c_97 => ?_) (fun c_97 => ?_)
                          · refine V_iload hG 0 rfl dX7_stops_276 ?_
                            exact J_96 _ (by rw [et_95, if_pos c_97])
                          · refine V_iconst hG 0 rfl dX7_stops_272 ?_
                            refine V_goto hG 278 dX7_stops_273 (by decide) ?_
                            exact J_96 _ (by rw [et_95, if_neg c_97])
                        · have hj_84 := if_f c_93 hj_84
                          refine V_goto hG 311 dX7_stops_259 (by decide) ?_
                          cases hj_84
                          exact V_lv [1, 2, 3, 4, 5, 6] rfl (J_83)
                      · have hj_84 := if_f c_86 hj_84
                        refine V_goto hG 311 dX7_stops_217 (by decide) ?_
                        cases hj_84
                        exact J_83
                refine lp_walk (W := fun s_107 : Int32 × TS => V E G (tw o s_107.2 M0) 0 0 7 148 [(4, .int s_107.1), (3, .int x3_29), (0, rf E o), (1, .int p1), (2, .int p2)] [] Q) ?_ N (0, S_30) hL_51
                intro s_107 b_42 hb_43 hk_44 hx_45
                obtain ⟨x4_47, S_48⟩ := s_107
                have hb_43 : tw_stops_b3 N x3_29 p1 p2 x4_47 S_48 = some b_42 := hb_43
                unfold tw_stops_b3 at hb_43
                show V E G (tw o S_48 M0) 0 0 7 148 [(4, .int x4_47), (3, .int x3_29), (0, rf E o), (1, .int p1), (2, .int p2)] [] Q
                refine V_iload hG 0 rfl dX7_stops_148 ?_
                refine V_aload_n hG 2 rfl dX7_stops_150 ?_
                refine g7_243 hM hG dX7_stops_151 ?_
                refine V_icmp_ge hG 180 dX7_stops_154 (by decide) (fun c_108 => ?_) (fun c_108 => ?_)
                · have hb_43 := if_t c_108 hb_43
                  cases hb_43
                  exact J_46 _ (hx_45 _ rfl)
                · have hb_43 := if_f c_108 hb_43
                  refine V_aload_n hG 2 rfl dX7_stops_157 ?_
                  refine g7_133 hM hG dX7_stops_158 ?_
                  refine V_bipush hG 6 (by decide) dX7_stops_161 ?_
                  refine V_iload hG 0 rfl dX7_stops_163 ?_
                  refine V_iadd hG dX7_stops_165 ?_
                  refine V_aload_n hG 2 rfl dX7_stops_166 ?_
                  refine g7_133 hM hG dX7_stops_167 ?_
                  refine V_iload hG 0 rfl dX7_stops_170 ?_
                  obtain ⟨g_109, hb_43⟩ := gd_of hb_43
                  refine T_iaload hM hG (by decide) g_109 dX7_stops_172 ?_
                  obtain ⟨g_110, hb_43⟩ := gd_of hb_43
                  obtain ⟨S_111, eS_111, hb_43⟩ := be_of hb_43
                  refine T_iastore hM hG eS_111 (by decide) g_110 dX7_stops_173 ?_
                  obtain ⟨x4_112, ex4_112, hb_43⟩ := be_of hb_43
                  refine V_iinc hG 0 x4_112 rfl (by rw [ex4_112]; rfl) [(4, .int x4_112), (3, .int x3_29), (0, rf E o), (1, .int p1), (2, .int p2)] dX7_stops_174 (Nat.le_of_ble_eq_true rfl) rfl ?_
                  refine V_goto hG 148 dX7_stops_177 (by decide) ?_
                  cases hb_43
                  exact hk_44 _ rfl
              · have hb_25 := if_f c_41 hb_25
                refine V_iload_n hG 0 rfl dX7_stops_143 ?_
                cases hb_25
                have e_113 := hx_27 _ rfl
                have h_114 : some (x3_29, S_30) = some (r, S') := hr_31 _ e_113.symm
                cases h_114
                subst eQ
                exact V_iret hG dX7_stops_144
          refine lp_walk (W := fun s_116 : Int32 × TS => V E G (tw o s_116.2 M0) 0 0 7 54 [(3, .int s_116.1), (0, rf E o), (1, .int p1), (2, .int p2)] [] Q) ?_ N (0, S_1) hL_22
          intro s_116 b_13 hb_14 hk_15 hx_16
          obtain ⟨x3_18, S_19⟩ := s_116
          have hb_14 : tw_stops_b1 N p1 p2 x3_18 S_19 = some b_13 := hb_14
          unfold tw_stops_b1 at hb_14
          show V E G (tw o S_19 M0) 0 0 7 54 [(3, .int x3_18), (0, rf E o), (1, .int p1), (2, .int p2)] [] Q
          refine V_iload_n hG 0 rfl dX7_stops_54 ?_
          refine V_aload_n hG 1 rfl dX7_stops_55 ?_
          refine g7_243 hM hG dX7_stops_56 ?_
          refine V_icmp_ge hG 126 dX7_stops_59 (by decide) (fun c_117 => ?_) (fun c_117 => ?_)
          · have hb_14 := if_t c_117 hb_14
            cases hb_14
            exact J_17 _ (hx_16 _ rfl)
          · have hb_14 := if_f c_117 hb_14
            refine V_aload_n hG 1 rfl dX7_stops_62 ?_
            refine g7_97 hM hG dX7_stops_63 ?_
            refine V_iload_n hG 2 rfl dX7_stops_66 ?_
            obtain ⟨g_118, hb_14⟩ := gd_of hb_14
            refine T_iaload hM hG (by decide) g_118 dX7_stops_67 ?_
            refine V_aload_n hG 1 rfl dX7_stops_68 ?_
            refine V_iload_n hG 2 rfl dX7_stops_69 ?_
            refine V_aload_n hG 1 rfl dX7_stops_70 ?_
            refine g7_94 hM hG dX7_stops_71 ?_
            refine V_iload_n hG 2 rfl dX7_stops_74 ?_
            obtain ⟨g_119, hb_14⟩ := gd_of hb_14
            refine T_iaload hM hG (by decide) g_119 dX7_stops_75 ?_
            refine V_aload_n hG 1 rfl dX7_stops_76 ?_
            refine g7_30 hM hG dX7_stops_77 ?_
            refine V_iload_n hG 0 rfl dX7_stops_80 ?_
            obtain ⟨g_120, hb_14⟩ := gd_of hb_14
            refine T_iaload hM hG (by decide) g_120 dX7_stops_81 ?_
            obtain ⟨r_122, hc_121, hb_14⟩ := bd_of hb_14
            refine V_callV0 hE hG (As := [.int p1, .int (tI S_19 27 (Int32.toNatClampNeg p1)), .int (tI S_19 6 (Int32.toNatClampNeg x3_18))]) (rest := [.int (tI S_19 28 (Int32.toNatClampNeg p1))]) (ok_tw_legOf hE hM hc_121) hM.1 (by decide) rfl hw7_491 hd_tw_legOf ⟨Nat.le_of_ble_eq_true rfl, Nat.le_of_ble_eq_true rfl⟩ rfl rfl (Nat.le_of_ble_eq_true rfl) rfl rfl dX7_stops_82 ?_
            refine V_iadd hG dX7_stops_85 ?_
            obtain ⟨x4_123, ex4_123, hb_14⟩ := be_of hb_14
            refine V_topi ex4_123 ?_
            refine V_istore hG [(4, .int x4_123), (3, .int x3_18), (0, rf E o), (1, .int p1), (2, .int p2)] dX7_stops_86 (Nat.le_of_ble_eq_true rfl) rfl ?_
            refine V_aload_n hG 2 rfl dX7_stops_88 ?_
            refine g7_133 hM hG dX7_stops_89 ?_
            refine V_iload_n hG 1 rfl dX7_stops_92 ?_
            refine V_iload hG 0 rfl dX7_stops_93 ?_
            refine V_bipush hG 100 (by decide) dX7_stops_95 ?_
            obtain ⟨t_124, hj_126, hb_14⟩ := bd_of hb_14
            have J_125 : V E G (tw o S_19 M0) 0 0 7 119 [(4, .int x4_123), (3, .int x3_18), (0, rf E o), (1, .int p1), (2, .int p2)] [.int t_124, .int x3_18, rf E ((o + 40))] Q := by
              obtain ⟨g_127, hb_14⟩ := gd_of hb_14
              obtain ⟨S_128, eS_128, hb_14⟩ := be_of hb_14
              refine T_iastore hM hG eS_128 (by decide) g_127 dX7_stops_119 ?_
              obtain ⟨x3_129, ex3_129, hb_14⟩ := be_of hb_14
              refine V_iinc hG 1 x3_129 rfl (by rw [ex3_129]; rfl) [(3, .int x3_129), (4, .int x4_123), (0, rf E o), (1, .int p1), (2, .int p2)] dX7_stops_120 (Nat.le_of_ble_eq_true rfl) rfl ?_
              refine V_goto hG 54 dX7_stops_123 (by decide) ?_
              cases hb_14
              exact V_lv [0, 2, 3, 4] rfl (hk_15 _ rfl)
            refine V_icmp_lt hG 104 dX7_stops_97 (by decide) (fun c_130 => ?_) (fun c_130 => ?_)
            · have hj_126 := if_t c_130 hj_126
              refine V_aload_n hG 2 rfl dX7_stops_104 ?_
              refine g7_112 hM hG dX7_stops_105 ?_
              refine V_iload_n hG 1 rfl dX7_stops_108 ?_
              obtain ⟨g_131, hj_126⟩ := gd_of hj_126
              refine T_iaload hM hG (by decide) g_131 dX7_stops_109 ?_
              refine V_if_le hG 117 dX7_stops_110 (by decide) (fun c_132 => ?_) (fun c_132 => ?_)
              · have hj_126 := if_t c_132 hj_126
                refine V_iload hG 0 rfl dX7_stops_117 ?_
                cases hj_126
                exact J_125
              · have hj_126 := if_f c_132 hj_126
                refine V_iconst hG 0 rfl dX7_stops_113 ?_
                refine V_goto hG 119 dX7_stops_114 (by decide) ?_
                cases hj_126
                exact J_125
            · have hj_126 := if_f c_130 hj_126
              refine V_iconst hG (-1) rfl dX7_stops_100 ?_
              refine V_goto hG 119 dX7_stops_101 (by decide) ?_
              cases hj_126
              exact J_125
        · have h := if_t c_12 h
          refine V_iconst hG 0 rfl dX7_stops_50 ?_
          cases h
          subst eQ
          exact V_iret hG dX7_stops_51
      · have h := if_t c_9 h
        refine V_bipush hG (-2) (by decide) dX7_stops_32 ?_
        cases h
        subst eQ
        exact V_iret hG dX7_stops_34
    · have h := if_t c_7 h
      refine V_iconst hG (-1) rfl dX7_stops_21 ?_
      cases h
      subst eQ
      exact V_iret hG dX7_stops_22

def tw_strike (p1 : Int32) (S : TS) : Option (Int32 × TS) :=
be (tsI S 0 2 0) fun S_1 =>
bd2 (if tI S_1 0 74 = 24 then (
some ((-1), S_1))
else (
if p1 < 0 then (
some ((-1), S_1))
else (
if p1 < tI S_1 0 74 then (
bd2 (tw_noted (-1) p1 0 0 S_1) fun r_11 S_10 =>
some (r_11, S_10))
else (
some ((-1), S_1)))) : Option (Int32 × TS)) fun (t_2 : Int32) (S_3 : TS) =>
some (t_2, S_3)
def rm_tw_strike : Room := { frames := 1, cells := 0, slots := 0, locals := 24 }
theorem ok_tw_strike {E : En} (hE : EOk E) {o : Nat} {M0 : Mem} (hM : TwS o M0) {p1 : Int32} {S : TS} {r : Int32} {S' : TS} (h : tw_strike p1 S = some (r, S')) : CM E yX7_strike cX7_strike 2 (some .int) rm_tw_strike [rf E o, .int p1] (tw o S M0) (some (.int r)) (tw o S' M0) := by
  unfold tw_strike at h
  refine CM_intro (own := RX7) rfl (by decide) (Nat.le_of_ble_eq_true rfl) rfl (fun G hG => ?_)
  obtain ⟨Q, eQ⟩ : ∃ Q, Q = QM E G (some (.int r)) (tw o S' M0) 0 0 := ⟨_, rfl⟩
  show V E G (tw o S M0) 0 0 2 0 [(0, rf E o), (1, .int p1)] [] (QM E G (some (.int r)) (tw o S' M0) 0 0)
  rw [← eQ]
  refine V_aload_n hG 0 rfl dX7_strike_0 ?_
  refine V_iconst hG 0 rfl dX7_strike_1 ?_
  obtain ⟨S_1, eS_1, h⟩ := be_of h
  refine p7_160 hM hG eS_1 dX7_strike_2 ?_
  refine V_aload_n hG 0 rfl dX7_strike_5 ?_
  refine g7_377 hM hG dX7_strike_6 ?_
  refine V_bipush hG 24 (by decide) dX7_strike_9 ?_
  obtain ⟨t_2, S_3, hj_5, h⟩ := bd2_of h
  have J_4 : V E G (tw o S_3 M0) 0 0 2 38 [(0, rf E o), (1, .int p1)] [.int t_2] Q := by
    cases h
    subst eQ
    exact V_iret hG dX7_strike_38
  refine V_icmp_eq hG 26 dX7_strike_11 (by decide) (fun c_6 => ?_) (fun c_6 => ?_)
  · have hj_5 := if_t c_6 hj_5
    refine V_iconst hG (-1) rfl dX7_strike_26 ?_
    refine V_goto hG 38 dX7_strike_27 (by decide) ?_
    cases hj_5
    exact J_4
  · have hj_5 := if_f c_6 hj_5
    refine V_iload_n hG 1 rfl dX7_strike_14 ?_
    refine V_if_lt hG 26 dX7_strike_15 (by decide) (fun c_7 => ?_) (fun c_7 => ?_)
    · have hj_5 := if_t c_7 hj_5
      refine V_iconst hG (-1) rfl dX7_strike_26 ?_
      refine V_goto hG 38 dX7_strike_27 (by decide) ?_
      cases hj_5
      exact J_4
    · have hj_5 := if_f c_7 hj_5
      refine V_iload_n hG 1 rfl dX7_strike_18 ?_
      refine V_aload_n hG 0 rfl dX7_strike_19 ?_
      refine g7_377 hM hG dX7_strike_20 ?_
      refine V_icmp_lt hG 30 dX7_strike_23 (by decide) (fun c_8 => ?_) (fun c_8 => ?_)
      · have hj_5 := if_t c_8 hj_5
        refine V_aload_n hG 0 rfl dX7_strike_30 ?_
        refine V_iconst hG (-1) rfl dX7_strike_31 ?_
        refine V_iload_n hG 1 rfl dX7_strike_32 ?_
        refine V_iconst hG 0 rfl dX7_strike_33 ?_
        refine V_iconst hG 0 rfl dX7_strike_34 ?_
        obtain ⟨r_11, S_10, hc_9, hj_5⟩ := bd2_of hj_5
        refine V_callV0 hE hG (As := [.int (-1), .int p1, .int 0, .int 0]) (rest := []) (ok_tw_noted hE hM hc_9) hM.1 (by decide) rfl hw7_508 hd_tw_noted ⟨Nat.le_of_ble_eq_true rfl, Nat.le_of_ble_eq_true rfl⟩ rfl rfl (Nat.le_of_ble_eq_true rfl) rfl rfl dX7_strike_35 ?_
        cases hj_5
        exact J_4
      · have hj_5 := if_f c_8 hj_5
        refine V_iconst hG (-1) rfl dX7_strike_26 ?_
        refine V_goto hG 38 dX7_strike_27 (by decide) ?_
        cases hj_5
        exact J_4

def tw_text_b1 (N : Nat) (p1 : Int32) (S_18 : TS) : Option (((TS) ⊕ (Int32 × TS)) ⊕ (TS)) :=
if tI S_18 0 8 = 0 then (
some (.inl (.inl S_18)))
else (
bd2 (tw_lineRead N S_18) fun r_31 S_30 =>
if r_31 = 0 then (
some (.inl (.inr ((-1), S_30))))
else (
be (tsI S_30 0 21 ((tI S_30 0 21) + 1)) fun S_33 =>
some (.inr S_33)))
def tw_text (N : Nat) (p1 : Int32) (S : TS) : Option (Int32 × TS) :=
be (tsI S 0 2 0) fun S_1 =>
if p1 < 0 then (
some ((-2), S_1))
else (
if p1 ≤ tI S_1 0 1 then (
be (tsI S_1 0 6 p1) fun S_4 =>
be (tsI S_4 0 1 0) fun S_5 =>
be (tsI S_5 0 4 0) fun S_6 =>
be (tsI S_6 0 5 (-1)) fun S_7 =>
be (tsI S_7 0 7 0) fun S_8 =>
bd (tw_plain N S_8) fun S_10 =>
bd (tw_token N S_10) fun S_12 =>
bx (lp N (fun s_27 : TS => tw_text_b1 N p1 s_27) S_12) (fun (S_20 : TS) =>
bd (tw_keepText N S_20) fun S_26 =>
some (tI S_26 0 21, S_26)) (fun (w_36 : Int32 × TS) => some w_36))
else (
some ((-2), S_1)))
def rm_tw_text : Room := { frames := 5, cells := 0, slots := 0, locals := 114 }
theorem ok_tw_text {E : En} (hE : EOk E) {o : Nat} {M0 : Mem} (hM : TwS o M0) {N : Nat} {p1 : Int32} {S : TS} {r : Int32} {S' : TS} (h : tw_text N p1 S = some (r, S')) : CM E yX7_text cX7_text 2 (some .int) rm_tw_text [rf E o, .int p1] (tw o S M0) (some (.int r)) (tw o S' M0) := by
  unfold tw_text at h
  refine CM_intro (own := RX7) rfl (by decide) (Nat.le_of_ble_eq_true rfl) rfl (fun G hG => ?_)
  obtain ⟨Q, eQ⟩ : ∃ Q, Q = QM E G (some (.int r)) (tw o S' M0) 0 0 := ⟨_, rfl⟩
  show V E G (tw o S M0) 0 0 2 0 [(0, rf E o), (1, .int p1)] [] (QM E G (some (.int r)) (tw o S' M0) 0 0)
  rw [← eQ]
  refine V_aload_n hG 0 rfl dX7_text_0 ?_
  refine V_iconst hG 0 rfl dX7_text_1 ?_
  obtain ⟨S_1, eS_1, h⟩ := be_of h
  refine p7_160 hM hG eS_1 dX7_text_2 ?_
  refine V_iload_n hG 1 rfl dX7_text_5 ?_
  refine V_if_lt hG 17 dX7_text_6 (by decide) (fun c_2 => ?_) (fun c_2 => ?_)
  · have h := if_t c_2 h
    refine V_bipush hG (-2) (by decide) dX7_text_17 ?_
    cases h
    subst eQ
    exact V_iret hG dX7_text_19
  · have h := if_f c_2 h
    refine V_iload_n hG 1 rfl dX7_text_9 ?_
    refine V_aload_n hG 0 rfl dX7_text_10 ?_
    refine g7_163 hM hG dX7_text_11 ?_
    refine V_icmp_le hG 20 dX7_text_14 (by decide) (fun c_3 => ?_) (fun c_3 => ?_)
    · have h := if_t c_3 h
      refine V_aload_n hG 0 rfl dX7_text_20 ?_
      refine V_iload_n hG 1 rfl dX7_text_21 ?_
      obtain ⟨S_4, eS_4, h⟩ := be_of h
      refine p7_172 hM hG eS_4 dX7_text_22 ?_
      refine V_aload_n hG 0 rfl dX7_text_25 ?_
      refine V_iconst hG 0 rfl dX7_text_26 ?_
      obtain ⟨S_5, eS_5, h⟩ := be_of h
      refine p7_163 hM hG eS_5 dX7_text_27 ?_
      refine V_aload_n hG 0 rfl dX7_text_30 ?_
      refine V_iconst hG 0 rfl dX7_text_31 ?_
      obtain ⟨S_6, eS_6, h⟩ := be_of h
      refine p7_166 hM hG eS_6 dX7_text_32 ?_
      refine V_aload_n hG 0 rfl dX7_text_35 ?_
      refine V_iconst hG (-1) rfl dX7_text_36 ?_
      obtain ⟨S_7, eS_7, h⟩ := be_of h
      refine p7_16 hM hG eS_7 dX7_text_37 ?_
      refine V_aload_n hG 0 rfl dX7_text_40 ?_
      refine V_iconst hG 0 rfl dX7_text_41 ?_
      obtain ⟨S_8, eS_8, h⟩ := be_of h
      refine p7_175 hM hG eS_8 dX7_text_42 ?_
      refine V_aload_n hG 0 rfl dX7_text_45 ?_
      obtain ⟨S_10, hc_9, h⟩ := bd_of h
      refine V_callV0 hE hG (As := []) (rest := []) (ok_tw_plain hE hM hc_9) hM.1 (by decide) rfl hw7_154 hd_tw_plain ⟨Nat.le_of_ble_eq_true rfl, Nat.le_of_ble_eq_true rfl⟩ rfl rfl (Nat.le_of_ble_eq_true rfl) rfl rfl dX7_text_46 ?_
      refine V_aload_n hG 0 rfl dX7_text_49 ?_
      obtain ⟨S_12, hc_11, h⟩ := bd_of h
      refine V_callV0 hE hG (As := []) (rest := []) (ok_tw_token hE hM hc_11) hM.1 (by decide) rfl hw7_212 hd_tw_token ⟨Nat.le_of_ble_eq_true rfl, Nat.le_of_ble_eq_true rfl⟩ rfl rfl (Nat.le_of_ble_eq_true rfl) rfl rfl dX7_text_50 ?_
      obtain ⟨rr_22, hL_21, hl_23, hr_19⟩ := bx_of h
      have J_17 : ∀ q_24 : TS, Sum.inl q_24 = rr_22 → V E G (tw o q_24 M0) 0 0 2 82 [(0, rf E o), (1, .int p1)] [] Q := by
        intro q_24 e9
        obtain ⟨S_20, rfl⟩ : ∃ z, z = q_24 := ⟨_, rfl⟩
        have h := hl_23 S_20 e9.symm
        show V E G (tw o S_20 M0) 0 0 2 82 [(0, rf E o), (1, .int p1)] [] Q
        refine V_aload_n hG 0 rfl dX7_text_82 ?_
        obtain ⟨S_26, hc_25, h⟩ := bd_of h
        refine V_callV0 hE hG (As := []) (rest := []) (ok_tw_keepText hE hM hc_25) hM.1 (by decide) rfl hw7_157 hd_tw_keepText ⟨Nat.le_of_ble_eq_true rfl, Nat.le_of_ble_eq_true rfl⟩ rfl rfl (Nat.le_of_ble_eq_true rfl) rfl rfl dX7_text_83 ?_
        refine V_aload_n hG 0 rfl dX7_text_86 ?_
        refine g7_234 hM hG dX7_text_87 ?_
        cases h
        subst eQ
        exact V_iret hG dX7_text_90
      refine lp_walk (W := fun s_27 : TS => V E G (tw o s_27 M0) 0 0 2 53 [(0, rf E o), (1, .int p1)] [] Q) ?_ N S_12 hL_21
      intro s_27 b_13 hb_14 hk_15 hx_16
      obtain ⟨S_18, rfl⟩ : ∃ z, z = s_27 := ⟨_, rfl⟩
      have hb_14 : tw_text_b1 N p1 S_18 = some b_13 := hb_14
      unfold tw_text_b1 at hb_14
      show V E G (tw o S_18 M0) 0 0 2 53 [(0, rf E o), (1, .int p1)] [] Q
      refine V_aload_n hG 0 rfl dX7_text_53 ?_
      refine g7_178 hM hG dX7_text_54 ?_
      refine V_if_eq hG 82 dX7_text_57 (by decide) (fun c_28 => ?_) (fun c_28 => ?_)
      · have hb_14 := if_t c_28 hb_14
        cases hb_14
        exact J_17 _ (hx_16 _ rfl)
      · have hb_14 := if_f c_28 hb_14
        refine V_aload_n hG 0 rfl dX7_text_60 ?_
        obtain ⟨r_31, S_30, hc_29, hb_14⟩ := bd2_of hb_14
        refine V_callV0 hE hG (As := []) (rest := []) (ok_tw_lineRead hE hM hc_29) hM.1 (by decide) rfl hw7_295 hd_tw_lineRead ⟨Nat.le_of_ble_eq_true rfl, Nat.le_of_ble_eq_true rfl⟩ rfl rfl (Nat.le_of_ble_eq_true rfl) rfl rfl dX7_text_61 ?_
        refine V_if_ne hG 69 dX7_text_64 (by decide) (fun c_32 => ?_) (fun c_32 => ?_)
        · have hb_14 := if_f c_32 hb_14
          refine V_aload_n hG 0 rfl dX7_text_69 ?_
          refine V_dup hG rfl dX7_text_70 ?_
          refine g7_234 hM hG dX7_text_71 ?_
          refine V_iconst hG 1 rfl dX7_text_74 ?_
          refine V_iadd hG dX7_text_75 ?_
          obtain ⟨S_33, eS_33, hb_14⟩ := be_of hb_14
          refine p7_234 hM hG eS_33 dX7_text_76 ?_
          refine V_goto hG 53 dX7_text_79 (by decide) ?_
          cases hb_14
          exact hk_15 _ rfl
        · have hb_14 := if_t c_32 hb_14
          refine V_iconst hG (-1) rfl dX7_text_67 ?_
          cases hb_14
          have e_34 := hx_16 _ rfl
          have h_35 : some ((-1), S_30) = some (r, S') := hr_19 _ e_34.symm
          cases h_35
          subst eQ
          exact V_iret hG dX7_text_68
    · have h := if_f c_3 h
      refine V_bipush hG (-2) (by decide) dX7_text_17 ?_
      cases h
      subst eQ
      exact V_iret hG dX7_text_19

def tw_thirstiest_b1 (N : Nat) (S_1 : TS) (x2_7 : Int32) (x1_8 : Int32) : Option ((Int32 × Int32) ⊕ (Int32 × Int32)) :=
if tI S_1 0 13 ≤ x2_7 then (
some (.inl (x2_7, x1_8)))
else (
gd (inb x2_7 (lenA 31)) (
bd (if tI S_1 31 (Int32.toNatClampNeg x2_7) = 0 then (
some x1_8)
else (
if x1_8 < 0 then (
some x2_7)
else (
gd (inb x2_7 (lenA 28)) (
gd (inb x1_8 (lenA 28)) (
if tI S_1 28 (Int32.toNatClampNeg x2_7) ≤ tI S_1 28 (Int32.toNatClampNeg x1_8) then (
some x1_8)
else (
some x2_7))))) : Option (Int32)) fun (t_16 : Int32) =>
be (x2_7 + 1) fun (x2_19 : Int32) =>
some (.inr (x2_19, t_16))))
def tw_thirstiest (N : Nat)  (S : TS) : Option (Int32 × TS) :=
be (tsI S 0 2 0) fun S_1 =>
bd2 (lp N (fun s_13 : Int32 × Int32 => tw_thirstiest_b1 N S_1 s_13.1 s_13.2) (0, (-2))) fun (x2_9 : Int32) (x1_10 : Int32) =>
some (x1_10, S_1)
def rm_tw_thirstiest : Room := { frames := 0, cells := 0, slots := 0, locals := 0 }
theorem ok_tw_thirstiest {E : En} (hE : EOk E) {o : Nat} {M0 : Mem} (hM : TwS o M0) {N : Nat}  {S : TS} {r : Int32} {S' : TS} (h : tw_thirstiest N  S = some (r, S')) : CM E yX7_thirstiest cX7_thirstiest 3 (some .int) rm_tw_thirstiest [rf E o] (tw o S M0) (some (.int r)) (tw o S' M0) := by
  unfold tw_thirstiest at h
  refine CM_intro (own := RX7) rfl (by decide) (Nat.le_of_ble_eq_true rfl) rfl (fun G hG => ?_)
  obtain ⟨Q, eQ⟩ : ∃ Q, Q = QM E G (some (.int r)) (tw o S' M0) 0 0 := ⟨_, rfl⟩
  show V E G (tw o S M0) 0 0 3 0 [(0, rf E o)] [] (QM E G (some (.int r)) (tw o S' M0) 0 0)
  rw [← eQ]
  refine V_aload_n hG 0 rfl dX7_thirstiest_0 ?_
  refine V_iconst hG 0 rfl dX7_thirstiest_1 ?_
  obtain ⟨S_1, eS_1, h⟩ := be_of h
  refine p7_160 hM hG eS_1 dX7_thirstiest_2 ?_
  refine V_bipush hG (-2) (by decide) dX7_thirstiest_5 ?_
  refine V_istore_n hG rfl [(1, .int (-2)), (0, rf E o)] dX7_thirstiest_7 (Nat.le_of_ble_eq_true rfl) rfl ?_
  refine V_iconst hG 0 rfl dX7_thirstiest_8 ?_
  refine V_istore_n hG rfl [(2, .int 0), (1, .int (-2)), (0, rf E o)] dX7_thirstiest_9 (Nat.le_of_ble_eq_true rfl) rfl ?_
  obtain ⟨x2_9, x1_10, hL_11, h⟩ := bd2_of h
  have J_6 : ∀ q_12 : Int32 × Int32, q_12 = (x2_9, x1_10) → V E G (tw o S_1 M0) 0 0 3 58 [(2, .int q_12.1), (1, .int q_12.2), (0, rf E o)] [] Q := by
    intro q_12 e9
    subst q_12
    show V E G (tw o S_1 M0) 0 0 3 58 [(2, .int x2_9), (1, .int x1_10), (0, rf E o)] [] Q
    refine V_iload_n hG 1 rfl dX7_thirstiest_58 ?_
    cases h
    subst eQ
    exact V_iret hG dX7_thirstiest_59
  refine lp_walk (W := fun s_13 : Int32 × Int32 => V E G (tw o S_1 M0) 0 0 3 10 [(2, .int s_13.1), (1, .int s_13.2), (0, rf E o)] [] Q) ?_ N (0, (-2)) hL_11
  intro s_13 b_2 hb_3 hk_4 hx_5
  obtain ⟨x2_7, x1_8⟩ := s_13
  have hb_3 : tw_thirstiest_b1 N S_1 x2_7 x1_8 = some b_2 := hb_3
  unfold tw_thirstiest_b1 at hb_3
  show V E G (tw o S_1 M0) 0 0 3 10 [(2, .int x2_7), (1, .int x1_8), (0, rf E o)] [] Q
  refine V_iload_n hG 0 rfl dX7_thirstiest_10 ?_
  refine V_aload_n hG 2 rfl dX7_thirstiest_11 ?_
  refine g7_246 hM hG dX7_thirstiest_12 ?_
  refine V_icmp_ge hG 58 dX7_thirstiest_15 (by decide) (fun c_14 => ?_) (fun c_14 => ?_)
  · have hb_3 := if_t c_14 hb_3
    cases hb_3
    exact J_6 _ (hx_5 _ rfl)
  · have hb_3 := if_f c_14 hb_3
    refine V_aload_n hG 2 rfl dX7_thirstiest_18 ?_
    refine g7_106 hM hG dX7_thirstiest_19 ?_
    refine V_iload_n hG 0 rfl dX7_thirstiest_22 ?_
    obtain ⟨g_15, hb_3⟩ := gd_of hb_3
    refine T_zaload hM hG (by decide) g_15 dX7_thirstiest_23 ?_
    obtain ⟨t_16, hj_18, hb_3⟩ := bd_of hb_3
    have J_17 : V E G (tw o S_1 M0) 0 0 3 51 [(2, .int x2_7), (1, .int x1_8), (0, rf E o)] [.int t_16] Q := by
      refine V_istore_n hG rfl [(1, .int t_16), (2, .int x2_7), (0, rf E o)] dX7_thirstiest_51 (Nat.le_of_ble_eq_true rfl) rfl ?_
      obtain ⟨x2_19, ex2_19, hb_3⟩ := be_of hb_3
      refine V_iinc hG 1 x2_19 rfl (by rw [ex2_19]; rfl) [(2, .int x2_19), (1, .int t_16), (0, rf E o)] dX7_thirstiest_52 (Nat.le_of_ble_eq_true rfl) rfl ?_
      refine V_goto hG 10 dX7_thirstiest_55 (by decide) ?_
      cases hb_3
      exact hk_4 _ rfl
    refine V_if_eq hG 50 dX7_thirstiest_24 (by decide) (fun c_20 => ?_) (fun c_20 => ?_)
    · have hj_18 := if_t c_20 hj_18
      refine V_iload_n hG 1 rfl dX7_thirstiest_50 ?_
      cases hj_18
      exact J_17
    · have hj_18 := if_f c_20 hj_18
      refine V_iload_n hG 1 rfl dX7_thirstiest_27 ?_
      refine V_if_lt hG 46 dX7_thirstiest_28 (by decide) (fun c_21 => ?_) (fun c_21 => ?_)
      · have hj_18 := if_t c_21 hj_18
        refine V_iload_n hG 0 rfl dX7_thirstiest_46 ?_
        refine V_goto hG 51 dX7_thirstiest_47 (by decide) ?_
        cases hj_18
        exact J_17
      · have hj_18 := if_f c_21 hj_18
        refine V_aload_n hG 2 rfl dX7_thirstiest_31 ?_
        refine g7_97 hM hG dX7_thirstiest_32 ?_
        refine V_iload_n hG 0 rfl dX7_thirstiest_35 ?_
        obtain ⟨g_22, hj_18⟩ := gd_of hj_18
        refine T_iaload hM hG (by decide) g_22 dX7_thirstiest_36 ?_
        refine V_aload_n hG 2 rfl dX7_thirstiest_37 ?_
        refine g7_97 hM hG dX7_thirstiest_38 ?_
        refine V_iload_n hG 1 rfl dX7_thirstiest_41 ?_
        obtain ⟨g_23, hj_18⟩ := gd_of hj_18
        refine T_iaload hM hG (by decide) g_23 dX7_thirstiest_42 ?_
        refine V_icmp_le hG 50 dX7_thirstiest_43 (by decide) (fun c_24 => ?_) (fun c_24 => ?_)
        · have hj_18 := if_t c_24 hj_18
          refine V_iload_n hG 1 rfl dX7_thirstiest_50 ?_
          cases hj_18
          exact J_17
        · have hj_18 := if_f c_24 hj_18
          refine V_iload_n hG 0 rfl dX7_thirstiest_46 ?_
          refine V_goto hG 51 dX7_thirstiest_47 (by decide) ?_
          cases hj_18
          exact J_17

def tw_thirsts_b3 (N : Nat) (p1 : Int32) (x3_35 : Int32) (x2_36 : Int32) (S_37 : TS) : Option ((Int32 × Int32 × TS) ⊕ (Int32 × Int32 × TS)) :=
if 10 ≤ x3_35 then (
some (.inl (x3_35, x2_36, S_37)))
else (
bd2 (tw_fits N p1 (10 * x3_35) S_37) fun r_47 S_46 =>
be (if r_47 = 0 then (
0)
else (
1 <<< (x3_35 &&& 31)) : Int32) fun (y_51 : Int32) =>
be (x2_36 ||| y_51) fun (x2_52 : Int32) =>
be (x3_35 + 1) fun (x3_53 : Int32) =>
some (.inr (x3_53, x2_52, S_46)))
def tw_thirsts_b2 (N : Nat) (p1 : Int32) (x2_24 : Int32) (S_25 : TS) : Option ((Int32 × TS) ⊕ (Int32 × TS)) :=
if x2_24 < 0 then (
some (.inl (x2_24, S_25)))
else (
gd (inb x2_24 (lenA 42)) (
bd (if tI S_25 42 (Int32.toNatClampNeg x2_24) = 0 then (
some S_25)
else (
gd (inb (4 * x2_24) (lenA 41)) (
if 0 ≤ tI S_25 41 (Int32.toNatClampNeg (4 * x2_24)) then (
some S_25)
else (
gd (inb ((4 * x2_24) + 1) (lenA 41)) (
gd (inb (tI S_25 41 (Int32.toNatClampNeg ((4 * x2_24) + 1))) (lenA 42)) (
be (tsI S_25 42 (Int32.toNatClampNeg (tI S_25 41 (Int32.toNatClampNeg ((4 * x2_24) + 1)))) 0) fun S_66 =>
some S_66))))) : Option (TS)) fun (S_57 : TS) =>
be (x2_24 + (-1)) fun (x2_60 : Int32) =>
some (.inr (x2_60, S_57))))
def tw_thirsts_b1 (N : Nat) (p1 : Int32) (x2_10 : Int32) (S_11 : TS) : Option ((Int32 × TS) ⊕ (Int32 × TS)) :=
bd (tw_knownBy S_11) fun r_69 =>
if r_69 ≤ x2_10 then (
some (.inl (x2_10, S_11)))
else (
gd (inb x2_10 (lenA 42)) (
be (tsI S_11 42 (Int32.toNatClampNeg x2_10) 1) fun S_72 =>
be (x2_10 + 1) fun (x2_73 : Int32) =>
some (.inr (x2_73, S_72))))
def tw_thirsts (N : Nat) (p1 : Int32) (S : TS) : Option (Int32 × TS) :=
be (tsI S 0 2 0) fun S_1 =>
bd (tw_isHorse p1 S_1) fun r_3 =>
if r_3 = 0 then (
some ((-1), S_1))
else (
bd2 (lp N (fun s_67 : Int32 × TS => tw_thirsts_b1 N p1 s_67.1 s_67.2) (0, S_1)) fun (x2_12 : Int32) (S_13 : TS) =>
bd (tw_knownBy S_13) fun r_17 =>
be (r_17 - 1) fun (x2_18 : Int32) =>
bd2 (lp N (fun s_54 : Int32 × TS => tw_thirsts_b2 N p1 s_54.1 s_54.2) (x2_18, S_13)) fun (x2_26 : Int32) (S_27 : TS) =>
bd3 (lp N (fun s_43 : Int32 × Int32 × TS => tw_thirsts_b3 N p1 s_43.1 s_43.2.1 s_43.2.2) (0, 0, S_27)) fun (x3_38 : Int32) (x2_39 : Int32) (S_40 : TS) =>
some (x2_39, S_40))
def rm_tw_thirsts : Room := { frames := 7, cells := 0, slots := 0, locals := 170 }
theorem ok_tw_thirsts {E : En} (hE : EOk E) {o : Nat} {M0 : Mem} (hM : TwS o M0) {N : Nat} {p1 : Int32} {S : TS} {r : Int32} {S' : TS} (h : tw_thirsts N p1 S = some (r, S')) : CM E yX7_thirsts cX7_thirsts 4 (some .int) rm_tw_thirsts [rf E o, .int p1] (tw o S M0) (some (.int r)) (tw o S' M0) := by
  unfold tw_thirsts at h
  refine CM_intro (own := RX7) rfl (by decide) (Nat.le_of_ble_eq_true rfl) rfl (fun G hG => ?_)
  obtain ⟨Q, eQ⟩ : ∃ Q, Q = QM E G (some (.int r)) (tw o S' M0) 0 0 := ⟨_, rfl⟩
  show V E G (tw o S M0) 0 0 4 0 [(0, rf E o), (1, .int p1)] [] (QM E G (some (.int r)) (tw o S' M0) 0 0)
  rw [← eQ]
  refine V_aload_n hG 0 rfl dX7_thirsts_0 ?_
  refine V_iconst hG 0 rfl dX7_thirsts_1 ?_
  obtain ⟨S_1, eS_1, h⟩ := be_of h
  refine p7_160 hM hG eS_1 dX7_thirsts_2 ?_
  refine V_aload_n hG 0 rfl dX7_thirsts_5 ?_
  refine V_iload_n hG 1 rfl dX7_thirsts_6 ?_
  obtain ⟨r_3, hc_2, h⟩ := bd_of h
  refine V_callV0 hE hG (As := [.int p1]) (rest := []) (ok_tw_isHorse hE hM hc_2) hM.1 (by decide) rfl hw7_459 hd_tw_isHorse ⟨Nat.le_of_ble_eq_true rfl, Nat.le_of_ble_eq_true rfl⟩ rfl rfl (Nat.le_of_ble_eq_true rfl) rfl rfl dX7_thirsts_7 ?_
  refine V_if_ne hG 15 dX7_thirsts_10 (by decide) (fun c_4 => ?_) (fun c_4 => ?_)
  · have h := if_f c_4 h
    refine V_iconst hG 0 rfl dX7_thirsts_15 ?_
    refine V_istore_n hG rfl [(2, .int 0), (0, rf E o), (1, .int p1)] dX7_thirsts_16 (Nat.le_of_ble_eq_true rfl) rfl ?_
    obtain ⟨x2_12, S_13, hL_14, h⟩ := bd2_of h
    have J_9 : ∀ q_15 : Int32 × TS, q_15 = (x2_12, S_13) → V E G (tw o q_15.2 M0) 0 0 4 38 [(2, .int q_15.1), (0, rf E o), (1, .int p1)] [] Q := by
      intro q_15 e9
      subst q_15
      show V E G (tw o S_13 M0) 0 0 4 38 [(2, .int x2_12), (0, rf E o), (1, .int p1)] [] Q
      refine V_aload_n hG 1 rfl dX7_thirsts_38 ?_
      obtain ⟨r_17, hc_16, h⟩ := bd_of h
      refine V_callV0 hE hG (As := []) (rest := []) (ok_tw_knownBy hE hM hc_16) hM.1 (by decide) rfl hw7_511 hd_tw_knownBy ⟨Nat.le_of_ble_eq_true rfl, Nat.le_of_ble_eq_true rfl⟩ rfl rfl (Nat.le_of_ble_eq_true rfl) rfl rfl dX7_thirsts_39 ?_
      refine V_iconst hG 1 rfl dX7_thirsts_42 ?_
      refine V_isub hG dX7_thirsts_43 ?_
      obtain ⟨x2_18, ex2_18, h⟩ := be_of h
      refine V_topi ex2_18 ?_
      refine V_istore_n hG rfl [(2, .int x2_18), (0, rf E o), (1, .int p1)] dX7_thirsts_44 (Nat.le_of_ble_eq_true rfl) rfl ?_
      obtain ⟨x2_26, S_27, hL_28, h⟩ := bd2_of h
      have J_23 : ∀ q_29 : Int32 × TS, q_29 = (x2_26, S_27) → V E G (tw o q_29.2 M0) 0 0 4 91 [(2, .int q_29.1), (0, rf E o), (1, .int p1)] [] Q := by
        intro q_29 e9
        subst q_29
        show V E G (tw o S_27 M0) 0 0 4 91 [(2, .int x2_26), (0, rf E o), (1, .int p1)] [] Q
        refine V_iconst hG 0 rfl dX7_thirsts_91 ?_
        refine V_istore_n hG rfl [(2, .int 0), (0, rf E o), (1, .int p1)] dX7_thirsts_92 (Nat.le_of_ble_eq_true rfl) rfl ?_
        refine V_iconst hG 0 rfl dX7_thirsts_93 ?_
        refine V_istore_n hG rfl [(3, .int 0), (2, .int 0), (0, rf E o), (1, .int p1)] dX7_thirsts_94 (Nat.le_of_ble_eq_true rfl) rfl ?_
        obtain ⟨x3_38, x2_39, S_40, hL_41, h⟩ := bd3_of h
        have J_34 : ∀ q_42 : Int32 × Int32 × TS, q_42 = (x3_38, x2_39, S_40) → V E G (tw o q_42.2.2 M0) 0 0 4 129 [(3, .int q_42.1), (2, .int q_42.2.1), (0, rf E o), (1, .int p1)] [] Q := by
          intro q_42 e9
          subst q_42
          show V E G (tw o S_40 M0) 0 0 4 129 [(3, .int x3_38), (2, .int x2_39), (0, rf E o), (1, .int p1)] [] Q
          refine V_iload_n hG 1 rfl dX7_thirsts_129 ?_
          cases h
          subst eQ
          exact V_iret hG dX7_thirsts_130
        refine lp_walk (W := fun s_43 : Int32 × Int32 × TS => V E G (tw o s_43.2.2 M0) 0 0 4 95 [(3, .int s_43.1), (2, .int s_43.2.1), (0, rf E o), (1, .int p1)] [] Q) ?_ N (0, 0, S_27) hL_41
        intro s_43 b_30 hb_31 hk_32 hx_33
        obtain ⟨x3_35, x2_36, S_37⟩ := s_43
        have hb_31 : tw_thirsts_b3 N p1 x3_35 x2_36 S_37 = some b_30 := hb_31
        unfold tw_thirsts_b3 at hb_31
        show V E G (tw o S_37 M0) 0 0 4 95 [(3, .int x3_35), (2, .int x2_36), (0, rf E o), (1, .int p1)] [] Q
        refine V_iload_n hG 0 rfl dX7_thirsts_95 ?_
        refine V_bipush hG 10 (by decide) dX7_thirsts_96 ?_
        refine V_icmp_ge hG 129 dX7_thirsts_98 (by decide) (fun c_44 => ?_) (fun c_44 => ?_)
        · have hb_31 := if_t c_44 hb_31
          cases hb_31
          exact J_34 _ (hx_33 _ rfl)
        · have hb_31 := if_f c_44 hb_31
          refine V_iload_n hG 1 rfl dX7_thirsts_101 ?_
          refine V_aload_n hG 2 rfl dX7_thirsts_102 ?_
          refine V_iload_n hG 3 rfl dX7_thirsts_103 ?_
          refine V_bipush hG 10 (by decide) dX7_thirsts_104 ?_
          refine V_iload_n hG 0 rfl dX7_thirsts_106 ?_
          refine V_imul hG dX7_thirsts_107 ?_
          obtain ⟨r_47, S_46, hc_45, hb_31⟩ := bd2_of hb_31
          refine V_callV0 hE hG (As := [.int p1, .int (10 * x3_35)]) (rest := [.int x2_36]) (ok_tw_fits hE hM hc_45) hM.1 (by decide) rfl hw7_517 hd_tw_fits ⟨Nat.le_of_ble_eq_true rfl, Nat.le_of_ble_eq_true rfl⟩ rfl rfl (Nat.le_of_ble_eq_true rfl) rfl rfl dX7_thirsts_108 ?_
          obtain ⟨t_48, et_48, hb_31⟩ := be_of hb_31
          have J_49 : ∀ y_51 : Int32, y_51 = t_48 → V E G (tw o S_46 M0) 0 0 4 121 [(3, .int x3_35), (2, .int x2_36), (0, rf E o), (1, .int p1)] [.int y_51, .int x2_36] Q := by
            intro y_51 ey
            subst ey
            refine V_ior hG dX7_thirsts_121 ?_
            obtain ⟨x2_52, ex2_52, hb_31⟩ := be_of hb_31
            refine V_topi ex2_52 ?_
            refine V_istore_n hG rfl [(2, .int x2_52), (3, .int x3_35), (0, rf E o), (1, .int p1)] dX7_thirsts_122 (Nat.le_of_ble_eq_true rfl) rfl ?_
            obtain ⟨x3_53, ex3_53, hb_31⟩ := be_of hb_31
            refine V_iinc hG 1 x3_53 rfl (by rw [ex3_53]; rfl) [(3, .int x3_53), (2, .int x2_52), (0, rf E o), (1, .int p1)] dX7_thirsts_123 (Nat.le_of_ble_eq_true rfl) rfl ?_
            refine V_goto hG 95 dX7_thirsts_126 (by decide) ?_
            cases hb_31
            exact hk_32 _ rfl
          refine V_if_eq hG 120 dX7_thirsts_111 (by decide) (fun c_50 => ?_) (fun c_50 => ?_)
          · refine V_iconst hG 0 rfl dX7_thirsts_120 ?_
            exact J_49 _ (by rw [et_48, if_pos c_50])
          · refine V_iconst hG 1 rfl dX7_thirsts_114 ?_
            refine V_iload_n hG 0 rfl dX7_thirsts_115 ?_
            refine V_ishl hG dX7_thirsts_116 ?_
            refine V_goto hG 121 dX7_thirsts_117 (by decide) ?_
            exact J_49 _ (by rw [et_48, if_neg c_50])
      refine lp_walk (W := fun s_54 : Int32 × TS => V E G (tw o s_54.2 M0) 0 0 4 45 [(2, .int s_54.1), (0, rf E o), (1, .int p1)] [] Q) ?_ N (x2_18, S_13) hL_28
      intro s_54 b_19 hb_20 hk_21 hx_22
      obtain ⟨x2_24, S_25⟩ := s_54
      have hb_20 : tw_thirsts_b2 N p1 x2_24 S_25 = some b_19 := hb_20
      unfold tw_thirsts_b2 at hb_20
      show V E G (tw o S_25 M0) 0 0 4 45 [(2, .int x2_24), (0, rf E o), (1, .int p1)] [] Q
      refine V_iload_n hG 0 rfl dX7_thirsts_45 ?_
      refine V_if_lt hG 91 dX7_thirsts_46 (by decide) (fun c_55 => ?_) (fun c_55 => ?_)
      · have hb_20 := if_t c_55 hb_20
        cases hb_20
        exact J_23 _ (hx_22 _ rfl)
      · have hb_20 := if_f c_55 hb_20
        refine V_aload_n hG 1 rfl dX7_thirsts_49 ?_
        refine g7_142 hM hG dX7_thirsts_50 ?_
        refine V_iload_n hG 0 rfl dX7_thirsts_53 ?_
        obtain ⟨g_56, hb_20⟩ := gd_of hb_20
        refine T_zaload hM hG (by decide) g_56 dX7_thirsts_54 ?_
        obtain ⟨S_57, hj_59, hb_20⟩ := bd_of hb_20
        have J_58 : V E G (tw o S_57 M0) 0 0 4 85 [(2, .int x2_24), (0, rf E o), (1, .int p1)] [] Q := by
          obtain ⟨x2_60, ex2_60, hb_20⟩ := be_of hb_20
          refine V_iinc hG 0 x2_60 rfl (by rw [ex2_60]; rfl) [(2, .int x2_60), (0, rf E o), (1, .int p1)] dX7_thirsts_85 (Nat.le_of_ble_eq_true rfl) rfl ?_
          refine V_goto hG 45 dX7_thirsts_88 (by decide) ?_
          cases hb_20
          exact hk_21 _ rfl
        refine V_if_eq hG 85 dX7_thirsts_55 (by decide) (fun c_61 => ?_) (fun c_61 => ?_)
        · have hj_59 := if_t c_61 hj_59
          cases hj_59
          exact J_58
        · have hj_59 := if_f c_61 hj_59
          refine V_aload_n hG 1 rfl dX7_thirsts_58 ?_
          refine g7_139 hM hG dX7_thirsts_59 ?_
          refine V_iconst hG 4 rfl dX7_thirsts_62 ?_
          refine V_iload_n hG 0 rfl dX7_thirsts_63 ?_
          refine V_imul hG dX7_thirsts_64 ?_
          obtain ⟨g_62, hj_59⟩ := gd_of hj_59
          refine T_iaload hM hG (by decide) g_62 dX7_thirsts_65 ?_
          refine V_if_ge hG 85 dX7_thirsts_66 (by decide) (fun c_63 => ?_) (fun c_63 => ?_)
          · have hj_59 := if_t c_63 hj_59
            cases hj_59
            exact J_58
          · have hj_59 := if_f c_63 hj_59
            refine V_aload_n hG 1 rfl dX7_thirsts_69 ?_
            refine g7_142 hM hG dX7_thirsts_70 ?_
            refine V_aload_n hG 1 rfl dX7_thirsts_73 ?_
            refine g7_139 hM hG dX7_thirsts_74 ?_
            refine V_iconst hG 4 rfl dX7_thirsts_77 ?_
            refine V_iload_n hG 0 rfl dX7_thirsts_78 ?_
            refine V_imul hG dX7_thirsts_79 ?_
            refine V_iconst hG 1 rfl dX7_thirsts_80 ?_
            refine V_iadd hG dX7_thirsts_81 ?_
            obtain ⟨g_64, hj_59⟩ := gd_of hj_59
            refine T_iaload hM hG (by decide) g_64 dX7_thirsts_82 ?_
            refine V_iconst hG 0 rfl dX7_thirsts_83 ?_
            obtain ⟨g_65, hj_59⟩ := gd_of hj_59
            obtain ⟨S_66, eS_66, hj_59⟩ := be_of hj_59
            refine T_zastore hM hG eS_66 (Or.inl rfl) (by decide) g_65 dX7_thirsts_84 ?_
            cases hj_59
            exact J_58
    refine lp_walk (W := fun s_67 : Int32 × TS => V E G (tw o s_67.2 M0) 0 0 4 17 [(2, .int s_67.1), (0, rf E o), (1, .int p1)] [] Q) ?_ N (0, S_1) hL_14
    intro s_67 b_5 hb_6 hk_7 hx_8
    obtain ⟨x2_10, S_11⟩ := s_67
    have hb_6 : tw_thirsts_b1 N p1 x2_10 S_11 = some b_5 := hb_6
    unfold tw_thirsts_b1 at hb_6
    show V E G (tw o S_11 M0) 0 0 4 17 [(2, .int x2_10), (0, rf E o), (1, .int p1)] [] Q
    refine V_iload_n hG 0 rfl dX7_thirsts_17 ?_
    refine V_aload_n hG 1 rfl dX7_thirsts_18 ?_
    obtain ⟨r_69, hc_68, hb_6⟩ := bd_of hb_6
    refine V_callV0 hE hG (As := []) (rest := [.int x2_10]) (ok_tw_knownBy hE hM hc_68) hM.1 (by decide) rfl hw7_511 hd_tw_knownBy ⟨Nat.le_of_ble_eq_true rfl, Nat.le_of_ble_eq_true rfl⟩ rfl rfl (Nat.le_of_ble_eq_true rfl) rfl rfl dX7_thirsts_19 ?_
    refine V_icmp_ge hG 38 dX7_thirsts_22 (by decide) (fun c_70 => ?_) (fun c_70 => ?_)
    · have hb_6 := if_t c_70 hb_6
      cases hb_6
      exact J_9 _ (hx_8 _ rfl)
    · have hb_6 := if_f c_70 hb_6
      refine V_aload_n hG 1 rfl dX7_thirsts_25 ?_
      refine g7_142 hM hG dX7_thirsts_26 ?_
      refine V_iload_n hG 0 rfl dX7_thirsts_29 ?_
      refine V_iconst hG 1 rfl dX7_thirsts_30 ?_
      obtain ⟨g_71, hb_6⟩ := gd_of hb_6
      obtain ⟨S_72, eS_72, hb_6⟩ := be_of hb_6
      refine T_zastore hM hG eS_72 (Or.inr rfl) (by decide) g_71 dX7_thirsts_31 ?_
      obtain ⟨x2_73, ex2_73, hb_6⟩ := be_of hb_6
      refine V_iinc hG 0 x2_73 rfl (by rw [ex2_73]; rfl) [(2, .int x2_73), (0, rf E o), (1, .int p1)] dX7_thirsts_32 (Nat.le_of_ble_eq_true rfl) rfl ?_
      refine V_goto hG 17 dX7_thirsts_35 (by decide) ?_
      cases hb_6
      exact hk_7 _ rfl
  · have h := if_t c_4 h
    refine V_iconst hG (-1) rfl dX7_thirsts_13 ?_
    cases h
    subst eQ
    exact V_iret hG dX7_thirsts_14

def tw_thrown  (S : TS) : Option (Int32) :=
some (tI S 0 2)
def rm_tw_thrown : Room := { frames := 0, cells := 0, slots := 0, locals := 0 }
theorem ok_tw_thrown {E : En} (hE : EOk E) {o : Nat} {M0 : Mem} (hM : TwS o M0)  {S : TS} {r : Int32} (h : tw_thrown  S = some r) : CM E yX7_thrown cX7_thrown 1 (some .int) rm_tw_thrown [rf E o] (tw o S M0) (some (.int r)) (tw o S M0) := by
  unfold tw_thrown at h
  refine CM_intro (own := RX7) rfl (by decide) (Nat.le_of_ble_eq_true rfl) rfl (fun G hG => ?_)
  obtain ⟨Q, eQ⟩ : ∃ Q, Q = QM E G (some (.int r)) (tw o S M0) 0 0 := ⟨_, rfl⟩
  show V E G (tw o S M0) 0 0 1 0 [(0, rf E o)] [] (QM E G (some (.int r)) (tw o S M0) 0 0)
  rw [← eQ]
  refine V_aload_n hG 0 rfl dX7_thrown_0 ?_
  refine g7_160 hM hG dX7_thrown_1 ?_
  cases h
  subst eQ
  exact V_iret hG dX7_thrown_4

def tw_tried_b1 (N : Nat) (p1 : Int32) (p2 : Int32) (p3 : Int32) (x4_32 : Int32) (S_33 : TS) : Option ((Int32 × TS) ⊕ (Int32 × TS)) :=
if tI S_33 0 12 ≤ x4_32 then (
some (.inl (x4_32, S_33)))
else (
if p1 = 3 then (
gd (inb (6 + x4_32) (lenA 33)) (
be (tsI S_33 33 (Int32.toNatClampNeg (6 + x4_32)) 99) fun S_52 =>
be (x4_32 + 1) fun (x4_53 : Int32) =>
some (.inr (x4_53, S_52))))
else (
some (.inl (x4_32, S_33))))
def tw_tried_b2 (N : Nat) (p1 : Int32) (p2 : Int32) (p3 : Int32) (x4_82 : Int32) (S_83 : TS) : Option ((Int32 × TS) ⊕ (Int32 × TS)) :=
if tI S_83 0 12 ≤ x4_82 then (
some (.inl (x4_82, S_83)))
else (
if p1 = 3 then (
gd (inb (6 + x4_82) (lenA 33)) (
be (tsI S_83 33 (Int32.toNatClampNeg (6 + x4_82)) 99) fun S_102 =>
be (x4_82 + 1) fun (x4_103 : Int32) =>
some (.inr (x4_103, S_102))))
else (
some (.inl (x4_82, S_83))))
def tw_tried (N : Nat) (p1 : Int32) (p2 : Int32) (p3 : Int32) (S : TS) : Option (Int32 × TS) :=
be (tsI S 0 2 0) fun S_1 =>
bd (tw_isIn p1 0 4 S_1) fun r_3 =>
if r_3 = 0 then (
some ((-1), S_1))
else (
bd (tw_isIn p3 0 200 S_1) fun r_6 =>
if r_6 = 0 then (
some ((-1), S_1))
else (
if p1 = 2 then (
bd (tw_isHorse p2 S_1) fun r_58 =>
if r_58 = 0 then (
some ((-1), S_1))
else (
bd (tw_layTried N S_1) fun S_61 =>
be (if p1 = 0 then (
1)
else (
0) : Int32) fun (y_65 : Int32) =>
gd (y_65 = 0 ∨ y_65 = 1) (
be (tsI S_61 0 70 y_65) fun S_66 =>
be (if p1 = 1 then (
1)
else (
0) : Int32) fun (y_71 : Int32) =>
gd (y_71 = 0 ∨ y_71 = 1) (
be (tsI S_66 0 71 y_71) fun S_72 =>
bd (if p1 = 2 then (
gd (inb (6 + p2) (lenA 31)) (
be (tsI S_72 31 (Int32.toNatClampNeg (6 + p2)) 0) fun S_106 =>
some S_106))
else (
some S_72) : Option (TS)) fun (S_74 : TS) =>
bd2 (lp N (fun s_98 : Int32 × TS => tw_tried_b2 N p1 p2 p3 s_98.1 s_98.2) (0, S_74)) fun (x4_84 : Int32) (S_85 : TS) =>
be (if p1 = 4 then (
1)
else (
0) : Int32) fun (y_91 : Int32) =>
gd (y_91 = 0 ∨ y_91 = 1) (
be (tsI S_85 0 72 y_91) fun S_92 =>
bd (tw_goMany N p3 S_92) fun S_95 =>
bd (tw_plainTried S_95) fun S_97 =>
some ((tI S_97 34 (Int32.toNatClampNeg 1)) - (tI S_97 34 (Int32.toNatClampNeg 0)), S_97))))))
else (
if p2 = 0 then (
bd (tw_layTried N S_1) fun S_11 =>
be (if p1 = 0 then (
1)
else (
0) : Int32) fun (y_15 : Int32) =>
gd (y_15 = 0 ∨ y_15 = 1) (
be (tsI S_11 0 70 y_15) fun S_16 =>
be (if p1 = 1 then (
1)
else (
0) : Int32) fun (y_21 : Int32) =>
gd (y_21 = 0 ∨ y_21 = 1) (
be (tsI S_16 0 71 y_21) fun S_22 =>
bd (if p1 = 2 then (
gd (inb (6 + p2) (lenA 31)) (
be (tsI S_22 31 (Int32.toNatClampNeg (6 + p2)) 0) fun S_56 =>
some S_56))
else (
some S_22) : Option (TS)) fun (S_24 : TS) =>
bd2 (lp N (fun s_48 : Int32 × TS => tw_tried_b1 N p1 p2 p3 s_48.1 s_48.2) (0, S_24)) fun (x4_34 : Int32) (S_35 : TS) =>
be (if p1 = 4 then (
1)
else (
0) : Int32) fun (y_41 : Int32) =>
gd (y_41 = 0 ∨ y_41 = 1) (
be (tsI S_35 0 72 y_41) fun S_42 =>
bd (tw_goMany N p3 S_42) fun S_45 =>
bd (tw_plainTried S_45) fun S_47 =>
some ((tI S_47 34 (Int32.toNatClampNeg 1)) - (tI S_47 34 (Int32.toNatClampNeg 0)), S_47)))))
else (
some ((-1), S_1)))))
def rm_tw_tried : Room := { frames := 7, cells := 0, slots := 0, locals := 169 }
theorem ok_tw_tried {E : En} (hE : EOk E) {o : Nat} {M0 : Mem} (hM : TwS o M0) {N : Nat} {p1 : Int32} {p2 : Int32} {p3 : Int32} {S : TS} {r : Int32} {S' : TS} (h : tw_tried N p1 p2 p3 S = some (r, S')) : CM E yX7_tried cX7_tried 5 (some .int) rm_tw_tried [rf E o, .int p1, .int p2, .int p3] (tw o S M0) (some (.int r)) (tw o S' M0) := by
  unfold tw_tried at h
  refine CM_intro (own := RX7) rfl (by decide) (Nat.le_of_ble_eq_true rfl) rfl (fun G hG => ?_)
  obtain ⟨Q, eQ⟩ : ∃ Q, Q = QM E G (some (.int r)) (tw o S' M0) 0 0 := ⟨_, rfl⟩
  show V E G (tw o S M0) 0 0 5 0 [(0, rf E o), (1, .int p1), (2, .int p2), (3, .int p3)] [] (QM E G (some (.int r)) (tw o S' M0) 0 0)
  rw [← eQ]
  refine V_aload_n hG 0 rfl dX7_tried_0 ?_
  refine V_iconst hG 0 rfl dX7_tried_1 ?_
  obtain ⟨S_1, eS_1, h⟩ := be_of h
  refine p7_160 hM hG eS_1 dX7_tried_2 ?_
  refine V_iload_n hG 1 rfl dX7_tried_5 ?_
  refine V_iconst hG 0 rfl dX7_tried_6 ?_
  refine V_iconst hG 4 rfl dX7_tried_7 ?_
  obtain ⟨r_3, hc_2, h⟩ := bd_of h
  refine V_callS0 hE hG (As := [.int p1, .int 0, .int 4]) (rest := []) (ok_tw_isIn hE hM hc_2) hw7_205 hd_tw_isIn ⟨Nat.le_of_ble_eq_true rfl, Nat.le_of_ble_eq_true rfl⟩ rfl rfl (Nat.le_of_ble_eq_true rfl) rfl rfl dX7_tried_8 ?_
  refine V_if_eq hG 45 dX7_tried_11 (by decide) (fun c_4 => ?_) (fun c_4 => ?_)
  · have h := if_t c_4 h
    refine V_iconst hG (-1) rfl dX7_tried_45 ?_
    cases h
    subst eQ
    exact V_iret hG dX7_tried_46
  · have h := if_f c_4 h
    refine V_iload_n hG 3 rfl dX7_tried_14 ?_
    refine V_iconst hG 0 rfl dX7_tried_15 ?_
    refine V_sipush hG 200 (by decide) dX7_tried_16 ?_
    obtain ⟨r_6, hc_5, h⟩ := bd_of h
    refine V_callS0 hE hG (As := [.int p3, .int 0, .int 200]) (rest := []) (ok_tw_isIn hE hM hc_5) hw7_205 hd_tw_isIn ⟨Nat.le_of_ble_eq_true rfl, Nat.le_of_ble_eq_true rfl⟩ rfl rfl (Nat.le_of_ble_eq_true rfl) rfl rfl dX7_tried_19 ?_
    refine V_if_eq hG 45 dX7_tried_22 (by decide) (fun c_7 => ?_) (fun c_7 => ?_)
    · have h := if_t c_7 h
      refine V_iconst hG (-1) rfl dX7_tried_45 ?_
      cases h
      subst eQ
      exact V_iret hG dX7_tried_46
    · have h := if_f c_7 h
      refine V_iload_n hG 1 rfl dX7_tried_25 ?_
      refine V_iconst hG 2 rfl dX7_tried_26 ?_
      refine V_icmp_ne hG 41 dX7_tried_27 (by decide) (fun c_8 => ?_) (fun c_8 => ?_)
      · have h := if_f c_8 h
        refine V_iload_n hG 2 rfl dX7_tried_41 ?_
        refine V_if_eq hG 47 dX7_tried_42 (by decide) (fun c_9 => ?_) (fun c_9 => ?_)
        · have h := if_t c_9 h
          refine V_aload_n hG 0 rfl dX7_tried_47 ?_
          obtain ⟨S_11, hc_10, h⟩ := bd_of h
          refine V_callV0 hE hG (As := []) (rest := []) (ok_tw_layTried hE hM hc_10) hM.1 (by decide) rfl hw7_473 hd_tw_layTried ⟨Nat.le_of_ble_eq_true rfl, Nat.le_of_ble_eq_true rfl⟩ rfl rfl (Nat.le_of_ble_eq_true rfl) rfl rfl dX7_tried_48 ?_
          refine V_aload_n hG 0 rfl dX7_tried_51 ?_
          refine V_iload_n hG 1 rfl dX7_tried_52 ?_
          obtain ⟨t_12, et_12, h⟩ := be_of h
          have J_13 : ∀ y_15 : Int32, y_15 = t_12 → V E G (tw o S_11 M0) 0 0 5 61 [(0, rf E o), (1, .int p1), (2, .int p2), (3, .int p3)] [.int y_15, rf E o] Q := by
            intro y_15 ey
            subst ey
            obtain ⟨g_17, h⟩ := gd_of h
            obtain ⟨S_16, eS_16, h⟩ := be_of h
            refine p7_389 hM hG eS_16 g_17 dX7_tried_61 ?_
            refine V_aload_n hG 0 rfl dX7_tried_64 ?_
            refine V_iload_n hG 1 rfl dX7_tried_65 ?_
            refine V_iconst hG 1 rfl dX7_tried_66 ?_
            obtain ⟨t_18, et_18, h⟩ := be_of h
            have J_19 : ∀ y_21 : Int32, y_21 = t_18 → V E G (tw o S_16 M0) 0 0 5 75 [(0, rf E o), (1, .int p1), (2, .int p2), (3, .int p3)] [.int y_21, rf E o] Q := by
              intro y_21 ey
              subst ey
              obtain ⟨g_23, h⟩ := gd_of h
              obtain ⟨S_22, eS_22, h⟩ := be_of h
              refine p7_392 hM hG eS_22 g_23 dX7_tried_75 ?_
              refine V_iload_n hG 1 rfl dX7_tried_78 ?_
              refine V_iconst hG 2 rfl dX7_tried_79 ?_
              obtain ⟨S_24, hj_26, h⟩ := bd_of h
              have J_25 : V E G (tw o S_24 M0) 0 0 5 93 [(0, rf E o), (1, .int p1), (2, .int p2), (3, .int p3)] [] Q := by
                refine V_iconst hG 0 rfl dX7_tried_93 ?_
                refine V_istore hG [(4, .int 0), (0, rf E o), (1, .int p1), (2, .int p2), (3, .int p3)] dX7_tried_94 (Nat.le_of_ble_eq_true rfl) rfl ?_
                obtain ⟨x4_34, S_35, hL_36, h⟩ := bd2_of h
                have J_31 : ∀ q_37 : Int32 × TS, q_37 = (x4_34, S_35) → V E G (tw o q_37.2 M0) 0 0 5 128 [(4, .int q_37.1), (0, rf E o), (1, .int p1), (2, .int p2), (3, .int p3)] [] Q := by
                  intro q_37 e9
                  subst q_37
                  show V E G (tw o S_35 M0) 0 0 5 128 [(4, .int x4_34), (0, rf E o), (1, .int p1), (2, .int p2), (3, .int p3)] [] Q
                  refine V_aload_n hG 1 rfl dX7_tried_128 ?_
                  refine V_iload_n hG 2 rfl dX7_tried_129 ?_
                  refine V_iconst hG 4 rfl dX7_tried_130 ?_
                  obtain ⟨t_38, et_38, h⟩ := be_of h
                  have J_39 : ∀ y_41 : Int32, y_41 = t_38 → V E G (tw o S_35 M0) 0 0 5 139 [(4, .int x4_34), (0, rf E o), (1, .int p1), (2, .int p2), (3, .int p3)] [.int y_41, rf E o] Q := by
                    intro y_41 ey
                    subst ey
                    obtain ⟨g_43, h⟩ := gd_of h
                    obtain ⟨S_42, eS_42, h⟩ := be_of h
                    refine p7_395 hM hG eS_42 g_43 dX7_tried_139 ?_
                    refine V_aload_n hG 1 rfl dX7_tried_142 ?_
                    refine V_iload_n hG 4 rfl dX7_tried_143 ?_
                    obtain ⟨S_45, hc_44, h⟩ := bd_of h
                    refine V_callV0 hE hG (As := [.int p3]) (rest := []) (ok_tw_goMany hE hM hc_44) hM.1 (by decide) rfl hw7_476 hd_tw_goMany ⟨Nat.le_of_ble_eq_true rfl, Nat.le_of_ble_eq_true rfl⟩ rfl rfl (Nat.le_of_ble_eq_true rfl) rfl rfl dX7_tried_144 ?_
                    refine V_aload_n hG 1 rfl dX7_tried_147 ?_
                    obtain ⟨S_47, hc_46, h⟩ := bd_of h
                    refine V_callV0 hE hG (As := []) (rest := []) (ok_tw_plainTried hE hM hc_46) hM.1 (by decide) rfl hw7_374 hd_tw_plainTried ⟨Nat.le_of_ble_eq_true rfl, Nat.le_of_ble_eq_true rfl⟩ rfl rfl (Nat.le_of_ble_eq_true rfl) rfl rfl dX7_tried_148 ?_
                    refine V_aload_n hG 1 rfl dX7_tried_151 ?_
                    refine g7_115 hM hG dX7_tried_152 ?_
                    refine V_iconst hG 1 rfl dX7_tried_155 ?_
                    refine T_iaload hM hG (by decide) (by decide) dX7_tried_156 ?_
                    refine V_aload_n hG 1 rfl dX7_tried_157 ?_
                    refine g7_115 hM hG dX7_tried_158 ?_
                    refine V_iconst hG 0 rfl dX7_tried_161 ?_
                    refine T_iaload hM hG (by decide) (by decide) dX7_tried_162 ?_
                    refine V_isub hG dX7_tried_163 ?_
                    cases h
                    subst eQ
                    exact V_iret hG dX7_tried_164
                  refine V_icmp_ne hG 138 dX7_tried_131 (by decide) (fun c_40 => ?_) (fun c_40 => ?_)
                  · refine V_iconst hG 0 rfl dX7_tried_138 ?_
                    exact J_39 _ (by rw [et_38, if_neg c_40])
                  · refine V_iconst hG 1 rfl dX7_tried_134 ?_
                    refine V_goto hG 139 dX7_tried_135 (by decide) ?_
                    exact J_39 _ (by rw [et_38, if_pos c_40])
                refine lp_walk (W := fun s_48 : Int32 × TS => V E G (tw o s_48.2 M0) 0 0 5 96 [(4, .int s_48.1), (0, rf E o), (1, .int p1), (2, .int p2), (3, .int p3)] [] Q) ?_ N (0, S_24) hL_36
                intro s_48 b_27 hb_28 hk_29 hx_30
                obtain ⟨x4_32, S_33⟩ := s_48
                have hb_28 : tw_tried_b1 N p1 p2 p3 x4_32 S_33 = some b_27 := hb_28
                unfold tw_tried_b1 at hb_28
                show V E G (tw o S_33 M0) 0 0 5 96 [(4, .int x4_32), (0, rf E o), (1, .int p1), (2, .int p2), (3, .int p3)] [] Q
                refine V_iload hG 0 rfl dX7_tried_96 ?_
                refine V_aload_n hG 1 rfl dX7_tried_98 ?_
                refine g7_243 hM hG dX7_tried_99 ?_
                refine V_icmp_ge hG 128 dX7_tried_102 (by decide) (fun c_49 => ?_) (fun c_49 => ?_)
                · have hb_28 := if_t c_49 hb_28
                  cases hb_28
                  exact J_31 _ (hx_30 _ rfl)
                · have hb_28 := if_f c_49 hb_28
                  refine V_iload_n hG 2 rfl dX7_tried_105 ?_
                  refine V_iconst hG 3 rfl dX7_tried_106 ?_
                  refine V_icmp_ne hG 128 dX7_tried_107 (by decide) (fun c_50 => ?_) (fun c_50 => ?_)
                  · have hb_28 := if_f c_50 hb_28
                    cases hb_28
                    exact J_31 _ (hx_30 _ rfl)
                  · have hb_28 := if_t c_50 hb_28
                    refine V_aload_n hG 1 rfl dX7_tried_110 ?_
                    refine g7_112 hM hG dX7_tried_111 ?_
                    refine V_bipush hG 6 (by decide) dX7_tried_114 ?_
                    refine V_iload hG 0 rfl dX7_tried_116 ?_
                    refine V_iadd hG dX7_tried_118 ?_
                    refine V_bipush hG 99 (by decide) dX7_tried_119 ?_
                    obtain ⟨g_51, hb_28⟩ := gd_of hb_28
                    obtain ⟨S_52, eS_52, hb_28⟩ := be_of hb_28
                    refine T_iastore hM hG eS_52 (by decide) g_51 dX7_tried_121 ?_
                    obtain ⟨x4_53, ex4_53, hb_28⟩ := be_of hb_28
                    refine V_iinc hG 0 x4_53 rfl (by rw [ex4_53]; rfl) [(4, .int x4_53), (0, rf E o), (1, .int p1), (2, .int p2), (3, .int p3)] dX7_tried_122 (Nat.le_of_ble_eq_true rfl) rfl ?_
                    refine V_goto hG 96 dX7_tried_125 (by decide) ?_
                    cases hb_28
                    exact hk_29 _ rfl
              refine V_icmp_ne hG 93 dX7_tried_80 (by decide) (fun c_54 => ?_) (fun c_54 => ?_)
              · have hj_26 := if_f c_54 hj_26
                cases hj_26
                exact J_25
              · have hj_26 := if_t c_54 hj_26
                refine V_aload_n hG 0 rfl dX7_tried_83 ?_
                refine g7_106 hM hG dX7_tried_84 ?_
                refine V_bipush hG 6 (by decide) dX7_tried_87 ?_
                refine V_iload_n hG 2 rfl dX7_tried_89 ?_
                refine V_iadd hG dX7_tried_90 ?_
                refine V_iconst hG 0 rfl dX7_tried_91 ?_
                obtain ⟨g_55, hj_26⟩ := gd_of hj_26
                obtain ⟨S_56, eS_56, hj_26⟩ := be_of hj_26
                refine T_zastore hM hG eS_56 (Or.inl rfl) (by decide) g_55 dX7_tried_92 ?_
                cases hj_26
                exact J_25
            refine V_icmp_ne hG 74 dX7_tried_67 (by decide) (fun c_20 => ?_) (fun c_20 => ?_)
            · refine V_iconst hG 0 rfl dX7_tried_74 ?_
              exact J_19 _ (by rw [et_18, if_neg c_20])
            · refine V_iconst hG 1 rfl dX7_tried_70 ?_
              refine V_goto hG 75 dX7_tried_71 (by decide) ?_
              exact J_19 _ (by rw [et_18, if_pos c_20])
          refine V_if_ne hG 60 dX7_tried_53 (by decide) (fun c_14 => ?_) (fun c_14 => ?_)
          · refine V_iconst hG 0 rfl dX7_tried_60 ?_
            exact J_13 _ (by rw [et_12, if_neg c_14])
          · refine V_iconst hG 1 rfl dX7_tried_56 ?_
            refine V_goto hG 61 dX7_tried_57 (by decide) ?_
            exact J_13 _ (by rw [et_12, if_pos c_14])
        · have h := if_f c_9 h
          refine V_iconst hG (-1) rfl dX7_tried_45 ?_
          cases h
          subst eQ
          exact V_iret hG dX7_tried_46
      · have h := if_t c_8 h
        refine V_aload_n hG 0 rfl dX7_tried_30 ?_
        refine V_iload_n hG 2 rfl dX7_tried_31 ?_
        obtain ⟨r_58, hc_57, h⟩ := bd_of h
        refine V_callV0 hE hG (As := [.int p2]) (rest := []) (ok_tw_isHorse hE hM hc_57) hM.1 (by decide) rfl hw7_459 hd_tw_isHorse ⟨Nat.le_of_ble_eq_true rfl, Nat.le_of_ble_eq_true rfl⟩ rfl rfl (Nat.le_of_ble_eq_true rfl) rfl rfl dX7_tried_32 ?_
        refine V_if_ne hG 47 dX7_tried_35 (by decide) (fun c_59 => ?_) (fun c_59 => ?_)
        · have h := if_f c_59 h
          refine V_aload_n hG 0 rfl dX7_tried_47 ?_
          obtain ⟨S_61, hc_60, h⟩ := bd_of h
          refine V_callV0 hE hG (As := []) (rest := []) (ok_tw_layTried hE hM hc_60) hM.1 (by decide) rfl hw7_473 hd_tw_layTried ⟨Nat.le_of_ble_eq_true rfl, Nat.le_of_ble_eq_true rfl⟩ rfl rfl (Nat.le_of_ble_eq_true rfl) rfl rfl dX7_tried_48 ?_
          refine V_aload_n hG 0 rfl dX7_tried_51 ?_
          refine V_iload_n hG 1 rfl dX7_tried_52 ?_
          obtain ⟨t_62, et_62, h⟩ := be_of h
          have J_63 : ∀ y_65 : Int32, y_65 = t_62 → V E G (tw o S_61 M0) 0 0 5 61 [(0, rf E o), (1, .int p1), (2, .int p2), (3, .int p3)] [.int y_65, rf E o] Q := by
            intro y_65 ey
            subst ey
            obtain ⟨g_67, h⟩ := gd_of h
            obtain ⟨S_66, eS_66, h⟩ := be_of h
            refine p7_389 hM hG eS_66 g_67 dX7_tried_61 ?_
            refine V_aload_n hG 0 rfl dX7_tried_64 ?_
            refine V_iload_n hG 1 rfl dX7_tried_65 ?_
            refine V_iconst hG 1 rfl dX7_tried_66 ?_
            obtain ⟨t_68, et_68, h⟩ := be_of h
            have J_69 : ∀ y_71 : Int32, y_71 = t_68 → V E G (tw o S_66 M0) 0 0 5 75 [(0, rf E o), (1, .int p1), (2, .int p2), (3, .int p3)] [.int y_71, rf E o] Q := by
              intro y_71 ey
              subst ey
              obtain ⟨g_73, h⟩ := gd_of h
              obtain ⟨S_72, eS_72, h⟩ := be_of h
              refine p7_392 hM hG eS_72 g_73 dX7_tried_75 ?_
              refine V_iload_n hG 1 rfl dX7_tried_78 ?_
              refine V_iconst hG 2 rfl dX7_tried_79 ?_
              obtain ⟨S_74, hj_76, h⟩ := bd_of h
              have J_75 : V E G (tw o S_74 M0) 0 0 5 93 [(0, rf E o), (1, .int p1), (2, .int p2), (3, .int p3)] [] Q := by
                refine V_iconst hG 0 rfl dX7_tried_93 ?_
                refine V_istore hG [(4, .int 0), (0, rf E o), (1, .int p1), (2, .int p2), (3, .int p3)] dX7_tried_94 (Nat.le_of_ble_eq_true rfl) rfl ?_
                obtain ⟨x4_84, S_85, hL_86, h⟩ := bd2_of h
                have J_81 : ∀ q_87 : Int32 × TS, q_87 = (x4_84, S_85) → V E G (tw o q_87.2 M0) 0 0 5 128 [(4, .int q_87.1), (0, rf E o), (1, .int p1), (2, .int p2), (3, .int p3)] [] Q := by
                  intro q_87 e9
                  subst q_87
                  show V E G (tw o S_85 M0) 0 0 5 128 [(4, .int x4_84), (0, rf E o), (1, .int p1), (2, .int p2), (3, .int p3)] [] Q
                  refine V_aload_n hG 1 rfl dX7_tried_128 ?_
                  refine V_iload_n hG 2 rfl dX7_tried_129 ?_
                  refine V_iconst hG 4 rfl dX7_tried_130 ?_
                  obtain ⟨t_88, et_88, h⟩ := be_of h
                  have J_89 : ∀ y_91 : Int32, y_91 = t_88 → V E G (tw o S_85 M0) 0 0 5 139 [(4, .int x4_84), (0, rf E o), (1, .int p1), (2, .int p2), (3, .int p3)] [.int y_91, rf E o] Q := by
                    intro y_91 ey
                    subst ey
                    obtain ⟨g_93, h⟩ := gd_of h
                    obtain ⟨S_92, eS_92, h⟩ := be_of h
                    refine p7_395 hM hG eS_92 g_93 dX7_tried_139 ?_
                    refine V_aload_n hG 1 rfl dX7_tried_142 ?_
                    refine V_iload_n hG 4 rfl dX7_tried_143 ?_
                    obtain ⟨S_95, hc_94, h⟩ := bd_of h
                    refine V_callV0 hE hG (As := [.int p3]) (rest := []) (ok_tw_goMany hE hM hc_94) hM.1 (by decide) rfl hw7_476 hd_tw_goMany ⟨Nat.le_of_ble_eq_true rfl, Nat.le_of_ble_eq_true rfl⟩ rfl rfl (Nat.le_of_ble_eq_true rfl) rfl rfl dX7_tried_144 ?_
                    refine V_aload_n hG 1 rfl dX7_tried_147 ?_
                    obtain ⟨S_97, hc_96, h⟩ := bd_of h
                    refine V_callV0 hE hG (As := []) (rest := []) (ok_tw_plainTried hE hM hc_96) hM.1 (by decide) rfl hw7_374 hd_tw_plainTried ⟨Nat.le_of_ble_eq_true rfl, Nat.le_of_ble_eq_true rfl⟩ rfl rfl (Nat.le_of_ble_eq_true rfl) rfl rfl dX7_tried_148 ?_
                    refine V_aload_n hG 1 rfl dX7_tried_151 ?_
                    refine g7_115 hM hG dX7_tried_152 ?_
                    refine V_iconst hG 1 rfl dX7_tried_155 ?_
                    refine T_iaload hM hG (by decide) (by decide) dX7_tried_156 ?_
                    refine V_aload_n hG 1 rfl dX7_tried_157 ?_
                    refine g7_115 hM hG dX7_tried_158 ?_
                    refine V_iconst hG 0 rfl dX7_tried_161 ?_
                    refine T_iaload hM hG (by decide) (by decide) dX7_tried_162 ?_
                    refine V_isub hG dX7_tried_163 ?_
                    cases h
                    subst eQ
                    exact V_iret hG dX7_tried_164
                  refine V_icmp_ne hG 138 dX7_tried_131 (by decide) (fun c_90 => ?_) (fun c_90 => ?_)
                  · refine V_iconst hG 0 rfl dX7_tried_138 ?_
                    exact J_89 _ (by rw [et_88, if_neg c_90])
                  · refine V_iconst hG 1 rfl dX7_tried_134 ?_
                    refine V_goto hG 139 dX7_tried_135 (by decide) ?_
                    exact J_89 _ (by rw [et_88, if_pos c_90])
                refine lp_walk (W := fun s_98 : Int32 × TS => V E G (tw o s_98.2 M0) 0 0 5 96 [(4, .int s_98.1), (0, rf E o), (1, .int p1), (2, .int p2), (3, .int p3)] [] Q) ?_ N (0, S_74) hL_86
                intro s_98 b_77 hb_78 hk_79 hx_80
                obtain ⟨x4_82, S_83⟩ := s_98
                have hb_78 : tw_tried_b2 N p1 p2 p3 x4_82 S_83 = some b_77 := hb_78
                unfold tw_tried_b2 at hb_78
                show V E G (tw o S_83 M0) 0 0 5 96 [(4, .int x4_82), (0, rf E o), (1, .int p1), (2, .int p2), (3, .int p3)] [] Q
                refine V_iload hG 0 rfl dX7_tried_96 ?_
                refine V_aload_n hG 1 rfl dX7_tried_98 ?_
                refine g7_243 hM hG dX7_tried_99 ?_
                refine V_icmp_ge hG 128 dX7_tried_102 (by decide) (fun c_99 => ?_) (fun c_99 => ?_)
                · have hb_78 := if_t c_99 hb_78
                  cases hb_78
                  exact J_81 _ (hx_80 _ rfl)
                · have hb_78 := if_f c_99 hb_78
                  refine V_iload_n hG 2 rfl dX7_tried_105 ?_
                  refine V_iconst hG 3 rfl dX7_tried_106 ?_
                  refine V_icmp_ne hG 128 dX7_tried_107 (by decide) (fun c_100 => ?_) (fun c_100 => ?_)
                  · have hb_78 := if_f c_100 hb_78
                    cases hb_78
                    exact J_81 _ (hx_80 _ rfl)
                  · have hb_78 := if_t c_100 hb_78
                    refine V_aload_n hG 1 rfl dX7_tried_110 ?_
                    refine g7_112 hM hG dX7_tried_111 ?_
                    refine V_bipush hG 6 (by decide) dX7_tried_114 ?_
                    refine V_iload hG 0 rfl dX7_tried_116 ?_
                    refine V_iadd hG dX7_tried_118 ?_
                    refine V_bipush hG 99 (by decide) dX7_tried_119 ?_
                    obtain ⟨g_101, hb_78⟩ := gd_of hb_78
                    obtain ⟨S_102, eS_102, hb_78⟩ := be_of hb_78
                    refine T_iastore hM hG eS_102 (by decide) g_101 dX7_tried_121 ?_
                    obtain ⟨x4_103, ex4_103, hb_78⟩ := be_of hb_78
                    refine V_iinc hG 0 x4_103 rfl (by rw [ex4_103]; rfl) [(4, .int x4_103), (0, rf E o), (1, .int p1), (2, .int p2), (3, .int p3)] dX7_tried_122 (Nat.le_of_ble_eq_true rfl) rfl ?_
                    refine V_goto hG 96 dX7_tried_125 (by decide) ?_
                    cases hb_78
                    exact hk_79 _ rfl
              refine V_icmp_ne hG 93 dX7_tried_80 (by decide) (fun c_104 => ?_) (fun c_104 => ?_)
              · have hj_76 := if_f c_104 hj_76
                cases hj_76
                exact J_75
              · have hj_76 := if_t c_104 hj_76
                refine V_aload_n hG 0 rfl dX7_tried_83 ?_
                refine g7_106 hM hG dX7_tried_84 ?_
                refine V_bipush hG 6 (by decide) dX7_tried_87 ?_
                refine V_iload_n hG 2 rfl dX7_tried_89 ?_
                refine V_iadd hG dX7_tried_90 ?_
                refine V_iconst hG 0 rfl dX7_tried_91 ?_
                obtain ⟨g_105, hj_76⟩ := gd_of hj_76
                obtain ⟨S_106, eS_106, hj_76⟩ := be_of hj_76
                refine T_zastore hM hG eS_106 (Or.inl rfl) (by decide) g_105 dX7_tried_92 ?_
                cases hj_76
                exact J_75
            refine V_icmp_ne hG 74 dX7_tried_67 (by decide) (fun c_70 => ?_) (fun c_70 => ?_)
            · refine V_iconst hG 0 rfl dX7_tried_74 ?_
              exact J_69 _ (by rw [et_68, if_neg c_70])
            · refine V_iconst hG 1 rfl dX7_tried_70 ?_
              refine V_goto hG 75 dX7_tried_71 (by decide) ?_
              exact J_69 _ (by rw [et_68, if_pos c_70])
          refine V_if_ne hG 60 dX7_tried_53 (by decide) (fun c_64 => ?_) (fun c_64 => ?_)
          · refine V_iconst hG 0 rfl dX7_tried_60 ?_
            exact J_63 _ (by rw [et_62, if_neg c_64])
          · refine V_iconst hG 1 rfl dX7_tried_56 ?_
            refine V_goto hG 61 dX7_tried_57 (by decide) ?_
            exact J_63 _ (by rw [et_62, if_pos c_64])
        · have h := if_t c_59 h
          refine V_goto hG 45 dX7_tried_38 (by decide) ?_
          refine V_iconst hG (-1) rfl dX7_tried_45 ?_
          cases h
          subst eQ
          exact V_iret hG dX7_tried_46

def tw_trough_b1 (N : Nat) (p1 : Int32) (p2 : Int32) (S_1 : TS) (x4_10 : Int32) (x3_11 : Int32) : Option ((Int32 × Int32) ⊕ (Int32 × Int32)) :=
if tI S_1 0 13 ≤ x4_10 then (
some (.inl (x4_10, x3_11)))
else (
gd (inb x4_10 (lenA 31)) (
bd (if tI S_1 31 (Int32.toNatClampNeg x4_10) = 0 then (
some 0)
else (
gd (inb x4_10 (lenA 27)) (
gd (inb p1 (lenA 6)) (
if tI S_1 27 (Int32.toNatClampNeg x4_10) = tI S_1 6 (Int32.toNatClampNeg p1) then (
some (1 <<< (x4_10 &&& 31)))
else (
some 0)))) : Option (Int32)) fun (t_29 : Int32) =>
be (x3_11 ||| t_29) fun (x3_32 : Int32) =>
be (x4_10 + 1) fun (x4_33 : Int32) =>
some (.inr (x4_33, x3_32))))
def tw_trough (N : Nat) (p1 : Int32) (p2 : Int32) (S : TS) : Option (Int32 × TS) :=
be (tsI S 0 2 0) fun S_1 =>
bd (tw_isTrough p1 S_1) fun r_3 =>
if r_3 = 0 then (
some ((-1), S_1))
else (
bd2 (lp N (fun s_26 : Int32 × Int32 => tw_trough_b1 N p1 p2 S_1 s_26.1 s_26.2) (0, 0)) fun (x4_12 : Int32) (x3_13 : Int32) =>
bd (if p2 = 0 then (
gd (inb p1 (lenA 6)) (
some (tI S_1 6 (Int32.toNatClampNeg p1))))
else (
if p2 = 1 then (
gd (inb p1 (lenA 33)) (
some (tI S_1 33 (Int32.toNatClampNeg p1))))
else (
if p2 = 2 then (
gd (inb p1 (lenA 8)) (
some (tI S_1 8 (Int32.toNatClampNeg p1))))
else (
if p2 = 3 then (
some x3_13)
else (
some (-1))))) : Option (Int32)) fun (t_16 : Int32) =>
some (t_16, S_1))
def rm_tw_trough : Room := { frames := 1, cells := 0, slots := 0, locals := 21 }
theorem ok_tw_trough {E : En} (hE : EOk E) {o : Nat} {M0 : Mem} (hM : TwS o M0) {N : Nat} {p1 : Int32} {p2 : Int32} {S : TS} {r : Int32} {S' : TS} (h : tw_trough N p1 p2 S = some (r, S')) : CM E yX7_trough cX7_trough 5 (some .int) rm_tw_trough [rf E o, .int p1, .int p2] (tw o S M0) (some (.int r)) (tw o S' M0) := by
  unfold tw_trough at h
  refine CM_intro (own := RX7) rfl (by decide) (Nat.le_of_ble_eq_true rfl) rfl (fun G hG => ?_)
  obtain ⟨Q, eQ⟩ : ∃ Q, Q = QM E G (some (.int r)) (tw o S' M0) 0 0 := ⟨_, rfl⟩
  show V E G (tw o S M0) 0 0 5 0 [(0, rf E o), (1, .int p1), (2, .int p2)] [] (QM E G (some (.int r)) (tw o S' M0) 0 0)
  rw [← eQ]
  refine V_aload_n hG 0 rfl dX7_trough_0 ?_
  refine V_iconst hG 0 rfl dX7_trough_1 ?_
  obtain ⟨S_1, eS_1, h⟩ := be_of h
  refine p7_160 hM hG eS_1 dX7_trough_2 ?_
  refine V_aload_n hG 0 rfl dX7_trough_5 ?_
  refine V_iload_n hG 1 rfl dX7_trough_6 ?_
  obtain ⟨r_3, hc_2, h⟩ := bd_of h
  refine V_callV0 hE hG (As := [.int p1]) (rest := []) (ok_tw_isTrough hE hM hc_2) hM.1 (by decide) rfl hw7_465 hd_tw_isTrough ⟨Nat.le_of_ble_eq_true rfl, Nat.le_of_ble_eq_true rfl⟩ rfl rfl (Nat.le_of_ble_eq_true rfl) rfl rfl dX7_trough_7 ?_
  refine V_if_ne hG 15 dX7_trough_10 (by decide) (fun c_4 => ?_) (fun c_4 => ?_)
  · have h := if_f c_4 h
    refine V_iconst hG 0 rfl dX7_trough_15 ?_
    refine V_istore_n hG rfl [(3, .int 0), (0, rf E o), (1, .int p1), (2, .int p2)] dX7_trough_16 (Nat.le_of_ble_eq_true rfl) rfl ?_
    refine V_iconst hG 0 rfl dX7_trough_17 ?_
    refine V_istore hG [(4, .int 0), (3, .int 0), (0, rf E o), (1, .int p1), (2, .int p2)] dX7_trough_18 (Nat.le_of_ble_eq_true rfl) rfl ?_
    obtain ⟨x4_12, x3_13, hL_14, h⟩ := bd2_of h
    have J_9 : ∀ q_15 : Int32 × Int32, q_15 = (x4_12, x3_13) → V E G (tw o S_1 M0) 0 0 5 72 [(4, .int q_15.1), (3, .int q_15.2), (0, rf E o), (1, .int p1), (2, .int p2)] [] Q := by
      intro q_15 e9
      subst q_15
      show V E G (tw o S_1 M0) 0 0 5 72 [(4, .int x4_12), (3, .int x3_13), (0, rf E o), (1, .int p1), (2, .int p2)] [] Q
      refine V_iload_n hG 4 rfl dX7_trough_72 ?_
      obtain ⟨t_16, hj_18, h⟩ := bd_of h
      have J_17 : V E G (tw o S_1 M0) 0 0 5 123 [(4, .int x4_12), (3, .int x3_13), (0, rf E o), (1, .int p1), (2, .int p2)] [.int t_16] Q := by
        cases h
        subst eQ
        exact V_iret hG dX7_trough_123
      refine V_if_ne hG 85 dX7_trough_73 (by decide) (fun c_19 => ?_) (fun c_19 => ?_)
      · have hj_18 := if_f c_19 hj_18
        refine V_iload_n hG 4 rfl dX7_trough_85 ?_
        refine V_iconst hG 1 rfl dX7_trough_86 ?_
        refine V_icmp_ne hG 99 dX7_trough_87 (by decide) (fun c_20 => ?_) (fun c_20 => ?_)
        · have hj_18 := if_f c_20 hj_18
          refine V_iload_n hG 4 rfl dX7_trough_99 ?_
          refine V_iconst hG 2 rfl dX7_trough_100 ?_
          refine V_icmp_ne hG 113 dX7_trough_101 (by decide) (fun c_21 => ?_) (fun c_21 => ?_)
          · have hj_18 := if_f c_21 hj_18
            refine V_iload_n hG 4 rfl dX7_trough_113 ?_
            refine V_iconst hG 3 rfl dX7_trough_114 ?_
            refine V_icmp_ne hG 122 dX7_trough_115 (by decide) (fun c_22 => ?_) (fun c_22 => ?_)
            · have hj_18 := if_f c_22 hj_18
              refine V_iconst hG (-1) rfl dX7_trough_122 ?_
              cases hj_18
              exact J_17
            · have hj_18 := if_t c_22 hj_18
              refine V_iload_n hG 1 rfl dX7_trough_118 ?_
              refine V_goto hG 123 dX7_trough_119 (by decide) ?_
              cases hj_18
              exact J_17
          · have hj_18 := if_t c_21 hj_18
            refine V_aload_n hG 2 rfl dX7_trough_104 ?_
            refine g7_36 hM hG dX7_trough_105 ?_
            refine V_iload_n hG 3 rfl dX7_trough_108 ?_
            obtain ⟨g_23, hj_18⟩ := gd_of hj_18
            refine T_iaload hM hG (by decide) g_23 dX7_trough_109 ?_
            refine V_goto hG 123 dX7_trough_110 (by decide) ?_
            cases hj_18
            exact J_17
        · have hj_18 := if_t c_20 hj_18
          refine V_aload_n hG 2 rfl dX7_trough_90 ?_
          refine g7_112 hM hG dX7_trough_91 ?_
          refine V_iload_n hG 3 rfl dX7_trough_94 ?_
          obtain ⟨g_24, hj_18⟩ := gd_of hj_18
          refine T_iaload hM hG (by decide) g_24 dX7_trough_95 ?_
          refine V_goto hG 123 dX7_trough_96 (by decide) ?_
          cases hj_18
          exact J_17
      · have hj_18 := if_t c_19 hj_18
        refine V_aload_n hG 2 rfl dX7_trough_76 ?_
        refine g7_30 hM hG dX7_trough_77 ?_
        refine V_iload_n hG 3 rfl dX7_trough_80 ?_
        obtain ⟨g_25, hj_18⟩ := gd_of hj_18
        refine T_iaload hM hG (by decide) g_25 dX7_trough_81 ?_
        refine V_goto hG 123 dX7_trough_82 (by decide) ?_
        cases hj_18
        exact J_17
    refine lp_walk (W := fun s_26 : Int32 × Int32 => V E G (tw o S_1 M0) 0 0 5 20 [(4, .int s_26.1), (3, .int s_26.2), (0, rf E o), (1, .int p1), (2, .int p2)] [] Q) ?_ N (0, 0) hL_14
    intro s_26 b_5 hb_6 hk_7 hx_8
    obtain ⟨x4_10, x3_11⟩ := s_26
    have hb_6 : tw_trough_b1 N p1 p2 S_1 x4_10 x3_11 = some b_5 := hb_6
    unfold tw_trough_b1 at hb_6
    show V E G (tw o S_1 M0) 0 0 5 20 [(4, .int x4_10), (3, .int x3_11), (0, rf E o), (1, .int p1), (2, .int p2)] [] Q
    refine V_iload hG 0 rfl dX7_trough_20 ?_
    refine V_aload_n hG 2 rfl dX7_trough_22 ?_
    refine g7_246 hM hG dX7_trough_23 ?_
    refine V_icmp_ge hG 72 dX7_trough_26 (by decide) (fun c_27 => ?_) (fun c_27 => ?_)
    · have hb_6 := if_t c_27 hb_6
      cases hb_6
      exact J_9 _ (hx_8 _ rfl)
    · have hb_6 := if_f c_27 hb_6
      refine V_iload_n hG 1 rfl dX7_trough_29 ?_
      refine V_aload_n hG 2 rfl dX7_trough_30 ?_
      refine g7_106 hM hG dX7_trough_31 ?_
      refine V_iload hG 0 rfl dX7_trough_34 ?_
      obtain ⟨g_28, hb_6⟩ := gd_of hb_6
      refine T_zaload hM hG (by decide) g_28 dX7_trough_36 ?_
      obtain ⟨t_29, hj_31, hb_6⟩ := bd_of hb_6
      have J_30 : V E G (tw o S_1 M0) 0 0 5 64 [(4, .int x4_10), (3, .int x3_11), (0, rf E o), (1, .int p1), (2, .int p2)] [.int t_29, .int x3_11] Q := by
        refine V_ior hG dX7_trough_64 ?_
        obtain ⟨x3_32, ex3_32, hb_6⟩ := be_of hb_6
        refine V_topi ex3_32 ?_
        refine V_istore_n hG rfl [(3, .int x3_32), (4, .int x4_10), (0, rf E o), (1, .int p1), (2, .int p2)] dX7_trough_65 (Nat.le_of_ble_eq_true rfl) rfl ?_
        obtain ⟨x4_33, ex4_33, hb_6⟩ := be_of hb_6
        refine V_iinc hG 1 x4_33 rfl (by rw [ex4_33]; rfl) [(4, .int x4_33), (3, .int x3_32), (0, rf E o), (1, .int p1), (2, .int p2)] dX7_trough_66 (Nat.le_of_ble_eq_true rfl) rfl ?_
        refine V_goto hG 20 dX7_trough_69 (by decide) ?_
        cases hb_6
        exact hk_7 _ rfl
      refine V_if_eq hG 63 dX7_trough_37 (by decide) (fun c_34 => ?_) (fun c_34 => ?_)
      · have hj_31 := if_t c_34 hj_31
        refine V_iconst hG 0 rfl dX7_trough_63 ?_
        cases hj_31
        exact J_30
      · have hj_31 := if_f c_34 hj_31
        refine V_aload_n hG 2 rfl dX7_trough_40 ?_
        refine g7_94 hM hG dX7_trough_41 ?_
        refine V_iload hG 0 rfl dX7_trough_44 ?_
        obtain ⟨g_35, hj_31⟩ := gd_of hj_31
        refine T_iaload hM hG (by decide) g_35 dX7_trough_46 ?_
        refine V_aload_n hG 2 rfl dX7_trough_47 ?_
        refine g7_30 hM hG dX7_trough_48 ?_
        refine V_iload_n hG 3 rfl dX7_trough_51 ?_
        obtain ⟨g_36, hj_31⟩ := gd_of hj_31
        refine T_iaload hM hG (by decide) g_36 dX7_trough_52 ?_
        refine V_icmp_ne hG 63 dX7_trough_53 (by decide) (fun c_37 => ?_) (fun c_37 => ?_)
        · have hj_31 := if_f c_37 hj_31
          refine V_iconst hG 0 rfl dX7_trough_63 ?_
          cases hj_31
          exact J_30
        · have hj_31 := if_t c_37 hj_31
          refine V_iconst hG 1 rfl dX7_trough_56 ?_
          refine V_iload hG 0 rfl dX7_trough_57 ?_
          refine V_ishl hG dX7_trough_59 ?_
          refine V_goto hG 64 dX7_trough_60 (by decide) ?_
          cases hj_31
          exact J_30
  · have h := if_t c_4 h
    refine V_iconst hG (-1) rfl dX7_trough_13 ?_
    cases h
    subst eQ
    exact V_iret hG dX7_trough_14

def tw_undo (N : Nat)  (S : TS) : Option (Int32 × TS) :=
be (tsI S 0 2 0) fun S_1 =>
if tI S_1 0 78 = 0 then (
some ((-1), S_1))
else (
be (tsI S_1 0 78 ((tI S_1 0 78) - 1)) fun S_3 =>
bd (tw_take N 43 (18 * (tI S_3 0 78)) S_3) fun S_5 =>
some (tI S_5 0 78, S_5))
def rm_tw_undo : Room := { frames := 1, cells := 0, slots := 0, locals := 23 }
theorem ok_tw_undo {E : En} (hE : EOk E) {o : Nat} {M0 : Mem} (hM : TwS o M0) {N : Nat}  {S : TS} {r : Int32} {S' : TS} (h : tw_undo N  S = some (r, S')) : CM E yX7_undo cX7_undo 1 (some .int) rm_tw_undo [rf E o] (tw o S M0) (some (.int r)) (tw o S' M0) := by
  unfold tw_undo at h
  refine CM_intro (own := RX7) rfl (by decide) (Nat.le_of_ble_eq_true rfl) rfl (fun G hG => ?_)
  obtain ⟨Q, eQ⟩ : ∃ Q, Q = QM E G (some (.int r)) (tw o S' M0) 0 0 := ⟨_, rfl⟩
  show V E G (tw o S M0) 0 0 1 0 [(0, rf E o)] [] (QM E G (some (.int r)) (tw o S' M0) 0 0)
  rw [← eQ]
  refine V_aload_n hG 0 rfl dX7_undo_0 ?_
  refine V_iconst hG 0 rfl dX7_undo_1 ?_
  obtain ⟨S_1, eS_1, h⟩ := be_of h
  refine p7_160 hM hG eS_1 dX7_undo_2 ?_
  refine V_aload_n hG 0 rfl dX7_undo_5 ?_
  refine g7_380 hM hG dX7_undo_6 ?_
  refine V_if_ne hG 14 dX7_undo_9 (by decide) (fun c_2 => ?_) (fun c_2 => ?_)
  · have h := if_f c_2 h
    refine V_aload_n hG 0 rfl dX7_undo_14 ?_
    refine V_dup hG rfl dX7_undo_15 ?_
    refine g7_380 hM hG dX7_undo_16 ?_
    refine V_iconst hG 1 rfl dX7_undo_19 ?_
    refine V_isub hG dX7_undo_20 ?_
    obtain ⟨S_3, eS_3, h⟩ := be_of h
    refine p7_380 hM hG eS_3 dX7_undo_21 ?_
    refine V_aload_n hG 0 rfl dX7_undo_24 ?_
    refine V_aload_n hG 0 rfl dX7_undo_25 ?_
    refine g7_145 hM hG dX7_undo_26 ?_
    refine V_bipush hG 18 (by decide) dX7_undo_29 ?_
    refine V_aload_n hG 0 rfl dX7_undo_31 ?_
    refine g7_380 hM hG dX7_undo_32 ?_
    refine V_imul hG dX7_undo_35 ?_
    obtain ⟨S_5, hc_4, h⟩ := bd_of h
    refine V_callV0 hE hG (As := [rf E ((o + 43)), .int (18 * (tI S_3 0 78))]) (rest := []) (ok_tw_take hE hM hc_4) hM.1 (by decide) rfl hw7_523 hd_tw_take ⟨Nat.le_of_ble_eq_true rfl, Nat.le_of_ble_eq_true rfl⟩ rfl rfl (Nat.le_of_ble_eq_true rfl) rfl rfl dX7_undo_36 ?_
    refine V_aload_n hG 0 rfl dX7_undo_39 ?_
    refine g7_380 hM hG dX7_undo_40 ?_
    cases h
    subst eQ
    exact V_iret hG dX7_undo_43
  · have h := if_t c_2 h
    refine V_iconst hG (-1) rfl dX7_undo_12 ?_
    cases h
    subst eQ
    exact V_iret hG dX7_undo_13
