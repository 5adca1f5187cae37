set_option maxRecDepth 100000
set_option maxHeartbeats 4000000
section XR
variable {E : En} {G : Ctx} {M M' : Mem} {cells slots nL pc : Nat} {lv lv' : List (Nat × Value)} {st st0 : List Value} {Q : State → Prop} {cc : ByteArray} {ret : Option FieldType} {own : String} {rm0 : Room}
theorem X_gets (hG : Cx E G cc nL ret own rm0) {C n d0 : String} {v : Value} {idx : Nat} (hZ : ∀ U : State, E.2.2.2.2 U → va_Z C n d0 v (fun q => E.2.1 ≤ q) U U.heap) (q : Cond.fieldLink own idx C n d0 ∈ lw_all) (d : decode cc pc = .ok (.getstatic idx, 3)) (kk : V E G M cells slots nL (pc + 3) lv (v :: st) Q) : V E G M cells slots nL pc lv (st) Q := by
  obtain ⟨p, e, R, s, m, args, below, meth, c⟩ := G
  obtain ⟨hx, hb, hml, hown, hts, hr, hlk, hRm, hK, hbs, hKs⟩ := hG
  intro H locs ls hR hS hl
  exact va_gets hx hb (hZ s hKs) hS hown (hts _ q) (fun _ h => h) d (kk H locs ls hR hS hl)
theorem X_getsN (hG : Cx E G cc nL ret own rm0) (hN : NOk E) {C n d0 host : String} {v : Value} {idx : Nat} (hZ : ∀ U : State, E.2.2.2.2 U → va_Z C n d0 v (fun q => E.2.1 ≤ q) U U.heap) (q : Cond.fieldLinkNest own idx C n d0 host ∈ lw_tbl) (d : decode cc pc = .ok (.getstatic idx, 3)) (kk : V E G M cells slots nL (pc + 3) lv (v :: st) Q) : V E G M cells slots nL pc lv (st) Q := by
  obtain ⟨p, e, R, s, m, args, below, meth, c⟩ := G
  obtain ⟨hx, hb, hml, hown, hts, hr, hlk, hRm, hK, hbs, hKs⟩ := hG
  intro H locs ls hR hS hl
  exact va_getsN hx hb (hZ s hKs) hS hown (va_Nw.use rfl (hN.1 s hKs _ q rfl)) (fun _ h => h) d (kk H locs ls hR hS hl)
theorem X_getsq (hG : Cx E G cc nL ret own rm0) {C n d0 : String} {idx : Nat} (hZ : ∀ U : State, E.2.2.2.2 U → va_Zq C n d0 (fun q => E.2.1 ≤ q) U U.heap) (q : Cond.fieldLink own idx C n d0 ∈ lw_all) (d : decode cc pc = .ok (.getstatic idx, 3)) (kk : ∀ v : Value, v = .null ∨ (∃ t, v = .ref t) → V E G M cells slots nL (pc + 3) lv (v :: st) Q) : V E G M cells slots nL pc lv st Q := by
  obtain ⟨p, e, R, s, m, args, below, meth, c⟩ := G
  obtain ⟨hx, hb, hml, hown, hts, hr, hlk, hRm, hK, hbs, hKs⟩ := hG
  intro H locs ls hR hS hl
  rcases hZ s hKs with h | ⟨t, h⟩
  · exact va_gets hx hb h hS hown (hts _ q) (fun _ h => h) d (kk _ (Or.inl rfl) H locs ls hR hS hl)
  · exact va_gets hx hb h hS hown (hts _ q) (fun _ h => h) d (kk _ (Or.inr ⟨t, rfl⟩) H locs ls hR hS hl)
theorem X_getf (hG : Cx E G cc nL ret own rm0) {C n d0 : String} {v : Value} {idx t : Nat} (hF : ∀ U : State, E.2.2.2.2 U → va_OF C n d0 v t (fun q => E.2.1 ≤ q) U U.heap) (q : Cond.fieldLink own idx C n d0 ∈ lw_all) (d : decode cc pc = .ok (.getfield idx, 3)) (kk : V E G M cells slots nL (pc + 3) lv (v :: st) Q) : V E G M cells slots nL pc lv (.ref t :: st) Q := by
  obtain ⟨p, e, R, s, m, args, below, meth, c⟩ := G
  obtain ⟨hx, hb, hml, hown, hts, hr, hlk, hRm, hK, hbs, hKs⟩ := hG
  intro H locs ls hR hS hl
  exact vk_getf hx hb (hF s hKs) hS hown (hts _ q) (fun _ h => h) d (kk H locs ls hR hS hl)
theorem X_alen (hG : Cx E G cc nL ret own rm0) {t L : Nat} {ty : FieldType} {f : Nat → Value} (hF : ∀ U : State, E.2.2.2.2 U → va_T ty t L f (fun q => E.2.1 ≤ q) U U.heap) (d : decode cc pc = .ok (.arraylength, 1)) (kk : V E G M cells slots nL (pc + 1) lv (.int (Int32.ofNat L) :: st) Q) : V E G M cells slots nL pc lv (.ref t :: st) Q := by
  obtain ⟨p, e, R, s, m, args, below, meth, c⟩ := G
  obtain ⟨hx, hb, hml, hown, hts, hr, hlk, hRm, hK, hbs, hKs⟩ := hG
  intro H locs ls hR hS hl
  exact va_tlen hx hb (hF s hKs) hS rfl d (kk H locs ls hR hS hl)
theorem X_bald (hG : Cx E G cc nL ret own rm0) {t L : Nat} {f : Nat → Value} {i : Int32} (hF : ∀ U : State, E.2.2.2.2 U → va_T .byte t L f (fun q => E.2.1 ≤ q) U U.heap) (hi : vp_in i L) (d : decode cc pc = .ok (.baload, 1)) (kk : V E G M cells slots nL (pc + 1) lv (f i.toNatClampNeg :: st) Q) : V E G M cells slots nL pc lv (.int i :: .ref t :: st) Q := by
  obtain ⟨p, e, R, s, m, args, below, meth, c⟩ := G
  obtain ⟨hx, hb, hml, hown, hts, hr, hlk, hRm, hK, hbs, hKs⟩ := hG
  intro H locs ls hR hS hl
  exact va_tb hx hb (hF s hKs) hS hi rfl d (kk H locs ls hR hS hl)
theorem X_aald (hG : Cx E G cc nL ret own rm0) {t L : Nat} {C : String} {f : Nat → Value} {i : Int32} (hF : ∀ U : State, E.2.2.2.2 U → va_T (.object C) t L f (fun q => E.2.1 ≤ q) U U.heap) (hi : vp_in i L) (d : decode cc pc = .ok (.aaload, 1)) (kk : V E G M cells slots nL (pc + 1) lv (f i.toNatClampNeg :: st) Q) : V E G M cells slots nL pc lv (.int i :: .ref t :: st) Q := by
  obtain ⟨p, e, R, s, m, args, below, meth, c⟩ := G
  obtain ⟨hx, hb, hml, hown, hts, hr, hlk, hRm, hK, hbs, hKs⟩ := hG
  intro H locs ls hR hS hl
  exact vb_tq hx hb (hF s hKs) hS hi rfl d (kk H locs ls hR hS hl)
theorem X_ldcS (hG : Cx E G cc nL ret own rm0) {tx : String} {t idx : Nat} (hF : ∀ U : State, E.2.2.2.2 U → vk_R own idx tx t U) (d : decode cc pc = .ok (.ldc idx, 2)) (kk : V E G M cells slots nL (pc + 2) lv (.ref t :: st) Q) : V E G M cells slots nL pc lv (st) Q := by
  obtain ⟨p, e, R, s, m, args, below, meth, c⟩ := G
  obtain ⟨hx, hb, hml, hown, hts, hr, hlk, hRm, hK, hbs, hKs⟩ := hG
  intro H locs ls hR hS hl
  exact va_ldcS hx hb hown (hF s hKs) d (kk H locs ls hR hS hl)
theorem X_aload_n (hG : Cx E G cc nL ret own rm0) {q : Fin 4} (w : Nat) {v : Value} (hv : v = .null ∨ ∃ t, v = .ref t) (hi : lv[w]? = some (q.val, v)) (d : decode cc pc = .ok (.aload_n q, 1)) (kk : V E G M cells slots nL (pc + 1) lv (v :: st) Q) : V E G M cells slots nL pc lv st Q := by
  obtain ⟨p, e, R, s, m, args, below, meth, c⟩ := G
  obtain ⟨hx, hb, hml, hown, hts, hr, hlk, hRm, hK, hbs, hKs⟩ := hG
  intro H locs ls hR hS hl
  rcases hv with rfl | ⟨t, rfl⟩
  · exact lv_aload_nN hx hb d rfl (lv_at hl w hi) (kk H locs ls hR hS hl)
  · exact lv_aload_n hx hb d rfl (lv_at hl w hi) (kk H locs ls hR hS hl)
theorem X_bret (hG : Cx E G cc nL (some .byte) own rm0) {v : Int32} (h : narrow .byte (.int v) = .int v) (d : decode cc pc = .ok (.ireturn, 1)) : V E G M cells slots nL pc lv [.int v] (QM E G (some (.int v)) M cells slots) := by
  obtain ⟨p, e, R, s, m, args, below, meth, c⟩ := G
  obtain ⟨hx, hb, hml, hown, hts, hr, hlk, hRm, hK, hbs, hKs⟩ := hG
  intro H locs ls hR hS hl
  exact W.zret (v := v) hx hb hr h (fun t ht hW => ⟨⟨rfl, by rw [ht]; exact hR⟩, hS.F ht⟩) hS.2.2 d hlk
theorem X_cret (hG : Cx E G cc nL (some .char) own rm0) {v : Int32} (h : narrow .char (.int v) = .int v) (d : decode cc pc = .ok (.ireturn, 1)) : V E G M cells slots nL pc lv [.int v] (QM E G (some (.int v)) M cells slots) := by
  obtain ⟨p, e, R, s, m, args, below, meth, c⟩ := G
  obtain ⟨hx, hb, hml, hown, hts, hr, hlk, hRm, hK, hbs, hKs⟩ := hG
  intro H locs ls hR hS hl
  exact W.zret (v := v) hx hb hr h (fun t ht hW => ⟨⟨rfl, by rw [ht]; exact hR⟩, hS.F ht⟩) hS.2.2 d hlk
theorem X_callV (hE : EOk E) (hG : Cx E G cc nL ret own rm0) {y : MethodName} {bytes : ByteArray} {maxL n index : Nat} {rt : Option FieldType} {rm : Room} {As rest : List Value} {v : Option Value} {t : Nat} {C : String} (hM : CM E y bytes maxL rt rm (.ref t :: As) M v M') (hO : ∀ U : State, E.2.2.2.2 U → va_O C t (fun q => E.2.1 ≤ q) U U.heap) (hW : GoodIn lw_all (wsV own index C y (ws_ y bytes maxL rt))) (hd : y.cls = C ∧ y.cls ≠ "java/lang/invoke/MethodHandle" ∧ y.cls ≠ "java/lang/invoke/VarHandle" ∧ (parseMethodDescriptor y.desc).map (fun d => d.parameters.length) = some n) (hR9 : rm.frames + 1 ≤ rm0.frames ∧ 8 + (maxL + 11) + rm.locals ≤ rm0.locals) (hn : As.length = n) (hst : st0 = As.reverse ++ .ref t :: rest) (hcat : (rest.map fun v => v.category).sum ≤ 8) (hf : cells + rm.cells ≤ rm0.cells ∧ slots + rm.slots ≤ rm0.slots) (d : decode cc pc = .ok (.invokevirtual index, 3)) (k : V E G M' (cells + rm.cells) (slots + rm.slots) nL (pc + 3) lv (v.toList ++ rest) Q) : V E G M cells slots nL pc lv st0 Q := by
  obtain ⟨p, e, R, s, m, args, below, meth, c⟩ := G
  obtain ⟨hx, hb, hml, hown, hts, hr, hlk, hRm, hK, hbs, hKs⟩ := hG
  intro H locs ls hR hS hl
  subst hRm
  obtain ⟨cell, g1, g2, g3, -⟩ := (hO s hKs).kept hS.2.1
  exact V_after (va_runV (As := As) (rest := rest) ⟨hx, hb, hml, hown, hts⟩ hM (cwV n hts hW rfl rfl rfl hd hR9) ⟨KX.blind hE, ⟨cell, g1, g2, g3⟩, fun U hU hW => ⟨rfl, by rw [hU]; exact hR, KX.at hE ⟨hK, hbs, hKs⟩ hS hU hW⟩⟩ rfl hn hl.1 hst (lv_room hcat) d hf) hS hl k
theorem X_aaldN (hG : Cx E G cc nL ret own rm0) {ta : Nat} {adK : Nat → Nat} {i : Int32} (hF : ∀ U : State, E.2.2.2.2 U → va_T (.object "java/lang/String") ta 20 (fun j => .ref (adK j)) (fun q => E.2.1 ≤ q) U U.heap) (hi : inb i 20) (d : decode cc pc = .ok (.aaload, 1)) (kk : V E G M cells slots nL (pc + 1) lv (.ref (adK i.toNatClampNeg) :: st) Q) : V E G M cells slots nL pc lv (.int i :: .ref ta :: st) Q := X_aald hG hF hi d kk
theorem inb21 {i : Int32} (h : inb i 20) : i.toNatClampNeg < 21 := Nat.lt_of_not_le fun q => h (Or.inr (by omega))
theorem X_putO (hG : Cx E G cc nL ret own rm0) {a k idx : Nat} {v : Value} (hv : v = .null ∨ ∃ t, v = .ref t) (hT : mT M a = 16) {ty : FieldType} (hk : k < 8) (href : (TX8 k).1 = own) (hfin : (TX8 k).2.2.2 = false) (hd : parseFieldDescriptor (TX8 k).2.2.1 = some ty) (hty9 : (∃ c, ty = .object c) ∨ ∃ t, ty = .array t) (hkd : (kd 16)[k]? = some 3) (q : Cond.fieldLink own idx (TX8 k).1 (TX8 k).2.1 (TX8 k).2.2.1 ∈ lw_all) (d : decode cc pc = .ok (.putfield idx, 3)) (kk : V E G M cells slots nL (pc + 3) lv st Q) : V E G M cells slots nL pc lv (v :: rf E a :: st) Q := by
  obtain ⟨p, e, R, s, m, args, below, meth, c⟩ := G
  obtain ⟨hx, hb, hml, hown, hts, hr, hlk, hRm, hK, hbs, hKs⟩ := hG
  intro H locs ls hR hS hl
  have hc : vwCl[16]? = some (RX8, TX8, 8) := rfl
  obtain ⟨fs, g1, g2, g3⟩ := hR.obj hT (by decide)
  have hl9 : k < fs.length := by rw [g2]; exact (List.getElem?_eq_some_iff.mp hkd).1
  have hap := va_apart (own := own) hts in_X8 tyX8 tyX8_ok nmX8 hK hc
  obtain ⟨r, h1, cell, q1, q2, q3, q4⟩ := g1
  have hr9 : r = (RX8, TX8, 8) := Option.some.inj (h1.symm.trans hc)
  subst hr9
  obtain ⟨hSl, hfc, kC, hkC, hkind⟩ := hK.1 16 _ hc
  obtain ⟨cf, kf, fi, f, hi, hsl⟩ := hSl k hk
  have hlay := hts _ (in_X8 _ (u_in_lay hk))
  unfold u_lay at hlay
  rw [if_neg (by rw [hfin]; decide)] at hlay
  have hst := (u_facts hfc hkC (u_lays hts in_X8 hk) hi).1
  have h6 := u_store (v := v) hfc hkC hkind hlay hi hd (by rcases hty9 with ⟨c, rfl⟩ | ⟨t, rfl⟩ <;> rcases hv with rfl | ⟨x, rfl⟩ <;> rfl) (by rcases hty9 with ⟨c, rfl⟩ | ⟨t, rfl⟩ <;> rcases hv with rfl | ⟨x, rfl⟩ <;> rfl)
  refine W.putK hx hb (f := f) ⟨hown, hts _ q, ⟨_, _, _, hi⟩, hst⟩ (by rw [q2]; exact h6) q1 q3 (by rw [hsl]; exact k2_hasslot (q4 k hk)) rfl rfl d fun H' e1 e2 e3 => ?_
  rw [hsl] at e1 ⊢
  refine kk H' _ ls (Rep_set (a := a) (e := .inr (16, fs.set k v)) hR e2 e3 rfl rfl rfl (fun b hb => rfl) (fun b hb => rfl) (fun b hb => rfl) ⟨_, hc, t_OB.to (V := updV (vp_V fs) k v) ⟨_, e1, q2, q3, t_set q4 hap hk _⟩ (fun j _ => vp_updV_set hl9 _ j)⟩ ?_ ⟨_, e1, by rw [setSlot_size]; exact hR.sz (hR.lt hT (by omega)) q1⟩) (hS.put e2 e3 (Nat.le_add_right _ _)) hl
  unfold CellM
  rw [hT, if_neg (by omega), if_pos (by omega)]
  refine ⟨_, rfl, by rw [List.length_set]; exact g2, fun j kk h1 h2 => ?_⟩
  have hj : j ≠ k := by
    intro e
    subst e
    rw [hkd] at h1
    cases h1
    omega
  rw [List.getElem?_set_ne (fun h => hj h.symm)]
  exact g3 j kk h1 h2
end XR
def SOk (E : En) (adK adV : Nat → Nat) (ta : Nat) : Prop := ∀ U : State, E.2.2.2.2 U → KStr E adK adV ta U
section ST
variable {E : En} {adK adV : Nat → Nat} {ta : Nat} {M : Mem} {i : Nat}
theorem SOk.o (h : SOk E adK adV ta) (hi : i < 21) : ∀ U : State, E.2.2.2.2 U → va_O "java/lang/String" (adK i) (fun q => E.2.1 ≤ q) U U.heap := fun U hU => ((h U hU).1.1 i hi).1
theorem SOk.co (h : SOk E adK adV ta) (hi : i < 21) : ∀ U : State, E.2.2.2.2 U → va_OF "java/lang/String" "coder" "B" (.int 0) (adK i) (fun q => E.2.1 ≤ q) U U.heap := fun U hU => ((h U hU).1.1 i hi).2.1
theorem SOk.va (h : SOk E adK adV ta) (hi : i < 21) : ∀ U : State, E.2.2.2.2 U → va_OF "java/lang/String" "value" "[B" (.ref (adV i)) (adK i) (fun q => E.2.1 ≤ q) U U.heap := fun U hU => ((h U hU).1.1 i hi).2.2.1
theorem SOk.by (h : SOk E adK adV ta) (hi : i < 21) : ∀ U : State, E.2.2.2.2 U → va_T .byte (adV i) (stL.getD i 0) (fun j => .int ((stB.getD i []).getD j 0)) (fun q => E.2.1 ≤ q) U U.heap := fun U hU => ((h U hU).1.1 i hi).2.2.2
theorem SOk.nm (h : SOk E adK adV ta) : ∀ U : State, E.2.2.2.2 U → va_Z "TroughTreaty" "NAMES" "[Ljava/lang/String;" (.ref ta) (fun q => E.2.1 ≤ q) U U.heap := fun U hU => (h U hU).2.1
theorem SOk.na (h : SOk E adK adV ta) : ∀ U : State, E.2.2.2.2 U → va_T (.object "java/lang/String") ta 20 (fun j => .ref (adK j)) (fun q => E.2.1 ≤ q) U U.heap := fun U hU => (h U hU).2.2.1
theorem SOk.li (h : SOk E adK adV ta) : ∀ U : State, E.2.2.2.2 U → vk_R "TroughTreaty$Reader" 61 ";()+-*/<=>" (adK 20) U := fun U hU => (h U hU).2.2.2.1
theorem SOk.cs (h : SOk E adK adV ta) : ∀ U : State, E.2.2.2.2 U → va_Z "java/lang/String" "COMPACT_STRINGS" "Z" (.int 1) (fun q => E.2.1 ≤ q) U U.heap := fun U hU => (h U hU).2.2.2.2.1
theorem SOk.fo (h : SOk E adK adV ta) : ∀ U : State, E.2.2.2.2 U → va_Zq "jdk/internal/util/Preconditions" "SIOOBE_FORMATTER" "Ljava/util/function/BiFunction;" (fun q => E.2.1 ≤ q) U U.heap := fun U hU => (h U hU).2.2.2.2.2
def rmS (n : Nat) : Room := { frames := n, cells := 0, slots := 0, locals := 40 * n }
theorem ok_coder (hE : EOk E) (hN : NOk E) (hs : SOk E adK adV ta) (hi : i < 21) : CM E yJ5_coder cJ5_coder 1 (some .byte) (rmS 0) [.ref (adK i)] M (some (.int 0)) M := by
  refine CM_introX (own := RJ5) rfl (by decide +kernel) (Nat.le_of_ble_eq_true rfl) rfl (fun G hG hEn hI => ?_)
  obtain ⟨Q, eQ⟩ : ∃ Q, Q = QM E G (some (.int 0)) M 0 0 := ⟨_, rfl⟩
  show V E G M 0 0 1 0 [(0, .ref (adK i))] [] (QM E G (some (.int 0)) M 0 0)
  rw [← eQ]
  refine X_gets hG hs.cs q538 dJ5_coder_0 ?_
  refine V_if_eq hG 13 dJ5_coder_3 (by decide) (fun c => absurd c (by decide)) (fun _ => ?_)
  refine X_aload_n hG 0 (Or.inr ⟨_, rfl⟩) rfl dJ5_coder_6 ?_
  refine X_getf hG (hs.co hi) q2311 dJ5_coder_7 ?_
  refine V_goto hG 14 dJ5_coder_10 (by decide) ?_
  subst eQ
  exact X_bret hG rfl dJ5_coder_14
theorem ok_isLatin1 (hE : EOk E) (hN : NOk E) (hs : SOk E adK adV ta) (hi : i < 21) : CM E yJ5_isLatin1 cJ5_isLatin1 1 (some .boolean) (rmS 0) [.ref (adK i)] M (some (.int 1)) M := by
  refine CM_introX (own := RJ5) rfl (by decide +kernel) (Nat.le_of_ble_eq_true rfl) rfl (fun G hG hEn hI => ?_)
  obtain ⟨Q, eQ⟩ : ∃ Q, Q = QM E G (some (.int 1)) M 0 0 := ⟨_, rfl⟩
  show V E G M 0 0 1 0 [(0, .ref (adK i))] [] (QM E G (some (.int 1)) M 0 0)
  rw [← eQ]
  refine X_gets hG hs.cs q538 dJ5_isLatin1_0 ?_
  refine V_if_eq hG 17 dJ5_isLatin1_3 (by decide) (fun c => absurd c (by decide)) (fun _ => ?_)
  refine X_aload_n hG 0 (Or.inr ⟨_, rfl⟩) rfl dJ5_isLatin1_6 ?_
  refine X_getf hG (hs.co hi) q2311 dJ5_isLatin1_7 ?_
  refine V_if_ne hG 17 dJ5_isLatin1_10 (by decide) (fun c => absurd rfl c) (fun _ => ?_)
  refine V_iconst hG 1 (by decide) dJ5_isLatin1_13 ?_
  refine V_goto hG 18 dJ5_isLatin1_14 (by decide) ?_
  subst eQ
  exact V_zret hG (Or.inr rfl) dJ5_isLatin1_18
def slen (i : Nat) : Int32 := Int32.ofNat (stL.getD i 0)
theorem slen_shr : ∀ i, i < 21 → slen i >>> ((0 : Int32) &&& 31) = slen i := by decide +kernel
theorem ok_length (hE : EOk E) (hN : NOk E) (hs : SOk E adK adV ta) (hi : i < 21) : CM E yJ5_length cJ5_length 1 (some .int) (rmS 1) [.ref (adK i)] M (some (.int (slen i))) M := by
  refine CM_introX (own := RJ5) rfl (by decide +kernel) (Nat.le_of_ble_eq_true rfl) rfl (fun G hG hEn hI => ?_)
  obtain ⟨Q, eQ⟩ : ∃ Q, Q = QM E G (some (.int (slen i))) M 0 0 := ⟨_, rfl⟩
  show V E G M 0 0 1 0 [(0, .ref (adK i))] [] (QM E G (some (.int (slen i))) M 0 0)
  rw [← eQ]
  refine X_aload_n hG 0 (Or.inr ⟨_, rfl⟩) rfl dJ5_length_0 ?_
  refine X_getf hG (hs.va hi) q2310 dJ5_length_1 ?_
  refine X_alen hG (hs.by hi) dJ5_length_4 ?_
  refine X_aload_n hG 0 (Or.inr ⟨_, rfl⟩) rfl dJ5_length_5 ?_
  refine X_callV hE hG (n := 0) (rest := [.int (slen i)]) (ok_coder hE hN hs hi) (hs.o hi) (lw_V q534 q535 q536 q135 q537) ⟨rfl, by decide, by decide, by decide +kernel⟩ ⟨by decide, by decide⟩ rfl rfl (Nat.le_of_ble_eq_true rfl) ⟨Nat.le_refl _, Nat.le_refl _⟩ dJ5_length_6 ?_
  refine V_ishr hG dJ5_length_9 ?_
  rw [slen_shr i hi]
  subst eQ
  exact V_iret hG dJ5_length_10
theorem ok_checkIndexP (hE : EOk E) (hN : NOk E) {p0 p1 : Int32} {v : Value} (hv : v = .null ∨ ∃ t, v = .ref t) (h1 : ¬ p0 < 0) (h2 : p0 < p1) : CM E yJ4_checkIndex cJ4_checkIndex 3 (some .int) (rmS 0) [.int p0, .int p1, v] M (some (.int p0)) M := by
  rcases hv with rfl | ⟨t, rfl⟩
  · exact ok_f_J4_checkIndex hE hN (by unfold f_J4_checkIndex; rw [if_neg h1, if_pos h2])
  · refine CM_introX (own := RJ4) rfl (by decide +kernel) (Nat.le_of_ble_eq_true rfl) rfl (fun G hG hEn hI => ?_)
    obtain ⟨Q, eQ⟩ : ∃ Q, Q = QM E G (some (.int p0)) M 0 0 := ⟨_, rfl⟩
    show V E G M 0 0 3 0 [(0, .int p0), (1, .int p1), (2, .ref t)] [] (QM E G (some (.int p0)) M 0 0)
    rw [← eQ]
    refine V_iload_n hG 0 rfl dJ4_checkIndex_0 ?_
    refine V_if_lt hG 9 dJ4_checkIndex_1 (by decide) (fun c => absurd c h1) (fun _ => ?_)
    refine V_iload_n hG 0 rfl dJ4_checkIndex_4 ?_
    refine V_iload_n hG 1 rfl dJ4_checkIndex_5 ?_
    refine V_icmp_lt hG 16 dJ4_checkIndex_6 (by decide) (fun _ => ?_) (fun c => absurd h2 c)
    refine V_iload_n hG 0 rfl dJ4_checkIndex_16 ?_
    subst eQ
    exact V_iret hG dJ4_checkIndex_17
theorem ok_checkIndexS (hE : EOk E) (hN : NOk E) (hs : SOk E adK adV ta) {p0 p1 : Int32} (h1 : ¬ p0 < 0) (h2 : p0 < p1) : CM E yJ5_checkIndex cJ5_checkIndex 2 none (rmS 1) [.int p0, .int p1] M none M := by
  refine CM_introX (own := RJ5) rfl (by decide +kernel) (Nat.le_of_ble_eq_true rfl) rfl (fun G hG hEn hI => ?_)
  obtain ⟨Q, eQ⟩ : ∃ Q, Q = QM E G none M 0 0 := ⟨_, rfl⟩
  show V E G M 0 0 2 0 [(0, .int p0), (1, .int p1)] [] (QM E G none M 0 0)
  rw [← eQ]
  refine V_iload_n hG 0 rfl dJ5_checkIndex_0 ?_
  refine V_iload_n hG 1 rfl dJ5_checkIndex_1 ?_
  refine X_getsq hG hs.fo q554 dJ5_checkIndex_2 (fun v hv => ?_)
  refine V_callS hE hG (n := 3) (rest := []) (ok_checkIndexP hE hN hv h1 h2) (lw_S q556 q412 q133 q413) ⟨by decide, by decide, by decide +kernel⟩ ⟨by decide, by decide⟩ rfl rfl (Nat.le_of_ble_eq_true rfl) ⟨Nat.le_refl _, Nat.le_refl _⟩ dJ5_checkIndex_5 ?_
  refine V_pop hG rfl dJ5_checkIndex_8 ?_
  subst eQ
  exact V_vret hG dJ5_checkIndex_9
def sch (i : Nat) (k : Int32) : Int32 := (stB.getD i []).getD k.toNatClampNeg 0
theorem sch_c : ∀ i, i < 21 → ∀ j, j < 11 → (((stB.getD i []).getD j 0 &&& 255).toUInt32 % 65536).toInt32 = (stB.getD i []).getD j 0 := by decide +kernel
theorem stL_le : ∀ i, i < 21 → stL.getD i 0 ≤ 10 := by decide +kernel
theorem ofNat_clamp {k : Int32} (h : ¬ k < 0) : Int32.ofNat k.toNatClampNeg = k := by
  have h0 : (0 : Int) ≤ k.toInt := by
    have h1 := Int32.le_iff_toInt_le.mp (Int32.not_lt.mp h)
    simpa using h1
  have h2 : k.toNatClampNeg < 2 ^ 31 := by
    have h3 := Int32.toInt_lt k
    show k.toInt.toNat < _
    omega
  apply Int32.toInt_inj.mp
  rw [Int32.toInt_ofNat_of_lt h2]
  show ((k.toInt.toNat : Nat) : Int) = k.toInt
  omega
theorem lt_of_inb {k : Int32} {n : Nat} (h : inb k n) (hn : n < 2 ^ 31) : ¬ k < 0 ∧ k < Int32.ofNat n := by
  have h1 : ¬ k < 0 := fun q => h (Or.inl q)
  have h2 : k.toNatClampNeg < n := Nat.lt_of_not_le fun q => h (Or.inr q)
  refine ⟨h1, ?_⟩
  rw [← ofNat_clamp h1, Int32.lt_iff_toInt_lt, Int32.toInt_ofNat_of_lt hn, Int32.toInt_ofNat_of_lt (by omega)]
  omega
theorem ok_J6charAt (hE : EOk E) (hN : NOk E) (hs : SOk E adK adV ta) (hi : i < 21) {k : Int32} (hk : inb k (stL.getD i 0)) : CM E yJ6_charAt cJ6_charAt 2 (some .char) (rmS 2) [.ref (adV i), .int k] M (some (.int (sch i k))) M := by
  refine CM_introX (own := RJ6) rfl (by decide +kernel) (Nat.le_of_ble_eq_true rfl) rfl (fun G hG hEn hI => ?_)
  obtain ⟨Q, eQ⟩ : ∃ Q, Q = QM E G (some (.int (sch i k))) M 0 0 := ⟨_, rfl⟩
  show V E G M 0 0 2 0 [(0, .ref (adV i)), (1, .int k)] [] (QM E G (some (.int (sch i k))) M 0 0)
  rw [← eQ]
  have hk2 := lt_of_inb hk (Nat.lt_of_le_of_lt (stL_le i hi) (by decide))
  refine V_iload_n hG 1 rfl dJ6_charAt_0 ?_
  refine X_aload_n hG 0 (Or.inr ⟨_, rfl⟩) rfl dJ6_charAt_1 ?_
  refine X_alen hG (hs.by hi) dJ6_charAt_2 ?_
  refine V_callS hE hG (n := 2) (rest := []) (ok_checkIndexS hE hN hs hk2.1 hk2.2) (lw_S q551 q552 q135 q553) ⟨by decide, by decide, by decide +kernel⟩ ⟨by decide, by decide⟩ rfl rfl (Nat.le_of_ble_eq_true rfl) ⟨Nat.le_refl _, Nat.le_refl _⟩ dJ6_charAt_3 ?_
  refine X_aload_n hG 0 (Or.inr ⟨_, rfl⟩) rfl dJ6_charAt_6 ?_
  refine V_iload_n hG 1 rfl dJ6_charAt_7 ?_
  refine X_bald hG (hs.by hi) hk dJ6_charAt_8 ?_
  refine V_sipush hG 255 (by decide) dJ6_charAt_9 ?_
  refine V_iand hG dJ6_charAt_12 ?_
  refine V_i2c hG dJ6_charAt_13 ?_
  have e := sch_c i hi k.toNatClampNeg (by have := stL_le i hi; have : k.toNatClampNeg < stL.getD i 0 := Nat.lt_of_not_le fun q => hk (Or.inr q); omega)
  have e2 := pk_nc ((stB.getD i []).getD k.toNatClampNeg 0 &&& 255)
  rw [e] at e2 ⊢
  subst eQ
  exact X_cret hG e2 dJ6_charAt_14
theorem ok_charAt (hE : EOk E) (hN : NOk E) (hs : SOk E adK adV ta) (hi : i < 21) {k : Int32} (hk : inb k (stL.getD i 0)) : CM E yJ5_charAt cJ5_charAt 2 (some .char) (rmS 3) [.ref (adK i), .int k] M (some (.int (sch i k))) M := by
  refine CM_introX (own := RJ5) rfl (by decide +kernel) (Nat.le_of_ble_eq_true rfl) rfl (fun G hG hEn hI => ?_)
  obtain ⟨Q, eQ⟩ : ∃ Q, Q = QM E G (some (.int (sch i k))) M 0 0 := ⟨_, rfl⟩
  show V E G M 0 0 2 0 [(0, .ref (adK i)), (1, .int k)] [] (QM E G (some (.int (sch i k))) M 0 0)
  rw [← eQ]
  refine X_aload_n hG 0 (Or.inr ⟨_, rfl⟩) rfl dJ5_charAt_0 ?_
  refine X_callV hE hG (n := 0) (rest := []) (ok_isLatin1 hE hN hs hi) (hs.o hi) (lw_V q544 q545 q546 q135 q547) ⟨rfl, by decide, by decide, by decide +kernel⟩ ⟨by decide, by decide⟩ rfl rfl (Nat.le_of_ble_eq_true rfl) ⟨Nat.le_refl _, Nat.le_refl _⟩ dJ5_charAt_1 ?_
  refine V_if_eq hG 16 dJ5_charAt_4 (by decide) (fun c => absurd c (by decide)) (fun _ => ?_)
  refine X_aload_n hG 0 (Or.inr ⟨_, rfl⟩) rfl dJ5_charAt_7 ?_
  refine X_getf hG (hs.va hi) q2310 dJ5_charAt_8 ?_
  refine V_iload_n hG 1 rfl dJ5_charAt_11 ?_
  refine V_callS hE hG (n := 2) (rest := []) (ok_J6charAt hE hN hs hi hk) (lw_S q548 q549 q136 q550) ⟨by decide, by decide, by decide +kernel⟩ ⟨by decide, by decide⟩ rfl rfl (Nat.le_of_ble_eq_true rfl) ⟨Nat.le_refl _, Nat.le_refl _⟩ dJ5_charAt_12 ?_
  have e := sch_c i hi k.toNatClampNeg (by have := stL_le i hi; have : k.toNatClampNeg < stL.getD i 0 := Nat.lt_of_not_le fun q => hk (Or.inr q); omega)
  have e2 := pk_nc ((stB.getD i []).getD k.toNatClampNeg 0 &&& 255)
  rw [e] at e2
  subst eQ
  exact X_cret hG e2 dJ5_charAt_15
def ixN (b : Int32) : Nat → Nat → Int32
  | 0, _ => -1
  | n + 1, k => if (stB.getD 20 []).getD k 0 = b then Int32.ofNat k else ixN b n (k + 1)
def cen (c : Int32) : Int32 := if c < 0 then 0 else if 255 < c then 0 else 1
def ixS (i : Nat) (c : Int32) : Int32 := if cen c = 0 then -1 else ixN c.toInt8.toInt32 10 0
theorem k10 : ∀ k, k < 10 → (Int32.ofNat k + Int32.ofInt 1 = Int32.ofNat (k + 1) ∧ ¬ Int32.ofNat 10 ≤ Int32.ofNat k ∧ ¬ (Int32.ofNat k < 0 ∨ 10 ≤ (Int32.ofNat k).toNatClampNeg) ∧ (Int32.ofNat k).toNatClampNeg = k) := by decide +kernel
theorem ok_canEncode (hE : EOk E) {c : Int32} : CM E yJ6_canEncode cJ6_canEncode 1 (some .boolean) (rmS 0) [.int c] M (some (.int (cen c))) M := by
  refine CM_introX (own := RJ6) rfl (by decide +kernel) (Nat.le_of_ble_eq_true rfl) rfl (fun G hG hEn hI => ?_)
  obtain ⟨Q, eQ⟩ : ∃ Q, Q = QM E G (some (.int (cen c))) M 0 0 := ⟨_, rfl⟩
  show V E G M 0 0 1 0 [(0, .int c)] [] (QM E G (some (.int (cen c))) M 0 0)
  rw [← eQ]
  refine V_iload_n hG 0 rfl dJ6_canEncode_0 ?_
  refine V_if_lt hG 15 dJ6_canEncode_1 (by decide) (fun c1 => ?_) (fun c1 => ?_)
  · refine V_iconst hG 0 (by decide) dJ6_canEncode_15 ?_
    subst eQ
    unfold cen
    rw [if_pos c1]
    exact V_zret hG (Or.inl rfl) dJ6_canEncode_16
  · refine V_iload_n hG 0 rfl dJ6_canEncode_4 ?_
    refine V_sipush hG 255 (by decide) dJ6_canEncode_5 ?_
    refine V_icmp_gt hG 15 dJ6_canEncode_8 (by decide) (fun c2 => ?_) (fun c2 => ?_)
    · refine V_iconst hG 0 (by decide) dJ6_canEncode_15 ?_
      subst eQ
      unfold cen
      rw [if_neg c1, if_pos c2]
      exact V_zret hG (Or.inl rfl) dJ6_canEncode_16
    · refine V_iconst hG 1 (by decide) dJ6_canEncode_11 ?_
      refine V_goto hG 16 dJ6_canEncode_12 (by decide) ?_
      subst eQ
      unfold cen
      rw [if_neg c1, if_neg c2]
      exact V_zret hG (Or.inr rfl) dJ6_canEncode_16
theorem ok_indexOfChar (hE : EOk E) (hs : SOk E adK adV ta) {c : Int32} : CM E yJ6_indexOfChar cJ6_indexOfChar 6 (some .int) (rmS 0) [.ref (adV 20), .int c, .int 0, .int (Int32.ofNat 10)] M (some (.int (ixN c.toInt8.toInt32 10 0))) M := by
  refine CM_introX (own := RJ6) rfl (by decide +kernel) (Nat.le_of_ble_eq_true rfl) rfl (fun G hG hEn hI => ?_)
  obtain ⟨Q, eQ⟩ : ∃ Q, Q = QM E G (some (.int (ixN c.toInt8.toInt32 10 0))) M 0 0 := ⟨_, rfl⟩
  show V E G M 0 0 6 0 [(0, .ref (adV 20)), (1, .int c), (2, .int 0), (3, .int (Int32.ofNat 10))] [] (QM E G (some (.int (ixN c.toInt8.toInt32 10 0))) M 0 0)
  rw [← eQ]
  refine V_iload_n hG 1 rfl dJ6_indexOfChar_0 ?_
  refine V_i2b hG dJ6_indexOfChar_1 ?_
  refine V_istore hG [(4, .int c.toInt8.toInt32), (0, .ref (adV 20)), (1, .int c), (2, .int 0), (3, .int (Int32.ofNat 10))] dJ6_indexOfChar_2 (by decide) rfl ?_
  refine V_iload_n hG 3 rfl dJ6_indexOfChar_4 ?_
  refine V_istore hG [(5, .int 0), (4, .int c.toInt8.toInt32), (0, .ref (adV 20)), (1, .int c), (2, .int 0), (3, .int (Int32.ofNat 10))] dJ6_indexOfChar_5 (by decide) rfl ?_
  have key : ∀ n k, k + n = 10 → Q = QM E G (some (.int (ixN c.toInt8.toInt32 n k))) M 0 0 → V E G M 0 0 6 7 [(5, .int (Int32.ofNat k)), (4, .int c.toInt8.toInt32), (0, .ref (adV 20)), (1, .int c), (2, .int 0), (3, .int (Int32.ofNat 10))] [] Q := by
    intro n
    induction n with
    | zero =>
      intro k hk eQ
      have hk : k = 10 := by omega
      subst hk
      refine V_iload hG 0 rfl dJ6_indexOfChar_7 ?_
      refine V_iload_n hG 5 rfl dJ6_indexOfChar_9 ?_
      refine V_icmp_ge hG 31 dJ6_indexOfChar_10 (by decide) (fun _ => ?_) (fun c => absurd (by decide) c)
      refine V_iconst hG (-1) (by decide) dJ6_indexOfChar_31 ?_
      subst eQ
      exact V_iret hG dJ6_indexOfChar_32
    | succ n ih =>
      intro k hk eQ
      obtain ⟨a1, a2, a3, a4⟩ := k10 k (by omega)
      refine V_iload hG 0 rfl dJ6_indexOfChar_7 ?_
      refine V_iload_n hG 5 rfl dJ6_indexOfChar_9 ?_
      refine V_icmp_ge hG 31 dJ6_indexOfChar_10 (by decide) (fun c => absurd c a2) (fun _ => ?_)
      refine X_aload_n hG 2 (Or.inr ⟨_, rfl⟩) rfl dJ6_indexOfChar_13 ?_
      refine V_iload hG 0 rfl dJ6_indexOfChar_14 ?_
      refine X_bald hG (hs.by (i := 20) (by decide)) a3 dJ6_indexOfChar_16 ?_
      refine V_iload hG 1 rfl dJ6_indexOfChar_17 ?_
      unfold ixN at eQ
      rw [a4]
      refine V_icmp_ne hG 25 dJ6_indexOfChar_19 (by decide) (fun c1 => ?_) (fun c1 => ?_)
      · rw [if_neg c1] at eQ
        refine V_iinc hG 0 (Int32.ofNat (k + 1)) rfl a1 [(5, .int (Int32.ofNat (k + 1))), (4, .int c.toInt8.toInt32), (0, .ref (adV 20)), (1, .int c), (2, .int 0), (3, .int (Int32.ofNat 10))] dJ6_indexOfChar_25 (by decide) rfl ?_
        exact V_goto hG 7 dJ6_indexOfChar_28 (by decide) (ih (k + 1) (by omega) eQ)
      · rw [if_pos c1] at eQ
        refine V_iload hG 0 rfl dJ6_indexOfChar_22 ?_
        subst eQ
        exact V_iret hG dJ6_indexOfChar_24
  exact key 10 0 rfl eQ
theorem ok_J6indexOf (hE : EOk E) (hN : NOk E) (hs : SOk E adK adV ta) {c : Int32} : CM E yJ6_indexOf cJ6_indexOf 4 (some .int) (rmS 1) [.ref (adV 20), .int c, .int 0, .int (Int32.ofNat 10)] M (some (.int (ixS 20 c))) M := by
  refine CM_introX (own := RJ6) rfl (by decide +kernel) (Nat.le_of_ble_eq_true rfl) rfl (fun G hG hEn hI => ?_)
  obtain ⟨Q, eQ⟩ : ∃ Q, Q = QM E G (some (.int (ixS 20 c))) M 0 0 := ⟨_, rfl⟩
  show V E G M 0 0 4 0 [(0, .ref (adV 20)), (1, .int c), (2, .int 0), (3, .int (Int32.ofNat 10))] [] (QM E G (some (.int (ixS 20 c))) M 0 0)
  rw [← eQ]
  refine V_iload_n hG 1 rfl dJ6_indexOf_0 ?_
  refine V_callS hE hG (n := 1) (rest := []) (ok_canEncode hE) (lw_S q600 q601 q136 q602) ⟨by decide, by decide, by decide +kernel⟩ ⟨by decide, by decide⟩ rfl rfl (Nat.le_of_ble_eq_true rfl) ⟨Nat.le_refl _, Nat.le_refl _⟩ dJ6_indexOf_1 ?_
  refine V_if_ne hG 9 dJ6_indexOf_4 (by decide) (fun c1 => ?_) (fun c1 => ?_)
  · refine V_iload_n hG 2 rfl dJ6_indexOf_9 ?_
    refine V_iconst hG 0 (by decide) dJ6_indexOf_10 ?_
    refine V_callS hE hG (n := 2) (rest := []) (ok_f_J8_max hE hN (r := 0) rfl) (lw_S q603 q604 q138 q605) ⟨by decide, by decide, by decide +kernel⟩ ⟨by decide, by decide⟩ rfl rfl (Nat.le_of_ble_eq_true rfl) ⟨Nat.le_refl _, Nat.le_refl _⟩ dJ6_indexOf_11 ?_
    refine V_istore_n hG rfl [(2, .int 0), (0, .ref (adV 20)), (1, .int c), (3, .int (Int32.ofNat 10))] dJ6_indexOf_14 (by decide) rfl ?_
    refine V_iload_n hG 3 rfl dJ6_indexOf_15 ?_
    refine X_aload_n hG 1 (Or.inr ⟨_, rfl⟩) rfl dJ6_indexOf_16 ?_
    refine X_alen hG (hs.by (i := 20) (by decide)) dJ6_indexOf_17 ?_
    refine V_callS hE hG (n := 2) (rest := []) (ok_f_J8_min hE hN (r := Int32.ofNat 10) rfl) (lw_S q606 q607 q138 q608) ⟨by decide, by decide, by decide +kernel⟩ ⟨by decide, by decide⟩ rfl rfl (Nat.le_of_ble_eq_true rfl) ⟨Nat.le_refl _, Nat.le_refl _⟩ dJ6_indexOf_18 ?_
    refine V_istore_n hG rfl [(3, .int (Int32.ofNat 10)), (2, .int 0), (0, .ref (adV 20)), (1, .int c)] dJ6_indexOf_21 (by decide) rfl ?_
    refine V_iload_n hG 1 rfl dJ6_indexOf_22 ?_
    refine V_iload_n hG 0 rfl dJ6_indexOf_23 ?_
    refine V_icmp_lt hG 29 dJ6_indexOf_24 (by decide) (fun _ => ?_) (fun c => absurd (by decide) c)
    refine X_aload_n hG 2 (Or.inr ⟨_, rfl⟩) rfl dJ6_indexOf_29 ?_
    refine V_iload_n hG 3 rfl dJ6_indexOf_30 ?_
    refine V_iload_n hG 1 rfl dJ6_indexOf_31 ?_
    refine V_iload_n hG 0 rfl dJ6_indexOf_32 ?_
    refine V_callS hE hG (n := 4) (rest := []) (ok_indexOfChar hE hs) (lw_S q609 q610 q136 q611) ⟨by decide, by decide, by decide +kernel⟩ ⟨by decide, by decide⟩ rfl rfl (Nat.le_of_ble_eq_true rfl) ⟨Nat.le_refl _, Nat.le_refl _⟩ dJ6_indexOf_33 ?_
    subst eQ
    unfold ixS
    rw [if_neg c1]
    exact V_iret hG dJ6_indexOf_36
  · refine V_iconst hG (-1) (by decide) dJ6_indexOf_7 ?_
    subst eQ
    unfold ixS
    rw [if_pos c1]
    exact V_iret hG dJ6_indexOf_8
theorem ok_indexOf2 (hE : EOk E) (hN : NOk E) (hs : SOk E adK adV ta) {c : Int32} : CM E yJ5_indexOf_2 cJ5_indexOf_2 3 (some .int) (rmS 2) [.ref (adK 20), .int c, .int 0] M (some (.int (ixS 20 c))) M := by
  have hi : 20 < 21 := by decide
  refine CM_introX (own := RJ5) rfl (by decide +kernel) (Nat.le_of_ble_eq_true rfl) rfl (fun G hG hEn hI => ?_)
  obtain ⟨Q, eQ⟩ : ∃ Q, Q = QM E G (some (.int (ixS 20 c))) M 0 0 := ⟨_, rfl⟩
  show V E G M 0 0 3 0 [(0, .ref (adK 20)), (1, .int c), (2, .int 0)] [] (QM E G (some (.int (ixS 20 c))) M 0 0)
  rw [← eQ]
  refine X_aload_n hG 0 (Or.inr ⟨_, rfl⟩) rfl dJ5_indexOf_2_0 ?_
  refine X_callV hE hG (n := 0) (rest := []) (ok_isLatin1 hE hN hs hi) (hs.o hi) (lw_V q544 q545 q546 q135 q547) ⟨rfl, by decide, by decide, by decide +kernel⟩ ⟨by decide, by decide⟩ rfl rfl (Nat.le_of_ble_eq_true rfl) ⟨Nat.le_refl _, Nat.le_refl _⟩ dJ5_indexOf_2_1 ?_
  refine V_if_eq hG 23 dJ5_indexOf_2_4 (by decide) (fun c => absurd c (by decide)) (fun _ => ?_)
  refine X_aload_n hG 0 (Or.inr ⟨_, rfl⟩) rfl dJ5_indexOf_2_7 ?_
  refine X_getf hG (hs.va hi) q2310 dJ5_indexOf_2_8 ?_
  refine V_iload_n hG 1 rfl dJ5_indexOf_2_11 ?_
  refine V_iload_n hG 2 rfl dJ5_indexOf_2_12 ?_
  refine X_aload_n hG 0 (Or.inr ⟨_, rfl⟩) rfl dJ5_indexOf_2_13 ?_
  refine X_callV hE hG (n := 0) (rest := [.int 0, .int c, .ref (adV 20)]) (ok_length hE hN hs hi) (hs.o hi) (lw_V q596 q531 q532 q135 q533) ⟨rfl, by decide, by decide, by decide +kernel⟩ ⟨by decide, by decide⟩ rfl rfl (Nat.le_of_ble_eq_true rfl) ⟨Nat.le_refl _, Nat.le_refl _⟩ dJ5_indexOf_2_14 ?_
  refine V_callS hE hG (n := 4) (rest := []) (ok_J6indexOf hE hN hs) (lw_S q597 q598 q136 q599) ⟨by decide, by decide, by decide +kernel⟩ ⟨by decide, by decide⟩ rfl rfl (Nat.le_of_ble_eq_true rfl) ⟨Nat.le_refl _, Nat.le_refl _⟩ dJ5_indexOf_2_17 ?_
  refine V_goto hG 36 dJ5_indexOf_2_20 (by decide) ?_
  subst eQ
  exact V_iret hG dJ5_indexOf_2_36
theorem ok_indexOf (hE : EOk E) (hN : NOk E) (hs : SOk E adK adV ta) (hi : 20 < 21) {c : Int32} : CM E yJ5_indexOf cJ5_indexOf 2 (some .int) (rmS 3) [.ref (adK 20), .int c] M (some (.int (ixS 20 c))) M := by
  refine CM_introX (own := RJ5) rfl (by decide +kernel) (Nat.le_of_ble_eq_true rfl) rfl (fun G hG hEn hI => ?_)
  obtain ⟨Q, eQ⟩ : ∃ Q, Q = QM E G (some (.int (ixS 20 c))) M 0 0 := ⟨_, rfl⟩
  show V E G M 0 0 2 0 [(0, .ref (adK 20)), (1, .int c)] [] (QM E G (some (.int (ixS 20 c))) M 0 0)
  rw [← eQ]
  refine X_aload_n hG 0 (Or.inr ⟨_, rfl⟩) rfl dJ5_indexOf_0 ?_
  refine V_iload_n hG 1 rfl dJ5_indexOf_1 ?_
  refine V_iconst hG 0 (by decide) dJ5_indexOf_2 ?_
  refine X_callV hE hG (n := 2) (rest := []) (ok_indexOf2 hE hN hs) (hs.o hi) (lw_V q592 q593 q594 q135 q595) ⟨rfl, by decide, by decide, by decide +kernel⟩ ⟨by decide, by decide⟩ rfl rfl (Nat.le_of_ble_eq_true rfl) ⟨Nat.le_refl _, Nat.le_refl _⟩ dJ5_indexOf_3 ?_
  subst eQ
  exact V_iret hG dJ5_indexOf_6
end ST
section TH
variable {E : En} {M : Mem}
theorem ok_thr (hE : EOk E) (hN : NOk E) {a : Nat} (hT : mT M a = 16) : CM E yJ10_init_2 cJ10_init_2 5 none (rmS 1) [rf E a, .null, .null, .int 0, .int 0] M none M := by
  refine CM_introX (own := RJ10) rfl (by decide +kernel) (Nat.le_of_ble_eq_true rfl) rfl (fun G hG hEn hI => ?_)
  obtain ⟨Q, eQ⟩ : ∃ Q, Q = QM E G none M 0 0 := ⟨_, rfl⟩
  show V E G M 0 0 5 0 [(0, rf E a), (1, .null), (2, .null), (3, .int 0), (4, .int 0)] [] (QM E G none M 0 0)
  rw [← eQ]
  have al : ∀ {pc : Nat} {st : List Value}, decode cJ10_init_2 pc = .ok (.aload_n 0, 1) → V E G M 0 0 5 (pc + 1) [(0, rf E a), (1, .null), (2, .null), (3, .int 0), (4, .int 0)] (rf E a :: st) Q → V E G M 0 0 5 pc [(0, rf E a), (1, .null), (2, .null), (3, .int 0), (4, .int 0)] st Q := fun d k => V_aload_n hG 0 rfl d k
  refine al dJ10_init_2_0 ?_
  refine V_objInit hG q682 q_oi q_oc (Nat.le_of_ble_eq_true rfl) (Nat.le_of_ble_eq_true rfl) dJ10_init_2_1 ?_
  refine al dJ10_init_2_4 (al dJ10_init_2_5 ?_)
  refine X_putO hG (k := 0) (Or.inr ⟨_, rfl⟩) hT (by decide) rfl rfl rfl (Or.inl ⟨_, rfl⟩) rfl q715 dJ10_init_2_6 ?_
  refine al dJ10_init_2_9 ?_
  refine X_getsq hG (fun U hU => (hN.2.2.1 U hU).1.1) q683 dJ10_init_2_10 (fun v hv => ?_)
  refine X_putO hG (k := 1) hv hT (by decide) rfl rfl rfl (Or.inr ⟨_, rfl⟩) rfl q716 dJ10_init_2_13 ?_
  refine al dJ10_init_2_16 ?_
  refine X_getsq hG (fun U hU => (hN.2.2.1 U hU).2.1) q685 dJ10_init_2_17 (fun v hv => ?_)
  refine X_putO hG (k := 2) hv hT (by decide) rfl rfl rfl (Or.inl ⟨_, rfl⟩) rfl q717 dJ10_init_2_20 ?_
  refine V_iload hG 4 rfl dJ10_init_2_23 ?_
  refine V_if_eq hG 36 dJ10_init_2_25 (by decide) (fun _ => ?_) (fun c => absurd rfl c)
  refine al dJ10_init_2_36 (V_null hG dJ10_init_2_37 ?_)
  refine X_putO hG (k := 1) (Or.inl rfl) hT (by decide) rfl rfl rfl (Or.inr ⟨_, rfl⟩) rfl q716 dJ10_init_2_38 ?_
  refine al dJ10_init_2_41 (X_aload_n hG 1 (Or.inl rfl) rfl dJ10_init_2_42 ?_)
  refine X_putO hG (k := 3) (Or.inl rfl) hT (by decide) rfl rfl rfl (Or.inl ⟨_, rfl⟩) rfl q714 dJ10_init_2_43 ?_
  refine al dJ10_init_2_46 (X_aload_n hG 2 (Or.inl rfl) rfl dJ10_init_2_47 ?_)
  refine X_putO hG (k := 0) (Or.inl rfl) hT (by decide) rfl rfl rfl (Or.inl ⟨_, rfl⟩) rfl q715 dJ10_init_2_48 ?_
  refine V_iload_n hG 3 rfl dJ10_init_2_51 ?_
  refine V_if_ne hG 60 dJ10_init_2_52 (by decide) (fun c => absurd rfl c) (fun _ => ?_)
  refine al dJ10_init_2_55 (V_null hG dJ10_init_2_56 ?_)
  refine X_putO hG (k := 2) (Or.inl rfl) hT (by decide) rfl rfl rfl (Or.inl ⟨_, rfl⟩) rfl q717 dJ10_init_2_57 ?_
  subst eQ
  exact V_vret hG dJ10_init_2_60
def f_J11_init (p0 : Nat) (p3 p4 : Int32) (M : Mem) : Option Unit := gd (mT M p0 = 16) (gd (p3 = 0 ∧ p4 = 0) (some ()))
theorem ok_f_J11_init (hE : EOk E) (hN : NOk E) {p0 : Nat} {p3 p4 : Int32} {u : Unit} (h : f_J11_init p0 p3 p4 M = some u) : CM E yJ11_init cJ11_init 5 none (rmS 3) [rf E p0, .null, .null, .int p3, .int p4] M none M := by
  obtain ⟨hT, h⟩ := gd_of h
  obtain ⟨⟨rfl, rfl⟩, h⟩ := gd_of h
  refine CM_introX (own := RJ11) rfl (by decide +kernel) (Nat.le_of_ble_eq_true rfl) rfl (fun G hG hEn hI => ?_)
  obtain ⟨Q, eQ⟩ : ∃ Q, Q = QM E G none M 0 0 := ⟨_, rfl⟩
  show V E G M 0 0 5 0 [(0, rf E p0), (1, .null), (2, .null), (3, .int 0), (4, .int 0)] [] (QM E G none M 0 0)
  rw [← eQ]
  refine V_aload_n hG 0 rfl dJ11_init_0 ?_
  refine X_aload_n hG 1 (Or.inl rfl) rfl dJ11_init_1 ?_
  refine X_aload_n hG 2 (Or.inl rfl) rfl dJ11_init_2 ?_
  refine V_iload_n hG 3 rfl dJ11_init_3 ?_
  refine V_iload hG 4 rfl dJ11_init_4 ?_
  refine V_callI hE hG (n := 4) (rt := none) (As := [.null, .null, .int 0, .int 0]) (rest := []) (ok_thr hE hN hT) (lw_meth q708) q140 q706 q707 rfl ⟨by decide, by decide, by decide +kernel⟩ ⟨by decide, by decide⟩ rfl rfl (by decide) ⟨Nat.le_refl _, Nat.le_refl _⟩ dJ11_init_6 ?_
  subst eQ
  exact V_vret hG dJ11_init_9
end TH
