set_option maxRecDepth 100000
set_option maxHeartbeats 4000000
theorem of_ld {a c : Nat} (h : a + c < 2 ^ 31) : Int32.ofNat a + Int32.ofNat c = Int32.ofNat (a + c) := by
  rw [Int32.ofNat_add]
theorem of_cl {a : Nat} (h : a < 2 ^ 31) : (Int32.ofNat a).toNatClampNeg = a := by
  show (Int32.ofNat a).toInt.toNat = a
  rw [Int32.toInt_ofNat_of_lt h]
  omega
theorem of_in {a L : Nat} (h : a < 2 ^ 31) (hL : a < L) : ¬ (Int32.ofNat a < 0 ∨ L ≤ (Int32.ofNat a).toNatClampNeg) := by
  rw [of_cl h]
  intro q
  rcases q with q | q
  · rw [Int32.lt_iff_toInt_lt, Int32.toInt_ofNat_of_lt h] at q
    have q : (a : Int) < 0 := by simpa using q
    omega
  · omega
section LR
variable {E : En} {G : Ctx} {M M' : Mem} {cells slots nL pc : Nat} {lv lv' : List (Nat × Value)} {st st0 : List Value} {Q : State → Prop} {cc : ByteArray} {ret : Option FieldType} {own : String} {rm0 : Room}
/-- the script -/
def KSc (E : En) (b L : Nat) (xs : Nat → Int32) : Prop := ∀ U : State, E.2.2.2.2 U → va_X b L xs U U.heap ∧ b < U.heap.size ∧ b < E.2.1
theorem L_sld (hG : Cx E G cc nL ret own rm0) {b L : Nat} {xs : Nat → Int32} (hx9 : KSc E b L xs) {i : Int32} (hi : ¬ (i < 0 ∨ L ≤ i.toNatClampNeg)) (d : decode cc pc = .ok (.iaload, 1)) (kk : V E G M cells slots nL (pc + 1) lv (.int (xs i.toNatClampNeg) :: st) Q) : V E G M cells slots nL pc lv (.int i :: .ref b :: st) Q := by
  obtain ⟨p, e, R, s, m, args, below, meth, c⟩ := G
  obtain ⟨hx, hb, hml, hown, hts, hr, hlk, hRm, hK, hbs, hKs⟩ := hG
  intro H locs ls hR hS hl
  obtain ⟨h1, h2, h3⟩ := hx9 s hKs
  exact va_sld hx hb h1 h2 (by show ¬ E.2.1 ≤ b; omega) hS hi d (kk H locs ls hR hS hl)
theorem L_slen (hG : Cx E G cc nL ret own rm0) {b L : Nat} {xs : Nat → Int32} (hx9 : KSc E b L xs) (d : decode cc pc = .ok (.arraylength, 1)) (kk : V E G M cells slots nL (pc + 1) lv (.int (Int32.ofNat L) :: st) Q) : V E G M cells slots nL pc lv (.ref b :: st) Q := by
  obtain ⟨p, e, R, s, m, args, below, meth, c⟩ := G
  obtain ⟨hx, hb, hml, hown, hts, hr, hlk, hRm, hK, hbs, hKs⟩ := hG
  intro H locs ls hR hS hl
  obtain ⟨h1, h2, h3⟩ := hx9 s hKs
  exact va_slen hx hb h1 h2 (by show ¬ E.2.1 ≤ b; omega) hS d (kk H locs ls hR hS hl)
/-- one number of the script's six -/
theorem L_arg (hG : Cx E G cc nL ret own rm0) {b L k c : Nat} {xs : Nat → Int32} (hx9 : KSc E b L xs) {cI : Int} (hc : Int32.ofInt cI = Int32.ofNat c) (hk : 6 * k + c < L) (hL : L ≤ 384) (h0 : lv[4]? = some (0, .ref b)) (h4 : lv[0]? = some (4, .int (Int32.ofNat (6 * k)))) (d1 : decode cc pc = .ok (.aload_n 0, 1)) (d2 : decode cc (pc + 1) = .ok (.iload 4, 2)) (d3 : decode cc (pc + 3) = .ok (.iconst cI, 1)) (d4 : decode cc (pc + 4) = .ok (.iadd, 1)) (d5 : decode cc (pc + 5) = .ok (.iaload, 1)) (kk : V E G M cells slots nL (pc + 6) lv (.int (xs (6 * k + c)) :: st) Q) : V E G M cells slots nL pc lv st Q := by
  refine X_aload_n hG 4 (Or.inr ⟨_, rfl⟩) h0 d1 ?_
  refine V_iload hG 0 h4 d2 ?_
  refine V_iconst hG (Int32.ofNat c) hc d3 ?_
  refine V_iadd hG d4 ?_
  rw [of_ld (by omega)]
  refine L_sld hG hx9 (of_in (by omega) hk) d5 ?_
  rw [of_cl (by omega)]
  exact kk
theorem W_callSW (hE : EOk E) (hG : Cx E G cc nL ret own rm0) {y : MethodName} {bytes : ByteArray} {maxL n index : Nat} {rt : Option FieldType} {hh : List (Nat × Nat × Nat × Nat)} {rm : Room} {As rest : List Value} {v : Option Value} (hM : CW E y bytes maxL rt hh rm As M v M') (hW : GoodIn lw_all (va_wsS own index y (wsW_ y bytes maxL rt hh))) (hd : y.cls ≠ "java/lang/invoke/MethodHandle" ∧ y.cls ≠ "java/lang/invoke/VarHandle" ∧ (parseMethodDescriptor y.desc).map (fun d => d.parameters.length) = some n) (hR9 : rm.frames + 1 ≤ rm0.frames ∧ 8 + (maxL + 11) + rm.locals ≤ rm0.locals) (hn : As.length = n) (hst : st0 = As.reverse ++ rest) (hcat : (rest.map fun v => v.category).sum ≤ 8) (hf : cells + rm.cells ≤ rm0.cells ∧ slots + rm.slots ≤ rm0.slots) (d : decode cc pc = .ok (.invokestatic index, 3)) (k : V E G M' (cells + rm.cells) (slots + rm.slots) nL (pc + 3) lv (v.toList ++ rest) Q) : V E G M cells slots nL pc lv st0 Q := by
  obtain ⟨p, e, R, s, m, args, below, meth, c⟩ := G
  obtain ⟨hx, hb, hml, hown, hts, hr, hlk, hRm, hK, hbs, hKs⟩ := hG
  intro H locs ls hR hS hl
  subst hRm
  exact V_after (vx_runSW (As := As) (rest := rest) ⟨hx, hb, hml, hown, hts⟩ hM (vx_cwSW n hts hW rfl rfl rfl hd hR9) ⟨KX.blind hE, fun U hU hW => ⟨rfl, by rw [hU]; exact hR, KX.at hE ⟨hK, hbs, hKs⟩ hS hU hW⟩⟩ rfl hn hl.1 hst (lv_room hcat) d hf) hS hl k
theorem W_callSWe (hE : EOk E) (hG : Cx E G cc nL ret own rm0) {y : MethodName} {bytes : ByteArray} {maxL n index : Nat} {rt : Option FieldType} {hh : List (Nat × Nat × Nat × Nat)} {rm : Room} {As rest : List Value} {v : Option Value} {PM : Mem → Prop} (hM : CWe E y bytes maxL rt hh rm As M v PM) (hW : GoodIn lw_all (va_wsS own index y (wsW_ y bytes maxL rt hh))) (hd : y.cls ≠ "java/lang/invoke/MethodHandle" ∧ y.cls ≠ "java/lang/invoke/VarHandle" ∧ (parseMethodDescriptor y.desc).map (fun d => d.parameters.length) = some n) (hR9 : rm.frames + 1 ≤ rm0.frames ∧ 8 + (maxL + 11) + rm.locals ≤ rm0.locals) (hn : As.length = n) (hst : st0 = As.reverse ++ rest) (hcat : (rest.map fun v => v.category).sum ≤ 8) (hf : cells + rm.cells ≤ rm0.cells ∧ slots + rm.slots ≤ rm0.slots) (d : decode cc pc = .ok (.invokestatic index, 3)) (k : ∀ M', PM M' → V E G M' (cells + rm.cells) (slots + rm.slots) nL (pc + 3) lv (v.toList ++ rest) Q) : V E G M cells slots nL pc lv st0 Q := by
  obtain ⟨p, e, R, s, m, args, below, meth, c⟩ := G
  obtain ⟨hx, hb, hml, hown, hts, hr, hlk, hRm, hK, hbs, hKs⟩ := hG
  intro H locs ls hR hS hl
  subst hRm
  have hr := vx_runSW (p := p) (l := E.1) (e := e) (s := s) (m := m) (args := args) (below := below) (meth := meth) (c := c) (H := H) (locs := locs) (cells := cells) (slots := slots) (As := As) (rest := rest) (g := F0 m pc ls st0) ⟨hx, hb, hml, hown, hts⟩ hM (vx_cwSW n hts hW rfl rfl rfl hd hR9) ⟨KX.blind hE, fun U hU hW => ⟨rfl, by rw [hU]; exact hR, KX.at hE ⟨hK, hbs, hKs⟩ hS hU hW⟩⟩ rfl hn hl.1 hst (lv_room hcat) d hf
  intro T hT X
  obtain ⟨v2, st₀, t, T', L, h0, X', hL, e1, e2, ⟨⟨hv, M9, hP9, hrep⟩, hz, hk⟩, stp⟩ := hr T hT X
  cases hv
  rw [h0] at hz hk
  obtain ⟨t2, a1, b1⟩ := k M9 hP9 T'.heap (locs ++ L) ls (by rw [e1]; exact hrep)
    ⟨Nat.le_trans hS.1 (by rw [e1]; exact hz), fun q h1 h2 => by rw [e1, hk q (Nat.lt_of_lt_of_le h1 hS.1) h2]; exact hS.2.1 q h1 h2, fun q hq => by
      rcases List.mem_append.mp hq with h | h
      · exact hS.2.2 q h
      · exact hL q h⟩ hl T' rfl X'
  exact ⟨t2, stp t2 a1, b1⟩
end LR
