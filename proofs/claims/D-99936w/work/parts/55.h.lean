set_option maxRecDepth 100000
set_option maxHeartbeats 4000000
section HO
variable {E : En} {G : Ctx} {M M' : Mem} {cells slots nL pc : Nat} {lv lv' : List (Nat × Value)} {st st0 : List Value} {Q : State → Prop} {cc : ByteArray} {ret : Option FieldType} {own : String} {rm0 : Room}
theorem V_throwI (hfl : E.1.stackTraces = false) (hG : Cx E G cc nL ret RX1 rm0) (hN : NOk E) (hcs : cells + 1 ≤ rm0.cells ∧ slots + 6 ≤ rm0.slots) (hfr : 5 < rm0.frames ∧ 81 ≤ rm0.locals) (d0 : decode cc pc = .ok (.new 190, 3)) (d3 : decode cc (pc + 3) = .ok (.dup, 1)) (d4 : decode cc (pc + 4) = .ok (.invokespecial 192, 3)) (d7 : decode cc (pc + 7) = .ok (.athrow, 1)) (hX : NoX G) : V E G M cells slots nL pc lv [] (QTe E G "java/lang/IndexOutOfBoundsException" (Jk M) rm0.cells rm0.slots) := by
  obtain ⟨p, e, R, s, m, args, below, meth, c⟩ := G
  obtain ⟨hx, hb, hml, hown, hts, hr, hlk, hRm, hK, hbs, hKs⟩ := hG
  intro H locs ls hR hS hl
  subst hRm
  refine vx_throw0 (own := RX1) (cls := "java/lang/IndexOutOfBoundsException") (names := ["java/lang/RuntimeException", "java/lang/Exception"]) (ik := 190) (ic := 192) (A := fun q => E.2.1 ≤ q) hx hb hfl hown (by decide) (by decide) (hts _ q1493) (hts _ q157) (vx_hat (B := [Cond.declares ⟨"java/lang/Exception", "<init>", "()V"⟩, Cond.declares ⟨"java/lang/Throwable", "<init>", "()V"⟩, Cond.declares ⟨"java/lang/RuntimeException", "<init>", "()V"⟩, Cond.castable "java/lang/IndexOutOfBoundsException" "java/lang/IndexOutOfBoundsException"]) (fun w hw => hts w (hatI w hw)) (by decide +kernel) (vx_c (va_Nw.use rfl (hN.1 s hKs _ q662 rfl)) (vx_c (va_Nw.use rfl (hN.1 s hKs _ q664 rfl)) (vx_c (va_Nw.use rfl (hN.1 s hKs _ q1480 rfl)) (vx_c (va_Nw.use rfl (hN.1 s hKs _ q1495 rfl)) vx_n))))) hgdI (hN.2.2.1 s hKs).1 (hN.2.2.1 s hKs).2 hS (by rw [hml]; exact hl.1) d0 d3 d4 d7 (fun x hx => (hX x hx).elim) hfr.1 hfr.2 hcs.1 hcs.2 hlk (fun t ht hz hq q9 => ⟨rfl, Rep_junk hR hz hq, ?_⟩) hS.2.2 hcs.1 hcs.2
  exact ⟨Nat.le_trans hS.1 hz, fun q h1 h2 => (hq q (Nat.lt_of_lt_of_le h1 hS.1)).trans (hS.2.1 q h1 h2)⟩
theorem V_throwN (hfl : E.1.stackTraces = false) (hG : Cx E G cc nL ret RX1 rm0) (hN : NOk E) (hcs : cells + 1 ≤ rm0.cells ∧ slots + 6 ≤ rm0.slots) (hfr : 5 < rm0.frames ∧ 81 ≤ rm0.locals) (d0 : decode cc pc = .ok (.new 225, 3)) (d3 : decode cc (pc + 3) = .ok (.dup, 1)) (d4 : decode cc (pc + 4) = .ok (.invokespecial 227, 3)) (d7 : decode cc (pc + 7) = .ok (.athrow, 1)) (hX : NoX G) : V E G M cells slots nL pc lv [] (QTe E G "java/util/NoSuchElementException" (Jk M) rm0.cells rm0.slots) := by
  obtain ⟨p, e, R, s, m, args, below, meth, c⟩ := G
  obtain ⟨hx, hb, hml, hown, hts, hr, hlk, hRm, hK, hbs, hKs⟩ := hG
  intro H locs ls hR hS hl
  subst hRm
  refine vx_throw0 (own := RX1) (cls := "java/util/NoSuchElementException") (names := ["java/lang/RuntimeException", "java/lang/Exception"]) (ik := 225) (ic := 227) (A := fun q => E.2.1 ≤ q) hx hb hfl hown (by decide) (by decide) (hts _ q1517) (hts _ q159) (vx_hat (B := [Cond.declares ⟨"java/lang/Exception", "<init>", "()V"⟩, Cond.declares ⟨"java/lang/Throwable", "<init>", "()V"⟩, Cond.declares ⟨"java/lang/RuntimeException", "<init>", "()V"⟩, Cond.castable "java/util/NoSuchElementException" "java/util/NoSuchElementException"]) (fun w hw => hts w (hatN w hw)) (by decide +kernel) (vx_c (va_Nw.use rfl (hN.1 s hKs _ q662 rfl)) (vx_c (va_Nw.use rfl (hN.1 s hKs _ q664 rfl)) (vx_c (va_Nw.use rfl (hN.1 s hKs _ q1480 rfl)) (vx_c (va_Nw.use rfl (hN.1 s hKs _ q1519 rfl)) vx_n))))) hgdN (hN.2.2.1 s hKs).1 (hN.2.2.1 s hKs).2 hS (by rw [hml]; exact hl.1) d0 d3 d4 d7 (fun x hx => (hX x hx).elim) hfr.1 hfr.2 hcs.1 hcs.2 hlk (fun t ht hz hq q9 => ⟨rfl, Rep_junk hR hz hq, ?_⟩) hS.2.2 hcs.1 hcs.2
  exact ⟨Nat.le_trans hS.1 hz, fun q h1 h2 => (hq q (Nat.lt_of_lt_of_le h1 hS.1)).trans (hS.2.1 q h1 h2)⟩
end HO
def rmH : Room := { frames := 6, cells := 1, slots := 6, locals := 120 }
theorem thr_I {E : En} (hE : EOk E) (hN : NOk E) (hfl : E.1.stackTraces = false) {p0 : Nat} {p1 p2 : Int32} {M : Mem} (hT : mT M p0 = 0) (hi : f_X1_isHorse p0 p1 M = some 0) : TMe E yX1_horse_2 cX1_horse_2 3 (some .int) rmH [rf E p0, .int p1, .int p2] M "java/lang/IndexOutOfBoundsException" (Jk M) := by
  refine TMe_intro (own := RX1) rfl (by decide +kernel) (Nat.le_of_ble_eq_true rfl) rfl (fun G hG hX => ?_)
  show V E G M 0 0 3 0 [(0, rf E p0), (1, .int p1), (2, .int p2)] [] _
  refine V_aload_n hG 0 rfl dX1_horse_2_0 ?_
  refine V_iload_n hG 1 rfl dX1_horse_2_1 ?_
  refine V_callV hE hG (ci := 0) (As := [.int p1]) (rest := []) (ok_f_X1_isHorse hE hN hi) hT (by decide) rfl hw_X1_186 hdv_X1_isHorse ⟨Nat.le_of_ble_eq_true rfl, Nat.le_of_ble_eq_true rfl⟩ rfl rfl (Nat.le_of_ble_eq_true rfl) ⟨Nat.le_of_ble_eq_true rfl, Nat.le_of_ble_eq_true rfl⟩ dX1_horse_2_2 (V_zero rfl rfl ?_)
  refine V_if_ne hG 16 dX1_horse_2_5 (by decide) (fun c => absurd rfl c) (fun _ => ?_)
  exact V_throwI hfl hG hN ⟨by decide, by decide⟩ ⟨by decide, by decide⟩ dX1_horse_2_8 dX1_horse_2_11 dX1_horse_2_12 dX1_horse_2_15 hX
theorem thr_N {E : En} (hE : EOk E) (hN : NOk E) (hfl : E.1.stackTraces = false) {p0 : Nat} {p1 p2 : Int32} {M : Mem} (hT : mT M p0 = 0) (hi : f_X1_isHorse p0 p1 M = some 1) (hp : p2 < 0 ∨ 7 < p2) : TMe E yX1_horse_2 cX1_horse_2 3 (some .int) rmH [rf E p0, .int p1, .int p2] M "java/util/NoSuchElementException" (Jk M) := by
  refine TMe_intro (own := RX1) rfl (by decide +kernel) (Nat.le_of_ble_eq_true rfl) rfl (fun G hG hX => ?_)
  show V E G M 0 0 3 0 [(0, rf E p0), (1, .int p1), (2, .int p2)] [] _
  refine V_aload_n hG 0 rfl dX1_horse_2_0 ?_
  refine V_iload_n hG 1 rfl dX1_horse_2_1 ?_
  refine V_callV hE hG (ci := 0) (As := [.int p1]) (rest := []) (ok_f_X1_isHorse hE hN hi) hT (by decide) rfl hw_X1_186 hdv_X1_isHorse ⟨Nat.le_of_ble_eq_true rfl, Nat.le_of_ble_eq_true rfl⟩ rfl rfl (Nat.le_of_ble_eq_true rfl) ⟨Nat.le_of_ble_eq_true rfl, Nat.le_of_ble_eq_true rfl⟩ dX1_horse_2_2 (V_zero rfl rfl ?_)
  refine V_if_ne hG 16 dX1_horse_2_5 (by decide) (fun _ => ?_) (fun c => absurd c (by decide))
  refine V_iload_n hG 2 rfl dX1_horse_2_16 ?_
  refine V_tableOut hG 152 dX1_horse_2_17 (by
    rcases hp with h | h
    · exact Or.inl (by have := Int32.lt_iff_toInt_lt.mp h; simpa using this)
    · exact Or.inr (by have := Int32.lt_iff_toInt_lt.mp h; simpa using this)) (by decide) ?_
  exact V_throwN hfl hG hN ⟨by decide, by decide⟩ ⟨by decide, by decide⟩ dX1_horse_2_152 dX1_horse_2_155 dX1_horse_2_156 dX1_horse_2_159 hX
