set_option maxRecDepth 100000
set_option maxHeartbeats 4000000
def QXe (E : En) (v : Option Value) (PM : Mem → Prop) : Array Value → State → Outcome → State → Prop := fun _ st oc t => (oc = .returned v ∧ ∃ M', PM M' ∧ Rep E M' t.heap) ∧ va_F (fun q => E.2.1 ≤ q) st t
def QMe (E : En) (G : Ctx) (v : Option Value) (PM : Mem → Prop) (mc ms : Nat) : State → Prop := match G with
  | (p, e, R, s, m, args, below, meth, c) => MQ below (QXe E v PM) args s mc ms (fun q => E.2.1 ≤ q)
def CWe (E : En) (y : MethodName) (cc : ByteArray) (nL : Nat) (ret : Option FieldType) (hh : List (Nat × Nat × Nat × Nat)) (rm : Room) (args : List Value) (M : Mem) (v : Option Value) (PM : Mem → Prop) : Prop :=
  Met E.1 y (wsW_ y cc nL ret hh) rm (va_Pc args (fun U => Rep E M U.heap ∧ KX E U)) (QXe E v PM) rm.cells rm.slots (fun q => E.2.1 ≤ q)
theorem CWe_intro {E : En} {y : MethodName} {cc : ByteArray} {nL : Nat} {ret : Option FieldType} {hh : List (Nat × Nat × Nat × Nat)} {rm : Room} {args : List Value} {M : Mem} {PM : Mem → Prop} {v : Option Value} {own : String} (ho : y.cls = own) (hy : plainName y.cls = true) (hlen : (lg_sl args).length ≤ nL) {lv : List (Nat × Value)} (hlv : lv_args 0 args = lv)
    (body : ∀ G : Ctx, Cx E G cc nL ret own rm → Tab G = tableOf hh → V E G M 0 0 nL 0 lv [] (QMe E G v PM rm.cells rm.slots)) : CWe E y cc nL ret hh rm args M v PM := by
  refine va_MetW (cc := cc) (maxL := nL) (ret := ret) (hh := hh) hy rfl ?_
  intro p e s m args' below meth c s₁ B hml hv
  obtain ⟨rfl, hR, hK⟩ := hv
  have hts := atoms_spec (ws := wsW_ y cc nL ret hh) B.pre
  have htb := vx_table (x := y) B (hts _ List.mem_cons_self)
  have hts : ∀ w ∈ lw_all, w.before _ s = true := fun w h => hts w (List.mem_cons_of_mem _ h)
  have hown : s.vm.findClass y.cls = some m.cls := findClass_of_methodNamed B.named
  have hl := lv_entry args (n := nL) hlen
  rw [lg_entry_eq]
  rw [hlv] at hl
  exact body (p, e, rm, s, m, args.toArray, below, meth, c) ⟨B.exec, B.bytes, hml, by rw [← ho]; exact hown, hts, B.returns, B.notSynchronized, rfl, hK⟩ htb s.heap [] _ hR va_S.rf hl
section HO3
variable {E : En} {G : Ctx} {M M' : Mem} {cells slots nL pc : Nat} {lv lv' : List (Nat × Value)} {st st0 : List Value} {Q : State → Prop} {cc : ByteArray} {ret : Option FieldType} {own : String} {rm0 : Room} {PM : Mem → Prop}
theorem V_iretE (hG : Cx E G cc nL (some .int) own rm0) {v : Int32} (hP : PM M) (d : decode cc pc = .ok (.ireturn, 1)) : V E G M cells slots nL pc lv [.int v] (QMe E G (some (.int v)) PM cells slots) := by
  obtain ⟨p, e, R, s, m, args, below, meth, c⟩ := G
  obtain ⟨hx, hb, hml, hown, hts, hr, hlk, hRm, hK, hbs, hKs⟩ := hG
  intro H locs ls hR hS hl
  exact W.iret (v := v) hx hb hr (fun t ht hW => ⟨⟨rfl, M, hP, by rw [ht]; exact hR⟩, hS.F ht⟩) hS.2.2 d hlk
theorem V_astoreX (hG : Cx E G cc nL ret own rm0) {i x : Nat} (lv' : List (Nat × Value)) (d : decode cc pc = .ok (.astore i, 2)) (hn : i < nL) (hl' : (i, Value.ref x) :: lv.filter (fun q => !(q.1 == i) && !(q.1 + 1 == i && q.2.category == 2)) = lv') (k : V E G M cells slots nL (pc + 2) lv' st Q) : V E G M cells slots nL pc lv (.ref x :: st) Q := by
  obtain ⟨p, e, R, s, m, args, below, meth, c⟩ := G
  obtain ⟨hx, hb, hml, hown, hts, hr, hlk, hRm, hK, hbs, hKs⟩ := hG
  intro H locs ls hR hS hl
  exact lv_astore hx hb d hl hn hl' (fun ls' h => k H locs ls' hR hS h)
theorem V_catchE {p : Program} {e : Env} {R : Room} {s : State} {m : MethodId} {args : Array Value} {below : List Frame} {meth : Method} {c : Code} {H : Heap} {locs : List Loc} {ls : Array Slot} {mc ms : Nat} {rest : List Value} {cl : String} (hr : vx_Run p E.1 e R s m args below meth c H locs cells slots mc ms (F0 m pc ls st0) rest (fun _ _ _ => False) (XTe E cl PM) (fun q => E.2.1 ≤ q)) (hS : va_S (fun q => E.2.1 ≤ q) s.heap H locs) (hl : lv_has ls nL lv) (hown : s.vm.findClass own = some m.cls) (pre : List ExceptionTableEntry) (x : ExceptionTableEntry) (suf : List ExceptionTableEntry) (hsplit : c.exceptionTable.toList = pre ++ x :: suf)
    (hpass : ∀ z ∈ pre, covers z pc = false ∨ (z.catchType ≠ 0 ∧ ∃ nm : String, (Cond.classLink own z.catchType nm).before args s = true ∧ va_Nc cl nm s)) (hcov : covers x pc = true) (h0 : x.catchType ≠ 0) {name : String}
    (hlink : (Cond.classLink own x.catchType name).before args s = true) (hcast : (Cond.castable cl name).before args s = true) (k : ∀ q M', PM M' → V E (p, e, R, s, m, args, below, meth, c) M' (cells + mc) (slots + ms) nL x.handlerPc lv [.ref q] Q) : W p E.1 e R s m args below meth c H locs cells slots Q (F0 m pc ls st0) := by
  intro T hT X
  rcases hr T hT X with ⟨v, st₀, t, T', L, h9, X', hL, e1, e2, hf, st⟩ | ⟨q, st₀, t, T', L, Ec, ce, h9, X', hL, e1, e2, ⟨g1, ⟨M', g2, g3⟩, g4, g5⟩, hce, hcv, hcl, st⟩
  · exact hf.elim
  · subst g1
    rw [h9] at g4 g5
    have hS2 : va_S (fun q => E.2.1 ≤ q) s.heap T'.heap (locs ++ L) := ⟨Nat.le_trans hS.1 (by rw [e1]; exact g4), fun q h1 h2 => by rw [e1, g5 q (Nat.lt_of_lt_of_le h1 hS.1) h2]; exact hS.2.1 q h1 h2, fun q hq => by
      rcases List.mem_append.mp hq with h | h
      · exact hS.2.2 q h
      · exact hL q h⟩
    have kx := vx_catch (p := p) (l := E.1) (e := e) (R := R) (below := below) (meth := meth) (locs := locs ++ L) (cells := cells + mc) (slots := slots + ms) (Q := Q) (ls := ls) (rest := rest) hown pre x suf hsplit hpass hcov h0 hlink hcast (by rw [e1]; exact hce) hcv hcl (k q M' g2 T'.heap (locs ++ L) ls (by rw [e1]; exact g3) hS2 hl)
    obtain ⟨t2, a1, b1⟩ := kx T' rfl X'
    exact ⟨t2, st.trans a1, b1⟩
end HO3
def hhH : List (Nat × Nat × Nat × Nat) := [(0, 10, 13, 13), (0, 10, 17, 15)]
def rmHL : Room := { frames := 7, cells := 1, slots := 6, locals := 160 }
theorem ok_horse0 {E : En} (hE : EOk E) (hN : NOk E) {p0 q : Nat} {p1 p2 r : Int32} {M : Mem} (hT : mT M p0 = 0) (hq : mT M q = 103) (hq1 : mLn M q = 1) (h : f_X1_horse_2 p0 p1 p2 M = some r) : CW E yX0_horse cX0_horse 5 (some .int) hhH rmHL [rf E p0, .int p1, .int p2, rf E q] M (some (.int 0)) (sL M q 0 r.toInt64) := by
  refine CW_intro (own := RX0) rfl (by decide) (Nat.le_of_ble_eq_true rfl) rfl (fun G hG hEn htb => ?_)
  show V E G M 0 0 5 0 [(0, rf E p0), (1, .int p1), (2, .int p2), (3, rf E q)] [] _
  refine V_aload_n hG 3 rfl dX0_horse_0 ?_
  refine V_iconst hG 0 (by decide) dX0_horse_1 ?_
  refine V_aload_n hG 0 rfl dX0_horse_2 ?_
  refine V_iload_n hG 1 rfl dX0_horse_3 ?_
  refine V_iload_n hG 2 rfl dX0_horse_4 ?_
  refine V_callV hE hG (ci := 0) (n := 2) (As := [.int p1, .int p2]) (rest := [.int 0, rf E q]) (ok_f_X1_horse_2 hE hN h) hT (by decide) rfl (lw_V q1489 q1490 q1491 q123 q1492) ⟨rfl, by decide, by decide, by decide +kernel⟩ ⟨Nat.le_of_ble_eq_true rfl, Nat.le_of_ble_eq_true rfl⟩ rfl rfl (Nat.le_of_ble_eq_true rfl) ⟨Nat.le_of_ble_eq_true rfl, Nat.le_of_ble_eq_true rfl⟩ dX0_horse_5 (V_zero rfl rfl ?_)
  refine V_i2l hG dX0_horse_8 ?_
  refine V_lastore hG hq (by rw [hq1]; decide) dX0_horse_9 ?_
  refine V_goto hG 21 dX0_horse_10 (by decide) ?_
  refine V_iconst hG 0 (by decide) dX0_horse_21 ?_
  exact V_widen (k := 1) (n := 6) (by decide) (by decide) (V_iret hG dX0_horse_22)
theorem ok_horse1 {E : En} (hE : EOk E) (hN : NOk E) (hfl : E.1.stackTraces = false) {p0 q : Nat} {p1 p2 : Int32} {M : Mem} (hT : mT M p0 = 0) (hi : f_X1_isHorse p0 p1 M = some 0) : CWe E yX0_horse cX0_horse 5 (some .int) hhH rmHL [rf E p0, .int p1, .int p2, rf E q] M (some (.int 1)) (Jk M) := by
  refine CWe_intro (own := RX0) rfl (by decide) (Nat.le_of_ble_eq_true rfl) rfl (fun G hG htb => ?_)
  show V E G M 0 0 5 0 [(0, rf E p0), (1, .int p1), (2, .int p2), (3, rf E q)] [] _
  refine V_aload_n hG 3 rfl dX0_horse_0 ?_
  refine V_iconst hG 0 (by decide) dX0_horse_1 ?_
  refine V_aload_n hG 0 rfl dX0_horse_2 ?_
  refine V_iload_n hG 1 rfl dX0_horse_3 ?_
  refine V_iload_n hG 2 rfl dX0_horse_4 ?_
  have hG0 := hG
  obtain ⟨p, e, R, s, m, args, below, meth, c⟩ := G
  obtain ⟨hx, hb, hml, hown, hts, hr, hlk, hRm, hK, hbs, hKs⟩ := hG
  intro H locs ls hR hS hl
  subst hRm
  obtain ⟨fs, g1, -, -⟩ := hR.obj hT (by decide)
  refine V_catchE (vx_runV (As := [.int p1, .int p2]) (rest := [.int 0, rf E q]) ⟨hx, hb, hml, hown, hts⟩ (thr_I hE hN hfl (p2 := p2) hT hi) (cwV 2 hts (lw_V q1489 q1490 q1491 q123 q1492) rfl rfl rfl ⟨rfl, by decide, by decide, by decide +kernel⟩ ⟨Nat.le_of_ble_eq_true rfl, Nat.le_of_ble_eq_true rfl⟩) ⟨KX.blind hE, va_recv hK (oneP g1) (ci := 0) (q := (RX1, TX1, 19)) rfl (q0 := 0) rfl, fun U hU hW => ⟨rfl, by rw [hU]; exact hR, KX.at hE ⟨hK, hbs, hKs⟩ hS hU hW⟩⟩ rfl rfl hl.1 rfl (lv_room (Nat.le_of_ble_eq_true rfl)) dX0_horse_5 ⟨Nat.le_of_ble_eq_true rfl, Nat.le_of_ble_eq_true rfl⟩) hS hl hown [] _ [_] htb (fun z hz => by cases hz) (by decide) (by decide) (hts _ q1454) (va_Nw.use rfl (hN.1 s hKs _ q1495 rfl)) (fun q9 M9 h9 => ?_)
  refine V_astoreX hG0 [(4, .ref q9), (0, rf E p0), (1, .int p1), (2, .int p2), (3, rf E q)] dX0_horse_13 (by decide) rfl ?_
  refine V_iconst hG0 1 (by decide) dX0_horse_15 ?_
  exact V_iretE hG0 h9 dX0_horse_16
theorem ok_horse2 {E : En} (hE : EOk E) (hN : NOk E) (hfl : E.1.stackTraces = false) {p0 q : Nat} {p1 p2 : Int32} {M : Mem} (hT : mT M p0 = 0) (hNc : ∀ U : State, E.2.2.2.2 U → va_Nc "java/util/NoSuchElementException" "java/lang/IndexOutOfBoundsException" U) (hi : f_X1_isHorse p0 p1 M = some 1) (hp : p2 < 0 ∨ 7 < p2) : CWe E yX0_horse cX0_horse 5 (some .int) hhH rmHL [rf E p0, .int p1, .int p2, rf E q] M (some (.int 2)) (Jk M) := by
  refine CWe_intro (own := RX0) rfl (by decide) (Nat.le_of_ble_eq_true rfl) rfl (fun G hG htb => ?_)
  show V E G M 0 0 5 0 [(0, rf E p0), (1, .int p1), (2, .int p2), (3, rf E q)] [] _
  refine V_aload_n hG 3 rfl dX0_horse_0 ?_
  refine V_iconst hG 0 (by decide) dX0_horse_1 ?_
  refine V_aload_n hG 0 rfl dX0_horse_2 ?_
  refine V_iload_n hG 1 rfl dX0_horse_3 ?_
  refine V_iload_n hG 2 rfl dX0_horse_4 ?_
  have hG0 := hG
  obtain ⟨p, e, R, s, m, args, below, meth, c⟩ := G
  obtain ⟨hx, hb, hml, hown, hts, hr, hlk, hRm, hK, hbs, hKs⟩ := hG
  intro H locs ls hR hS hl
  subst hRm
  obtain ⟨fs, g1, -, -⟩ := hR.obj hT (by decide)
  refine V_catchE (vx_runV (As := [.int p1, .int p2]) (rest := [.int 0, rf E q]) ⟨hx, hb, hml, hown, hts⟩ (thr_N hE hN hfl (p2 := p2) hT hi hp) (cwV 2 hts (lw_V q1489 q1490 q1491 q123 q1492) rfl rfl rfl ⟨rfl, by decide, by decide, by decide +kernel⟩ ⟨Nat.le_of_ble_eq_true rfl, Nat.le_of_ble_eq_true rfl⟩) ⟨KX.blind hE, va_recv hK (oneP g1) (ci := 0) (q := (RX1, TX1, 19)) rfl (q0 := 0) rfl, fun U hU hW => ⟨rfl, by rw [hU]; exact hR, KX.at hE ⟨hK, hbs, hKs⟩ hS hU hW⟩⟩ rfl rfl hl.1 rfl (lv_room (Nat.le_of_ble_eq_true rfl)) dX0_horse_5 ⟨Nat.le_of_ble_eq_true rfl, Nat.le_of_ble_eq_true rfl⟩) hS hl hown [_] _ [] htb (fun z hz => Or.inr (by rw [List.mem_singleton.mp hz]; exact ⟨by decide, _, hts _ q1454, hNc s hKs⟩)) (by decide) (by decide) (hts _ q1488) (va_Nw.use rfl (hN.1 s hKs _ q1519 rfl)) (fun q9 M9 h9 => ?_)
  refine V_astoreX hG0 [(4, .ref q9), (0, rf E p0), (1, .int p1), (2, .int p2), (3, rf E q)] dX0_horse_17 (by decide) rfl ?_
  refine V_iconst hG0 2 (by decide) dX0_horse_19 ?_
  exact V_iretE hG0 h9 dX0_horse_20
