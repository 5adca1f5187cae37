set_option maxRecDepth 100000
set_option maxHeartbeats 4000000
theorem gf_X1_40 {E : En} {G : Ctx} {M : Mem} {cells slots nL pc : Nat} {lv : List (Nat × Value)} {st : List Value} {Q : State → Prop} {cc : ByteArray} {ret : Option FieldType} {rm0 : Room} (hN : NOk E) (hG : Cx E G cc nL ret RX1 rm0) {a : Nat} (hT : mT M a = 2) {r : Nat} (hr : mR M a 3 = some r) (d : decode cc pc = .ok (.getfield 40, 3)) (kk : V E G M cells slots nL (pc + 3) lv (rf E r :: st) Q) : V E G M cells slots nL pc lv (rf E a :: st) Q := W_getNR hG (ci := 2) (C := RX3) (T := TX3) (N := 9) (k := 3) hT (by decide) rfl in_X3 (by decide) (Or.inl rfl) hr rfl hN q255 d kk
theorem gf_X1_46 {E : En} {G : Ctx} {M : Mem} {cells slots nL pc : Nat} {lv : List (Nat × Value)} {st : List Value} {Q : State → Prop} {cc : ByteArray} {ret : Option FieldType} {rm0 : Room} (hN : NOk E) (hG : Cx E G cc nL ret RX1 rm0) {a : Nat} (hT : mT M a = 0) {r : Nat} (hr : mR M a 7 = some r) (d : decode cc pc = .ok (.getfield 46, 3)) (kk : V E G M cells slots nL (pc + 3) lv (rf E r :: st) Q) : V E G M cells slots nL pc lv (rf E a :: st) Q := W_getPR hG (ci := 0) (C := RX1) (T := TX1) (N := 19) (k := 7) hT (by decide) rfl in_X1 (by decide) (Or.inl rfl) hr rfl q437 d kk
/-! ===== methods with handlers ===== -/
def Tab (G : Ctx) : List ExceptionTableEntry := G.2.2.2.2.2.2.2.2.exceptionTable.toList
def CW (E : En) (y : MethodName) (cc : ByteArray) (nL : Nat) (ret : Option FieldType) (hh : List (Nat × Nat × Nat × Nat)) (rm : Room) (args : List Value) (M : Mem) (v : Option Value) (M' : Mem) : Prop :=
  Met E.1 y (wsW_ y cc nL ret hh) rm (va_Pc args (fun U => Rep E M U.heap ∧ KX E U)) (QX E v M') rm.cells rm.slots (fun q => E.2.1 ≤ q)
theorem CW_intro {E : En} {y : MethodName} {cc : ByteArray} {nL : Nat} {ret : Option FieldType} {hh : List (Nat × Nat × Nat × Nat)} {rm : Room} {args : List Value} {M M' : Mem} {v : Option Value} {own : String} (ho : y.cls = own) (hy : plainName y.cls = true) (hlen : (lg_sl args).length ≤ nL) {lv : List (Nat × Value)} (hlv : lv_args 0 args = lv)
    (body : ∀ G : Ctx, Cx E G cc nL ret own rm → Ent E G M → Tab G = tableOf hh → V E G M 0 0 nL 0 lv [] (QM E G v M' rm.cells rm.slots)) : CW E y cc nL ret hh rm args M v M' := by
  refine va_MetW (cc := cc) (maxL := nL) (ret := ret) (hh := hh) hy rfl ?_
  intro p e s m args' below meth c s₁ B hml hv
  obtain ⟨rfl, hR, hK⟩ := hv
  have hts := atoms_spec (ws := wsW_ y cc nL ret hh) B.pre
  have htb := vx_table (x := y) B (hts _ List.mem_cons_self)
  have hts : ∀ w ∈ lw_all, w.before _ s = true := fun w h => hts w (List.mem_cons_of_mem _ h)
  have hown : s.vm.findClass y.cls = some m.cls := findClass_of_methodNamed B.named
  have hl := lv_entry args (n := nL) hlen
  rw [lg_entry_eq]
  rw [hlv] at hl
  exact body (p, e, rm, s, m, args.toArray, below, meth, c) ⟨B.exec, B.bytes, hml, by rw [← ho]; exact hown, hts, B.returns, B.notSynchronized, rfl, hK⟩ hR htb s.heap [] _ hR va_S.rf hl
section VW
variable {E : En} {G : Ctx} {M M' : Mem} {cells slots nL pc : Nat} {lv lv' : List (Nat × Value)} {st st0 : List Value} {Q : State → Prop} {cc : ByteArray} {ret : Option FieldType} {own : String} {rm0 : Room} {cl : String} {qa : Addr → Prop}
theorem V_astoreR (hG : Cx E G cc nL ret own rm0) {q : Fin 4} {i x : Nat} (hi : q.val = i) (lv' : List (Nat × Value)) (d : decode cc pc = .ok (.astore_n q, 1)) (hn : i < nL) (hl' : (i, Value.ref x) :: lv.filter (fun q => !(q.1 == i) && !(q.1 + 1 == i && q.2.category == 2)) = lv') (k : V E G M cells slots nL (pc + 1) lv' st Q) : V E G M cells slots nL pc lv (.ref x :: st) Q := by
  obtain ⟨p, e, R, s, m, args, below, meth, c⟩ := G
  obtain ⟨hx, hb, hml, hown, hts, hr, hlk, hRm, hK, hbs, hKs⟩ := hG
  intro H locs ls hR hS hl
  exact lv_astore_n hx hb d hi hl hn hl' (fun ls' h => k H locs ls' hR hS h)
/-- behind a call that throws, caught here -/
theorem V_catchR {p : Program} {e : Env} {R : Room} {s : State} {m : MethodId} {args : Array Value} {below : List Frame} {meth : Method} {c : Code} {H : Heap} {locs : List Loc} {ls : Array Slot} {mc ms : Nat} {rest : List Value} (hr : vx_Run p E.1 e R s m args below meth c H locs cells slots mc ms (F0 m pc ls st0) rest (fun _ _ _ => False) (XT E cl qa M') (fun q => E.2.1 ≤ q)) (hS : va_S (fun q => E.2.1 ≤ q) s.heap H locs) (hl : lv_has ls nL lv) (hown : s.vm.findClass own = some m.cls) (pre : List ExceptionTableEntry) (x : ExceptionTableEntry) (suf : List ExceptionTableEntry) (hsplit : c.exceptionTable.toList = pre ++ x :: suf)
    (hpass : ∀ z ∈ pre, covers z pc = false ∨ (z.catchType ≠ 0 ∧ ∃ nm : String, (Cond.classLink own z.catchType nm).before args s = true ∧ va_Nc cl nm s)) (hcov : covers x pc = true) (h0 : x.catchType ≠ 0) {name : String}
    (hlink : (Cond.classLink own x.catchType name).before args s = true) (hcast : (Cond.castable cl name).before args s = true) (k : ∀ q, qa q → V E (p, e, R, s, m, args, below, meth, c) M' (cells + mc) (slots + ms) nL x.handlerPc lv [.ref q] Q) : W p E.1 e R s m args below meth c H locs cells slots Q (F0 m pc ls st0) := by
  intro T hT X
  rcases hr T hT X with ⟨v, st₀, t, T', L, h9, X', hL, e1, e2, hf, st⟩ | ⟨q, st₀, t, T', L, Ec, ce, h9, X', hL, e1, e2, ⟨g1, g2, g3, g4, g5⟩, hce, hcv, hcl, st⟩
  · exact hf.elim
  · subst g1
    rw [h9] at g4 g5
    have hS2 : va_S (fun q => E.2.1 ≤ q) s.heap T'.heap (locs ++ L) := ⟨Nat.le_trans hS.1 (by rw [e1]; exact g4), fun q h1 h2 => by rw [e1, g5 q (Nat.lt_of_lt_of_le h1 hS.1) h2]; exact hS.2.1 q h1 h2, fun q hq => by
      rcases List.mem_append.mp hq with h | h
      · exact hS.2.2 q h
      · exact hL q h⟩
    have kx := vx_catch (p := p) (l := E.1) (e := e) (R := R) (below := below) (meth := meth) (locs := locs ++ L) (cells := cells + mc) (slots := slots + ms) (Q := Q) (ls := ls) (rest := rest) hown pre x suf hsplit hpass hcov h0 hlink hcast (by rw [e1]; exact hce) hcv hcl (k q g2 T'.heap (locs ++ L) ls (by rw [e1]; exact g3) hS2 hl)
    obtain ⟨t2, a1, b1⟩ := kx T' rfl X'
    exact ⟨t2, st.trans a1, b1⟩
theorem pcw_X1 (hE : EOk E) (hG : Cx E G cc nL ret RX1 rm0) (hN : NOk E) (htb : Tab G = tableOf [(16, 32, 33, 56)]) {rec : Nat → Nat → Mem → Option (Option Int64)} {fr lo : Nat} (hrec : PofOk E rec fr lo) {a nm : Nat} (hc : rec a nm M = some none) (hroom : fr + 1 ≤ rm0.frames ∧ 8 + (6 + 11) + lo ≤ rm0.locals) (hcat : (st.map fun v => v.category).sum ≤ 8) (hf : cells ≤ rm0.cells ∧ slots ≤ rm0.slots) (d : decode cc 29 = .ok (.invokevirtual 50, 3)) (k : ∀ q : Nat, V E G M cells slots nL 33 lv [.ref q] Q) : V E G M cells slots nL 29 lv (rf E nm :: rf E a :: st) Q := by
  rcases hrec a nm M none hc with ⟨hT, ok9⟩ | ⟨hT, ok9⟩ | ⟨hT, ok9⟩ | ⟨hT, ok9⟩
  · obtain ⟨p, e, R, s, m, args, below, meth, c⟩ := G
    obtain ⟨hx, hb, hml, hown, hts, hr, hlk, hRm, hK, hbs, hKs⟩ := hG
    intro H locs ls hR hS hl
    obtain ⟨fs, g1, -, -⟩ := hR.obj hT (by decide)
    exact V_catchR (vx_runU (As := [rf E nm]) (rest := st) ⟨hx, hb, hml, hown, hts⟩ ok9 (va_cwA (owner := RX14) 1 hts hpo_X1_50_X15 rfl rfl rfl (hN.1 s hKs _ q1057 rfl) (by decide +kernel) (by rw [hRm]; exact ⟨hroom.1, by show 8 + (2 + 11) + lo ≤ _; omega⟩)) ⟨KX.blind hE, va_recv hK (oneP g1) (ci := 10) (q := (RX15, TX15, 1)) rfl (q0 := 0) rfl, fun U hU hW => ⟨rfl, by rw [hU]; exact hR, KX.at hE ⟨hK, hbs, hKs⟩ hS hU hW⟩⟩ rfl rfl hl.1 rfl (lv_room hcat) d ⟨by rw [hRm]; show cells + 0 ≤ _; exact hf.1, by rw [hRm]; show slots + 0 ≤ _; exact hf.2⟩) hS hl hown [] _ [] htb (fun z hz => by cases hz) (by decide) (by decide) (hts _ q1055) (va_Nw.use rfl (hN.1 s hKs _ q2263 rfl)) (fun q _ => k q)
  · obtain ⟨p, e, R, s, m, args, below, meth, c⟩ := G
    obtain ⟨hx, hb, hml, hown, hts, hr, hlk, hRm, hK, hbs, hKs⟩ := hG
    intro H locs ls hR hS hl
    obtain ⟨fs, g1, -, -⟩ := hR.obj hT (by decide)
    exact V_catchR (vx_runU (As := [rf E nm]) (rest := st) ⟨hx, hb, hml, hown, hts⟩ ok9 (va_cwA (owner := RX14) 1 hts hpo_X1_50_X16 rfl rfl rfl (hN.1 s hKs _ q1057 rfl) (by decide +kernel) (by rw [hRm]; exact ⟨hroom.1, by show 8 + (2 + 11) + lo ≤ _; omega⟩)) ⟨KX.blind hE, va_recv hK (oneP g1) (ci := 11) (q := (RX16, TX16, 1)) rfl (q0 := 0) rfl, fun U hU hW => ⟨rfl, by rw [hU]; exact hR, KX.at hE ⟨hK, hbs, hKs⟩ hS hU hW⟩⟩ rfl rfl hl.1 rfl (lv_room hcat) d ⟨by rw [hRm]; show cells + 0 ≤ _; exact hf.1, by rw [hRm]; show slots + 0 ≤ _; exact hf.2⟩) hS hl hown [] _ [] htb (fun z hz => by cases hz) (by decide) (by decide) (hts _ q1055) (va_Nw.use rfl (hN.1 s hKs _ q2263 rfl)) (fun q _ => k q)
  · obtain ⟨p, e, R, s, m, args, below, meth, c⟩ := G
    obtain ⟨hx, hb, hml, hown, hts, hr, hlk, hRm, hK, hbs, hKs⟩ := hG
    intro H locs ls hR hS hl
    obtain ⟨fs, g1, -, -⟩ := hR.obj hT (by decide)
    exact V_catchR (vx_runU (As := [rf E nm]) (rest := st) ⟨hx, hb, hml, hown, hts⟩ ok9 (va_cwA (owner := RX14) 1 hts hpo_X1_50_X17 rfl rfl rfl (hN.1 s hKs _ q1057 rfl) (by decide +kernel) (by rw [hRm]; exact ⟨hroom.1, by show 8 + (2 + 11) + lo ≤ _; omega⟩)) ⟨KX.blind hE, va_recv hK (oneP g1) (ci := 12) (q := (RX17, TX17, 1)) rfl (q0 := 0) rfl, fun U hU hW => ⟨rfl, by rw [hU]; exact hR, KX.at hE ⟨hK, hbs, hKs⟩ hS hU hW⟩⟩ rfl rfl hl.1 rfl (lv_room hcat) d ⟨by rw [hRm]; show cells + 0 ≤ _; exact hf.1, by rw [hRm]; show slots + 0 ≤ _; exact hf.2⟩) hS hl hown [] _ [] htb (fun z hz => by cases hz) (by decide) (by decide) (hts _ q1055) (va_Nw.use rfl (hN.1 s hKs _ q2263 rfl)) (fun q _ => k q)
  · obtain ⟨p, e, R, s, m, args, below, meth, c⟩ := G
    obtain ⟨hx, hb, hml, hown, hts, hr, hlk, hRm, hK, hbs, hKs⟩ := hG
    intro H locs ls hR hS hl
    obtain ⟨fs, g1, -, -⟩ := hR.obj hT (by decide)
    exact V_catchR (vx_runU (As := [rf E nm]) (rest := st) ⟨hx, hb, hml, hown, hts⟩ ok9 (va_cwA (owner := RX14) 1 hts hpo_X1_50_X18 rfl rfl rfl (hN.1 s hKs _ q1057 rfl) (by decide +kernel) (by rw [hRm]; exact ⟨hroom.1, by show 8 + (6 + 11) + lo ≤ _; omega⟩)) ⟨KX.blind hE, va_recv hK (oneP g1) (ci := 13) (q := (RX18, TX18, 3)) rfl (q0 := 0) rfl, fun U hU hW => ⟨rfl, by rw [hU]; exact hR, KX.at hE ⟨hK, hbs, hKs⟩ hS hU hW⟩⟩ rfl rfl hl.1 rfl (lv_room hcat) d ⟨by rw [hRm]; show cells + 0 ≤ _; exact hf.1, by rw [hRm]; show slots + 0 ≤ _; exact hf.2⟩) hS hl hown [] _ [] htb (fun z hz => by cases hz) (by decide) (by decide) (hts _ q1055) (va_Nw.use rfl (hN.1 s hKs _ q2263 rfl)) (fun q _ => k q)
end VW
def f_X1_work (d p0 : Nat) (p1 : Int32) (M : Mem) : Option Int64 :=
gd (mT M p0 = 0) (
bd (mR M p0 6) fun (a1 : Nat) =>
gd (mT M a1 = 2) (
bd (mR M a1 3) fun (a2 : Nat) =>
gd (mT M a2 = 105) (
gd (inb p1 (mLn M a2)) (
if mR M a2 (Int32.toNatClampNeg p1) = none then some (-9223372036854775808)
else (
bd (mR M a2 (Int32.toNatClampNeg p1)) fun (a3 : Nat) =>
bd (mR M p0 7) fun (a4 : Nat) =>
btp (pof d a3 a4 M) (fun (r : Int64) => some r) (some (-9223372036854775808)))))))
def rm_f_X1_work (d : Nat) : Room := rmP (3 * d + 1) (60 * d + 25)
theorem ok_f_X1_work {E : En} (hE : EOk E) (hN : NOk E) {d p0 : Nat} {p1 : Int32} {M : Mem} {r : Int64} (h : f_X1_work d p0 p1 M = some r) : CW E yX1_work cX1_work 3 (some .long) [(16, 32, 33, 56)] (rm_f_X1_work d) [rf E p0, .int p1] M (some (.long r)) M := by
  unfold f_X1_work at h
  refine CW_intro (own := RX1) rfl (by decide) (Nat.le_of_ble_eq_true rfl) rfl (fun G hG hEn htb => ?_)
  obtain ⟨Q, eQ⟩ : ∃ Q, Q = QM E G (some (.long r)) M 0 0 := ⟨_, rfl⟩
  show V E G M 0 0 3 0 [(0, rf E p0), (1, .int p1)] [] (QM E G (some (.long r)) M 0 0)
  rw [← eQ]
  obtain ⟨g1, h⟩ := gd_of h
  obtain ⟨a1, hr1, h⟩ := bd_of h
  obtain ⟨g2, h⟩ := gd_of h
  obtain ⟨a2, hr2, h⟩ := bd_of h
  obtain ⟨g3, h⟩ := gd_of h
  obtain ⟨g4, h⟩ := gd_of h
  refine V_aload_n hG 0 rfl dX1_work_0 ?_
  refine gf_X1_13 hN hG g1 hr1 dX1_work_1 ?_
  refine gf_X1_40 hN hG g2 hr2 dX1_work_4 ?_
  refine V_iload_n hG 1 rfl dX1_work_7 ?_
  refine W_aaloadQ5 hG g3 g4 dX1_work_8 ?_
  refine W_ifnonnull hG 16 dX1_work_9 (by decide) (fun c => ?_) (fun c => ?_)
  · have h := if_t c h
    refine V_ldc2 hG q1038 dX1_work_12 ?_
    cases h
    subst eQ
    exact V_lret hG dX1_work_15
  · have h := if_f c h
    obtain ⟨a3, hr3, h⟩ := bd_of h
    obtain ⟨a4, hr4, h⟩ := bd_of h
    obtain ⟨rs, hc, hl, hr⟩ := btp_of h
    refine V_aload_n hG 0 rfl dX1_work_16 ?_
    refine gf_X1_13 hN hG g1 hr1 dX1_work_17 ?_
    refine gf_X1_40 hN hG g2 hr2 dX1_work_20 ?_
    refine V_iload_n hG 1 rfl dX1_work_23 ?_
    refine W_aaload5 hG g3 g4 hr3 dX1_work_24 ?_
    refine V_aload_n hG 0 rfl dX1_work_25 ?_
    refine gf_X1_46 hN hG g1 hr4 dX1_work_26 ?_
    rcases rs with _ | v
    · have h : some (-9223372036854775808) = some r := hr rfl
      refine pcw_X1 hE hG hN htb (pof_ok hE hN d) hc ⟨Nat.le_refl _, by show 8 + (6 + 11) + 60 * d ≤ 60 * d + 25; omega⟩ (Nat.le_of_ble_eq_true rfl) ⟨Nat.le_refl _, Nat.le_refl _⟩ dX1_work_29 (fun q => ?_)
      refine V_astoreR hG rfl [(2, .ref q), (0, rf E p0), (1, .int p1)] dX1_work_33 (Nat.le_of_ble_eq_true rfl) rfl ?_
      refine V_ldc2 hG q1038 dX1_work_34 ?_
      cases h
      subst eQ
      exact V_lret hG dX1_work_37
    · have h : some v = some r := hl v rfl
      refine po_X1_50 hE hG hN (pof_ok hE hN d) hc ⟨Nat.le_refl _, by show 8 + (6 + 11) + 60 * d ≤ 60 * d + 25; omega⟩ (Nat.le_of_ble_eq_true rfl) ⟨Nat.le_refl _, Nat.le_refl _⟩ dX1_work_29 ?_
      cases h
      subst eQ
      exact V_lret hG dX1_work_32
theorem vw_callVN {p : Program} {l : Launch} {e : Env} {R : Room} {s : State} {m : MethodId} {args : Array Value} {below : List Frame} {meth : Method} {c : Code} {T : State} {locs : List Loc} {cells slots : Nat} {hh : List (Nat × Nat × Nat × Nat)} (X : Stand p l e R s m args below meth c T locs cells slots) (hexec : p.tables.exec = Jvm.exec) {own C : String} {index : Nat} {host : String} {y : MethodName} {bytes : ByteArray} {maxL : Nat} {ret : Option FieldType}
    (hown : s.vm.findClass own = some m.cls) (hlink : (Cond.methodLinkNest own index y host).before args s = true) (hinst : (Cond.instanceMethod y).before args s = true) (hsel : (Cond.selects C y y).before args s = true)
    (hcode : (Cond.codeWith y bytes maxL ret hh).before args s = true) (hy : y.cls ≠ "java/lang/invoke/MethodHandle" ∧ y.cls ≠ "java/lang/invoke/VarHandle")
    {W : Nat} {Pre : Pt → Array Value → Prop} {Post : Pt → Array Value → Option Value → Pt → Prop} (hK : Back l R p e below s args y 3 W Pre Post)
    {b : Addr} {cellB : Cell} (hcell : T.heap[b]? = some cellB) (hobj : cellB.vm.isStatics = false) (hcls : s.vm.findClass C = some cellB.cls)
    {g : JFrame} (hg : g.method = m) (hsize : g.locals.size = c.maxLocals) {argsL rest : List Value} (hlen : ∀ sig, parseMethodDescriptor y.desc = some sig → argsL.length = sig.parameters.length)
    (hstack : g.stack = argsL.reverse ++ .ref b :: rest) (hW : 2 * g.monitorRoom + (rest.map fun v => v.category).sum ≤ W) (hdg : decode c.code g.pc = .ok (.invokevirtual index, 3))
    (hpre : ∀ vm₁, s.WarmedH vm₁ → Pre ⟨T.setVm vm₁, locs, cells, slots⟩ (Value.ref b :: argsL).toArray) :
    ∃ (v : Option Value) (vm₁ : Vm) (B : Pt), s.WarmedH vm₁ ∧ Stand p l e R s m args below meth c B.U B.locs B.cells B.slots ∧ Post ⟨T.setVm vm₁, locs, cells, slots⟩ (Value.ref b :: argsL).toArray v B ∧
      ∀ target, Steps p.tables e below (B.U.setTop { g with pc := g.pc + 3, stack := v.toList ++ rest }) target → Steps p.tables e below (T.setTop g) target := by
  obtain ⟨mk, methM, hnamed, hmethM, hstM, habM⟩ := Cond.instanceMethod_spec hinst
  obtain ⟨m8, methM', cM, hn8, hmethM', -, -, -, -, -, -, hsigM⟩ := Cond.codeWith_spec hcode
  cases Option.some.inj (hn8.symm.trans hnamed)
  cases hmethM.symm.trans hmethM'
  obtain ⟨c2, r2, m2, q1, q2, q3, q4, kP, hkP, hkPi⟩ := Cond.selects_spec hsel
  cases hcls.symm.trans q1
  cases (State.methodFound?_of_named hnamed hy).symm.trans q2
  cases hnamed.symm.trans q3
  have hselP : selectMethod e.platform s.vm cellB.cls mk = .method mk := by rw [Launch.admits_selectMethod X.admits]; exact q4
  obtain ⟨vm₁, X₁, hstep₁⟩ := X.invokevirtualNest hexec hown hlink hnamed hmethM hstM hkP hkPi hy (a := b) (cell := cellB) hcell
    (fun z h => by rw [h] at hobj; cases hobj) hselP hmethM habM hkP hkPi (g := g) hg (argsL := argsL) (rest := rest) (hlen _ hsigM) hstack hdg
  obtain ⟨v, B, X', hpost, hsteps⟩ := hK m meth c ⟨T.setVm vm₁, locs, cells, slots⟩ { g with stack := rest } (.invokevirtual index) mk (Value.ref b :: argsL).toArray X₁ hg hsize hdg hW (X₁.named hnamed) (hpre vm₁ X₁.warmed)
  exact ⟨v, vm₁, B, X₁.warmed, X', hpost, fun target h => hstep₁ _ fun acts => by rw [doInvoke_state]; exact hsteps.trans h⟩
theorem W_callVW {E : En} {G : Ctx} {M M' : Mem} {cells slots nL pc : Nat} {lv : List (Nat × Value)} {st0 : List Value} {Q : State → Prop} {cc : ByteArray} {ret : Option FieldType} {own : String} {rm0 : Room} (hE : EOk E) (hG : Cx E G cc nL ret own rm0) {y : MethodName} {bytes : ByteArray} {maxL n index : Nat} {rt : Option FieldType} {hh : List (Nat × Nat × Nat × Nat)} {rm : Room} {As rest : List Value} {v : Option Value} {a ci N : Nat} {C : String} {T : u_T} (hM : CW E y bytes maxL rt hh rm (rf E a :: As) M v M') (hT : mT M a = ci) (h99 : ci < 98) (hc : vwCl[ci]? = some (C, T, N)) (hW : GoodIn lw_all (wsV own index C y (wsW_ y bytes maxL rt hh))) (hd : y.cls = C ∧ y.cls ≠ "java/lang/invoke/MethodHandle" ∧ y.cls ≠ "java/lang/invoke/VarHandle" ∧ (parseMethodDescriptor y.desc).map (fun d => d.parameters.length) = some n) (hR9 : rm.frames + 1 ≤ rm0.frames ∧ 8 + (maxL + 11) + rm.locals ≤ rm0.locals) (hn : As.length = n) (hst : st0 = As.reverse ++ rf E a :: rest) (hcat : (rest.map fun v => v.category).sum ≤ 8) (hf : cells + rm.cells ≤ rm0.cells ∧ slots + rm.slots ≤ rm0.slots) (d : decode cc pc = .ok (.invokevirtual index, 3)) (k : V E G M' (cells + rm.cells) (slots + rm.slots) nL (pc + 3) lv (v.toList ++ rest) Q) : V E G M cells slots nL pc lv st0 Q := by
  obtain ⟨p, e, R, s, m, args, below, meth, c⟩ := G
  obtain ⟨hx, hb, hml, hown, hts, hr, hlk, hRm, hK, hbs, hKs⟩ := hG
  intro H locs ls hR hS hl
  subst hRm
  obtain ⟨fs, g1, -, -⟩ := hR.obj hT h99
  exact V_after (vx_runVW (As := As) (rest := rest) ⟨hx, hb, hml, hown, hts⟩ hM (vx_cwVW n hts hW rfl rfl rfl hd hR9) ⟨KX.blind hE, va_recv hK (oneP g1) hc (q0 := 0) rfl, fun U hU hW => ⟨rfl, by rw [hU]; exact hR, KX.at hE ⟨hK, hbs, hKs⟩ hS hU hW⟩⟩ rfl hn hl.1 hst (lv_room hcat) d hf) hS hl k
theorem W_callVNW {E : En} {G : Ctx} {M M' : Mem} {cells slots nL pc : Nat} {lv : List (Nat × Value)} {st0 : List Value} {Q : State → Prop} {cc : ByteArray} {ret : Option FieldType} {own : String} {rm0 : Room} (hE : EOk E) (hG : Cx E G cc nL ret own rm0) (hN : NOk E) {y : MethodName} {bytes : ByteArray} {maxL n index : Nat} {rt : Option FieldType} {hh : List (Nat × Nat × Nat × Nat)} {rm : Room} {As rest : List Value} {v : Option Value} {a ci N : Nat} {C : String} {T : u_T} (hM : CW E y bytes maxL rt hh rm (rf E a :: As) M v M') (hT : mT M a = ci) (h99 : ci < 98) (hc : vwCl[ci]? = some (C, T, N)) {host : String} (q1 : Cond.methodLinkNest own index y host ∈ lw_tbl) (q0 : Cond.codeWith y bytes maxL rt hh ∈ lw_all) (q2 : Cond.initialized y.cls ∈ lw_all) (q3 : Cond.instanceMethod y ∈ lw_all) (q4 : Cond.selects C y y ∈ lw_all) (hd : y.cls ≠ "java/lang/invoke/MethodHandle" ∧ y.cls ≠ "java/lang/invoke/VarHandle" ∧ (parseMethodDescriptor y.desc).map (fun d => d.parameters.length) = some n) (hR9 : rm.frames + 1 ≤ rm0.frames ∧ 8 + (maxL + 11) + rm.locals ≤ rm0.locals) (hn : As.length = n) (hst : st0 = As.reverse ++ rf E a :: rest) (hcat : (rest.map fun v => v.category).sum ≤ 8) (hf : cells + rm.cells ≤ rm0.cells ∧ slots + rm.slots ≤ rm0.slots) (d : decode cc pc = .ok (.invokevirtual index, 3)) (k : V E G M' (cells + rm.cells) (slots + rm.slots) nL (pc + 3) lv (v.toList ++ rest) Q) : V E G M cells slots nL pc lv st0 Q := by
  obtain ⟨p, e, R, s, m, args, below, meth, c⟩ := G
  obtain ⟨hx, hb, hml, hown, hts, hr, hlk, hRm, hK, hbs, hKs⟩ := hG
  intro H locs ls hR hS hl
  subst hRm
  obtain ⟨fs, g1, -, -⟩ := hR.obj hT h99
  have hp : PreV s H C (E.2.1 + a) (va_Pc (rf E a :: As) (fun U => Rep E M U.heap ∧ KX E U)) As := ⟨KX.blind hE, va_recv hK (oneP g1) hc (q0 := 0) rfl, fun U hU hW => ⟨rfl, by rw [hU]; exact hR, KX.at hE ⟨hK, hbs, hKs⟩ hS hU hW⟩⟩
  have hK9 : Back E.1 R p e below s args y 3 8 (PreOf R rm.cells rm.slots (va_Pc (rf E a :: As) (fun U => Rep E M U.heap ∧ KX E U))) (PostOf (QX E v M') rm.cells rm.slots (fun q => E.2.1 ≤ q)) := va_backW (hh := hh) (bytes := bytes) (maxL := maxL) (ret := rt) hM hp.1 rfl rfl hR9.1 hR9.2 (pay_in hts (lw_methW q0)) List.mem_cons_self (fun a' U hW => word_at hW (Or.inl (by first | rfl | simp [Cond.onTables, Cond.keeps, Cond.steady])) (hts _ q2))
  have hlen : ∀ sig, parseMethodDescriptor y.desc = some sig → As.length = sig.parameters.length := fun sig h => by
    have h2 := hd.2.2
    rw [h] at h2
    exact hn.trans (Option.some.inj h2).symm
  have hrun : va_Run p E.1 e R s m args below meth c H locs cells slots rm.cells rm.slots (F0 m pc ls st0) rest (QX E v M' (Value.ref (E.2.1 + a) :: As).toArray) (fun q => E.2.1 ≤ q) := by
    obtain ⟨-, ⟨cellB, hcB, hoB, hclB⟩, hPc⟩ := hp
    intro T hT X
    obtain ⟨v, vm₁, ⟨U', l2, c2, s2⟩, hW₁, X', ⟨g', mk, t, L, e1, e2, hq, h1, hL, h2, h3⟩, st⟩ := vw_callVN X hx (C := C) (hh := hh) (bytes := bytes) (maxL := maxL) (ret := rt) hown (va_Nw.use rfl (hN.1 s hKs _ q1 rfl)) (hts _ q3) (hts _ q4) (hts _ q0) ⟨hd.1, hd.2.1⟩ hK9 (by rw [hT]; exact hcB) hoB hclB rfl (hl.1.trans hml.symm) (argsL := As) (rest := rest) hlen hst (lv_room hcat) (by rw [hb]; exact d)
      (fun vm₁ hW₁ => ⟨hf.1, hf.2, hPc (T.setVm vm₁) hT hW₁⟩)
    dsimp only [Pt.U, Pt.locs, Pt.cells, Pt.slots] at X' e1 e2 h1 h2 h3 st
    subst h1; subst h2; subst h3
    exact ⟨v, (T.setVm vm₁).calling g' mk (Value.ref (E.2.1 + a) :: As).toArray, t, U', L, hT, X', hL, e1, e2, hq, st⟩
  exact V_after hrun hS hl k
def f_X1_wk (p0 : Nat) (p1 : Int32) (M : Mem) : Option Int64 := f_X1_work 66 p0 p1 M
def rm_f_X1_wk : Room := rm_f_X1_work 66
theorem ok_f_X1_wk {E : En} (hE : EOk E) (hN : NOk E) {p0 : Nat} {p1 : Int32} {M : Mem} {r : Int64} (h : f_X1_wk p0 p1 M = some r) : CW E yX1_work cX1_work 3 (some .long) [(16, 32, 33, 56)] rm_f_X1_wk [rf E p0, .int p1] M (some (.long r)) M := ok_f_X1_work hE hN h
