set_option maxRecDepth 100000
/-! ===== methods that throw: a result is a value and a memory, or a thrown thing and a memory ===== -/
def XT (E : En) (cl : String) (qa : Addr → Prop) (M' : Mem) : Addr → String → State → State → Prop := fun q Ec st t => Ec = cl ∧ qa q ∧ Rep E M' t.heap ∧ va_F (fun q => E.2.1 ≤ q) st t
def QT (E : En) (G : Ctx) (cl : String) (qa : Addr → Prop) (M' : Mem) (mc ms : Nat) : State → Prop := match G with
  | (p, e, R, s, m, args, below, meth, c) => vx_MQ below (fun _ _ _ _ => False) (XT E cl qa M') args s mc ms (fun q => E.2.1 ≤ q)
def TM (E : En) (y : MethodName) (cc : ByteArray) (nL : Nat) (ret : Option FieldType) (rm : Room) (args : List Value) (M : Mem) (cl : String) (qa : Addr → Prop) (M' : Mem) : Prop :=
  vx_Met E.1 y (ws_ y cc nL ret) rm (va_Pc args (fun U => Rep E M U.heap ∧ KX E U)) (fun _ _ _ _ => False) (XT E cl qa M') rm.cells rm.slots (fun q => E.2.1 ≤ q)
def NoX (G : Ctx) : Prop := ∀ x ∈ G.2.2.2.2.2.2.2.2.exceptionTable.toList, False
/-- a family of thrown things: the class's name, where the thing lies -/
abbrev Fam : Type := String × (En → Nat → Addr → Prop)
def faF : Fam := ("TroughTreaty$Fault", fun E q a => a = E.2.1 + q)
def faT : Fam := ("TroughTreaty$Trouble", fun _ _ _ => True)
abbrev Rs : Type := (Option Value × Mem) ⊕ (Nat × Mem)
def QR (E : En) (G : Ctx) (fa : Fam) (res : Rs) (mc ms : Nat) : State → Prop := match res with
  | .inl (v, M') => QM E G v M' mc ms
  | .inr (q, M') => QT E G fa.1 (fa.2 E q) M' mc ms
def RM (E : En) (fa : Fam) (y : MethodName) (cc : ByteArray) (nL : Nat) (ret : Option FieldType) (rm : Room) (args : List Value) (M : Mem) (res : Rs) : Prop := match res with
  | .inl (v, M') => CM E y cc nL ret rm args M v M'
  | .inr (q, M') => TM E y cc nL ret rm args M fa.1 (fa.2 E q) M'
def NoXr (G : Ctx) (res : Rs) : Prop := match res with
  | .inl _ => True
  | .inr _ => NoX G
theorem RM_intro {E : En} {fa : Fam} {y : MethodName} {cc : ByteArray} {nL : Nat} {ret : Option FieldType} {rm : Room} {args : List Value} {M : Mem} {res : Rs} {own : String} (ho : y.cls = own) (hy : plainName y.cls = true) (hlen : (lg_sl args).length ≤ nL) {lv : List (Nat × Value)} (hlv : lv_args 0 args = lv)
    (body : ∀ G : Ctx, Cx E G cc nL ret own rm → NoXr G res → V E G M 0 0 nL 0 lv [] (QR E G fa res rm.cells rm.slots)) : RM E fa y cc nL ret rm args M res := by
  match res, body with
  | .inl (v, M'), body => exact CM_intro ho hy hlen hlv (fun G hG => body G hG trivial)
  | .inr (q, M'), body =>
    refine vx_ofW (cc := cc) (maxL := nL) (ret := ret) hy rfl ?_
    intro p e s m args' below meth c s₁ B hml hX hv
    obtain ⟨rfl, hR, hK⟩ := hv
    have hts := atoms_spec (ws := ws_ y cc nL ret) B.pre
    have hts : ∀ w ∈ lw_all, w.before _ s = true := fun w h => hts w (List.mem_cons_of_mem _ h)
    have hown : s.vm.findClass y.cls = some m.cls := findClass_of_methodNamed B.named
    have hl := lv_entry args (n := nL) hlen
    rw [lg_entry_eq]
    rw [hlv] at hl
    exact body (p, e, rm, s, m, args.toArray, below, meth, c) ⟨B.exec, B.bytes, hml, by rw [← ho]; exact hown, hts, B.returns, B.notSynchronized, rfl, hK⟩ hX s.heap [] _ hR va_S.rf hl
theorem CM_introF {E : En} {y : MethodName} {cc : ByteArray} {nL : Nat} {ret : Option FieldType} {rm : Room} {args : List Value} {M M' : Mem} {v : Option Value} {own : String} (ho : y.cls = own) (hy : plainFor y = true) (hlen : (lg_sl args).length ≤ nL) {lv : List (Nat × Value)} (hlv : lv_args 0 args = lv)
    (body : ∀ G : Ctx, Cx E G cc nL ret own rm → V E G M 0 0 nL 0 lv [] (QM E G v M' rm.cells rm.slots)) : CM E y cc nL ret rm args M v M' := by
  refine va_MetF (cc := cc) (maxL := nL) (ret := ret) hy rfl ?_
  intro p e s m args' below meth c s₁ B hml hv
  obtain ⟨rfl, hR, hK⟩ := hv
  have hts := atoms_spec (ws := ws_ y cc nL ret) B.pre
  have hts : ∀ w ∈ lw_all, w.before _ s = true := fun w h => hts w (List.mem_cons_of_mem _ h)
  have hown : s.vm.findClass y.cls = some m.cls := findClass_of_methodNamed B.named
  have hl := lv_entry args (n := nL) hlen
  rw [lg_entry_eq]
  rw [hlv] at hl
  exact body (p, e, rm, s, m, args.toArray, below, meth, c) ⟨B.exec, B.bytes, hml, by rw [← ho]; exact hown, hts, B.returns, B.notSynchronized, rfl, hK⟩ s.heap [] _ hR va_S.rf hl
section VT
variable {E : En} {G : Ctx} {M M' : Mem} {cells slots nL pc : Nat} {lv lv' : List (Nat × Value)} {st st0 : List Value} {Q : State → Prop} {cc : ByteArray} {ret : Option FieldType} {own : String} {rm0 : Room} {cl : String} {qa : Addr → Prop}
/-- behind a call that throws, in a method without handlers -/
theorem V_out {p : Program} {e : Env} {R : Room} {s : State} {m : MethodId} {args : Array Value} {below : List Frame} {meth : Method} {c : Code} {H : Heap} {locs : List Loc} {ls : Array Slot} {mc ms mc0 ms0 : Nat} {rest : List Value} (hr : vx_Run p E.1 e R s m args below meth c H locs cells slots mc ms (F0 m pc ls st0) rest (fun _ _ _ => False) (XT E cl qa M') (fun q => E.2.1 ≤ q)) (hS : va_S (fun q => E.2.1 ≤ q) s.heap H locs) (hX : ∀ x ∈ c.exceptionTable.toList, False) (hlk : meth.locks = false) (h1 : cells + mc ≤ mc0) (h2 : slots + ms ≤ ms0) : W p E.1 e R s m args below meth c H locs cells slots (vx_MQ below (fun _ _ _ _ => False) (XT E cl qa M') args s mc0 ms0 (fun q => E.2.1 ≤ q)) (F0 m pc ls st0) := by
  intro T hT X
  rcases hr T hT X with ⟨v, st₀, t, T', L, h0, X', hL, e1, e2, hf, st⟩ | ⟨q, st₀, t, T', L, Ec, ce, h0, X', hL, e1, e2, ⟨g1, g2, g3, g4, g5⟩, hce, hcv, hcl, st⟩
  · exact hf.elim
  · rw [h0] at g4 g5
    have hS2 : va_S (fun q => E.2.1 ≤ q) s.heap T'.heap (locs ++ L) := ⟨Nat.le_trans hS.1 (by rw [e1]; exact g4), fun q h1 h2 => by rw [e1, g5 q (Nat.lt_of_lt_of_le h1 hS.1) h2]; exact hS.2.1 q h1 h2, fun q hq => by
      rcases List.mem_append.mp hq with h | h
      · exact hS.2.2 q h
      · exact hL q h⟩
    have kx : vx_W p E.1 e R s m args below meth c T'.heap (locs ++ L) (cells + mc) (slots + ms) (vx_MQ below (fun _ _ _ _ => False) (XT E cl qa M') args s mc0 ms0 (fun q => E.2.1 ≤ q)) (F0 m pc ls rest) q := by
      refine vx_out (E := Ec) (ce := ce) (fun x hx => (hX x hx).elim) hlk (by rw [e1]; exact hce) hcv hcl (fun u hu hA => ⟨g1, g2, by rw [hu, e1]; exact g3, hS2.F hu⟩) hS2.2.2 h1 h2
    obtain ⟨t2, a1, b1⟩ := kx T' rfl X'
    exact ⟨t2, st.trans a1, b1⟩
theorem T_callV (hE : EOk E) (hG : Cx E G cc nL ret own rm0) {y : MethodName} {bytes : ByteArray} {maxL n index : Nat} {rt : Option FieldType} {rm : Room} {As rest : List Value} {a ci N : Nat} {C : String} {T : u_T} (hM : TM E y bytes maxL rt rm (rf E a :: As) M cl qa M') (hT : mT M a = ci) (h99 : ci < 98) (hc : vwCl[ci]? = some (C, T, N)) (hW : GoodIn lw_all (wsV own index C y (ws_ y bytes maxL rt))) (hd : y.cls = C ∧ y.cls ≠ "java/lang/invoke/MethodHandle" ∧ y.cls ≠ "java/lang/invoke/VarHandle" ∧ (parseMethodDescriptor y.desc).map (fun d => d.parameters.length) = some n) (hR9 : rm.frames + 1 ≤ rm0.frames ∧ 8 + (maxL + 11) + rm.locals ≤ rm0.locals) (hn : As.length = n) (hst : st0 = As.reverse ++ rf E a :: rest) (hcat : (rest.map fun v => v.category).sum ≤ 8) (hf : cells + rm.cells ≤ rm0.cells ∧ slots + rm.slots ≤ rm0.slots) (d : decode cc pc = .ok (.invokevirtual index, 3)) (hX : NoX G) : V E G M cells slots nL pc lv st0 (QT E G cl qa M' rm0.cells rm0.slots) := by
  obtain ⟨p, e, R, s, m, args, below, meth, c⟩ := G
  obtain ⟨hx, hb, hml, hown, hts, hr, hlk, hRm, hK, hbs, hKs⟩ := hG
  intro H locs ls hR hS hl
  subst hRm
  obtain ⟨fs, g1, -, -⟩ := hR.obj hT h99
  exact V_out (vx_runV (As := As) (rest := rest) ⟨hx, hb, hml, hown, hts⟩ hM (cwV n hts hW rfl rfl rfl hd hR9) ⟨KX.blind hE, va_recv hK (oneP g1) hc (q0 := 0) rfl, fun U hU hW => ⟨rfl, by rw [hU]; exact hR, KX.at hE ⟨hK, hbs, hKs⟩ hS hU hW⟩⟩ rfl hn hl.1 hst (lv_room hcat) d hf) hS hX hlk hf.1 hf.2
theorem T_callS (hE : EOk E) (hG : Cx E G cc nL ret own rm0) {y : MethodName} {bytes : ByteArray} {maxL n index : Nat} {rt : Option FieldType} {rm : Room} {As rest : List Value} (hM : TM E y bytes maxL rt rm As M cl qa M') (hW : GoodIn lw_all (va_wsS own index y (ws_ y bytes maxL rt))) (hd : y.cls ≠ "java/lang/invoke/MethodHandle" ∧ y.cls ≠ "java/lang/invoke/VarHandle" ∧ (parseMethodDescriptor y.desc).map (fun d => d.parameters.length) = some n) (hR9 : rm.frames + 1 ≤ rm0.frames ∧ 8 + (maxL + 11) + rm.locals ≤ rm0.locals) (hn : As.length = n) (hst : st0 = As.reverse ++ rest) (hcat : (rest.map fun v => v.category).sum ≤ 8) (hf : cells + rm.cells ≤ rm0.cells ∧ slots + rm.slots ≤ rm0.slots) (d : decode cc pc = .ok (.invokestatic index, 3)) (hX : NoX G) : V E G M cells slots nL pc lv st0 (QT E G cl qa M' rm0.cells rm0.slots) := by
  obtain ⟨p, e, R, s, m, args, below, meth, c⟩ := G
  obtain ⟨hx, hb, hml, hown, hts, hr, hlk, hRm, hK, hbs, hKs⟩ := hG
  intro H locs ls hR hS hl
  subst hRm
  exact V_out (vx_runS (As := As) (rest := rest) ⟨hx, hb, hml, hown, hts⟩ hM (va_cwS n hts hW rfl rfl rfl hd hR9) ⟨KX.blind hE, fun U hU hW => ⟨rfl, by rw [hU]; exact hR, KX.at hE ⟨hK, hbs, hKs⟩ hS hU hW⟩⟩ rfl hn hl.1 hst (lv_room hcat) d hf) hS hX hlk hf.1 hf.2
theorem T_callSN (hE : EOk E) (hG : Cx E G cc nL ret own rm0) (hN : NOk E) {y : MethodName} {bytes : ByteArray} {maxL n index : Nat} {rt : Option FieldType} {rm : Room} {As rest : List Value} (hM : TM E y bytes maxL rt rm As M cl qa M') {host : String} (q1 : Cond.methodLinkNest own index y host ∈ lw_tbl) (hW : GoodIn lw_all (ws_ y bytes maxL rt)) (q2 : Cond.initialized y.cls ∈ lw_all) (q3 : Cond.static y ∈ lw_all) (hd : y.cls ≠ "java/lang/invoke/MethodHandle" ∧ y.cls ≠ "java/lang/invoke/VarHandle" ∧ (parseMethodDescriptor y.desc).map (fun d => d.parameters.length) = some n) (hR9 : rm.frames + 1 ≤ rm0.frames ∧ 8 + (maxL + 11) + rm.locals ≤ rm0.locals) (hn : As.length = n) (hst : st0 = As.reverse ++ rest) (hcat : (rest.map fun v => v.category).sum ≤ 8) (hf : cells + rm.cells ≤ rm0.cells ∧ slots + rm.slots ≤ rm0.slots) (d : decode cc pc = .ok (.invokestatic index, 3)) (hX : NoX G) : V E G M cells slots nL pc lv st0 (QT E G cl qa M' rm0.cells rm0.slots) := by
  obtain ⟨p, e, R, s, m, args, below, meth, c⟩ := G
  obtain ⟨hx, hb, hml, hown, hts, hr, hlk, hRm, hK, hbs, hKs⟩ := hG
  intro H locs ls hR hS hl
  subst hRm
  exact V_out (vx_runSN (As := As) (rest := rest) ⟨hx, hb, hml, hown, hts⟩ hM ⟨va_cnB n hts hW rfl rfl rfl (hN.1 s hKs _ q1 rfl) (hts _ q2) hd hR9, hts _ q3, trivial⟩ ⟨KX.blind hE, fun U hU hW => ⟨rfl, by rw [hU]; exact hR, KX.at hE ⟨hK, hbs, hKs⟩ hS hU hW⟩⟩ rfl hn hl.1 hst (lv_room hcat) d hf) hS hX hlk hf.1 hf.2
theorem T_callU (hE : EOk E) (hG : Cx E G cc nL ret own rm0) {y : MethodName} {bytes : ByteArray} {maxL n index : Nat} {rt : Option FieldType} {rm : Room} {As rest : List Value} {a ci N : Nat} {C : String} {T : u_T} (hM : TM E y bytes maxL rt rm (rf E a :: As) M cl qa M') (hT : mT M a = ci) (h99 : ci < 98) (hc : vwCl[ci]? = some (C, T, N)) {x : MethodName} {owner : String} (cw : ∀ (R : Room) (s : State) (args : Array Value), (∀ w ∈ lw_all, w.before args s = true) → E.2.2.2.2 s → R = rm0 → va_CU R s args own C owner index x y bytes maxL rt (ws_ y bytes maxL rt) rm rm.cells rm.slots n) (hn : As.length = n) (hst : st0 = As.reverse ++ rf E a :: rest) (hcat : (rest.map fun v => v.category).sum ≤ 8) (hf : cells + rm.cells ≤ rm0.cells ∧ slots + rm.slots ≤ rm0.slots) (d : decode cc pc = .ok (.invokevirtual index, 3)) (hX : NoX G) : V E G M cells slots nL pc lv st0 (QT E G cl qa M' rm0.cells rm0.slots) := by
  obtain ⟨p, e, R, s, m, args, below, meth, c⟩ := G
  obtain ⟨hx, hb, hml, hown, hts, hr, hlk, hRm, hK, hbs, hKs⟩ := hG
  intro H locs ls hR hS hl
  obtain ⟨fs, g1, -, -⟩ := hR.obj hT h99
  exact V_out (vx_runU (As := As) (rest := rest) ⟨hx, hb, hml, hown, hts⟩ hM (cw R s args hts hKs hRm) ⟨KX.blind hE, va_recv hK (oneP g1) hc (q0 := 0) rfl, fun U hU hW => ⟨rfl, by rw [hU]; exact hR, KX.at hE ⟨hK, hbs, hKs⟩ hS hU hW⟩⟩ rfl hn hl.1 hst (lv_room hcat) d (by rw [hRm]; exact hf)) hS hX hlk hf.1 hf.2
theorem T_athrow (hG : Cx E G cc nL ret own rm0) {q ci N : Nat} {C : String} {T : u_T} (hT : mT M q = ci) (h99 : ci < 98) (hc : vwCl[ci]? = some (C, T, N)) (hcl : C = cl) (hq : qa (E.2.1 + q)) (hcs : cells ≤ rm0.cells ∧ slots ≤ rm0.slots) (d : decode cc pc = .ok (.athrow, 1)) (hX : NoX G) : V E G M cells slots nL pc lv (rf E q :: st) (QT E G cl qa M rm0.cells rm0.slots) := by
  obtain ⟨p, e, R, s, m, args, below, meth, c⟩ := G
  obtain ⟨hx, hb, hml, hown, hts, hr, hlk, hRm, hK, hbs, hKs⟩ := hG
  intro H locs ls hR hS hl
  subst hcl
  obtain ⟨fs, g1, -, -⟩ := hR.obj hT h99
  obtain ⟨r9, h9, cell, q1, q2, q3, -⟩ := g1
  exact vx_athrow hx hb d (vx_out (E := C) (ce := cell) (fun x hx => (hX x hx).elim) hlk q1 q3 (by rw [q2]; exact (hK.1 ci _ hc).2.1) (fun u hu hA => ⟨rfl, hq, by rw [hu]; exact hR, hS.F hu⟩) hS.2.2 hcs.1 hcs.2)
theorem T_trouble (hG : Cx E G cc nL ret own rm0) (hN : NOk E) {idx : Nat} (q : Cond.fieldLink own idx "TroughTreaty" "TROUBLE" "LTroughTreaty$Trouble;" ∈ lw_all) (hcs : cells ≤ rm0.cells ∧ slots ≤ rm0.slots) (d1 : decode cc pc = .ok (.getstatic idx, 3)) (d2 : decode cc (pc + 3) = .ok (.athrow, 1)) (hX : NoX G) : V E G M cells slots nL pc lv st (QT E G faT.1 (faT.2 E 0) M rm0.cells rm0.slots) := by
  obtain ⟨p, e, R, s, m, args, below, meth, c⟩ := G
  obtain ⟨hx, hb, hml, hown, hts, hr, hlk, hRm, hK, hbs, hKs⟩ := hG
  intro H locs ls hR hS hl
  obtain ⟨x, cell, hZ, hc1, hc2, hc3, hlt⟩ := hN.2.1 s hKs
  refine va_gets hx hb hZ hS hown (hts _ q) (fun _ h => h) d1 ?_
  have hcell : H[x]? = some cell := by rw [hS.2.1 x (Array.getElem?_eq_some_iff.mp hc1).1 (by show ¬ E.2.1 ≤ x; omega)]; exact hc1
  exact vx_athrow hx hb d2 (vx_out (E := "TroughTreaty$Trouble") (ce := cell) (fun x hx => (hX x hx).elim) hlk hcell hc2 hc3 (fun u hu hA => ⟨rfl, trivial, by rw [hu]; exact hR, hS.F hu⟩) hS.2.2 hcs.1 hcs.2)
theorem T_troubleN (hG : Cx E G cc nL ret own rm0) (hN : NOk E) {idx : Nat} {host : String} (q : Cond.fieldLinkNest own idx "TroughTreaty" "TROUBLE" "LTroughTreaty$Trouble;" host ∈ lw_tbl) (hcs : cells ≤ rm0.cells ∧ slots ≤ rm0.slots) (d1 : decode cc pc = .ok (.getstatic idx, 3)) (d2 : decode cc (pc + 3) = .ok (.athrow, 1)) (hX : NoX G) : V E G M cells slots nL pc lv st (QT E G faT.1 (faT.2 E 0) M rm0.cells rm0.slots) := by
  obtain ⟨p, e, R, s, m, args, below, meth, c⟩ := G
  obtain ⟨hx, hb, hml, hown, hts, hr, hlk, hRm, hK, hbs, hKs⟩ := hG
  intro H locs ls hR hS hl
  obtain ⟨x, cell, hZ, hc1, hc2, hc3, hlt⟩ := hN.2.1 s hKs
  refine va_getsN hx hb hZ hS hown (va_Nw.use rfl (hN.1 s hKs _ q rfl)) (fun _ h => h) d1 ?_
  have hcell : H[x]? = some cell := by rw [hS.2.1 x (Array.getElem?_eq_some_iff.mp hc1).1 (by show ¬ E.2.1 ≤ x; omega)]; exact hc1
  exact vx_athrow hx hb d2 (vx_out (E := "TroughTreaty$Trouble") (ce := cell) (fun x hx => (hX x hx).elim) hlk hcell hc2 hc3 (fun u hu hA => ⟨rfl, trivial, by rw [hu]; exact hR, hS.F hu⟩) hS.2.2 hcs.1 hcs.2)
end VT
