set_option maxRecDepth 100000
def bt {α ρ β : Type} (x : Option ((α × Mem) ⊕ ρ × Mem)) (f : α → Mem → Option β) (k : ρ → Mem → Option β) : Option β := match x with
  | none => none
  | some (.inl (a, M)) => f a M
  | some (.inr (q, M)) => k q M
def btv {ρ β : Type} (x : Option (Mem ⊕ ρ × Mem)) (f : Mem → Option β) (k : ρ → Mem → Option β) : Option β := match x with
  | none => none
  | some (.inl M) => f M
  | some (.inr (q, M)) => k q M
theorem bt_of {α ρ β : Type} {x : Option ((α × Mem) ⊕ ρ × Mem)} {f : α → Mem → Option β} {k : ρ → Mem → Option β} {r : β} (h : bt x f k = some r) : ∃ y, x = some y ∧ (∀ a M, y = .inl (a, M) → f a M = some r) ∧ ∀ q M, y = .inr (q, M) → k q M = some r := by
  cases x with
  | none => cases h
  | some y => exact ⟨y, rfl, fun a M e => by subst e; exact h, fun q M e => by subst e; exact h⟩
theorem btv_of {ρ β : Type} {x : Option (Mem ⊕ ρ × Mem)} {f : Mem → Option β} {k : ρ → Mem → Option β} {r : β} (h : btv x f k = some r) : ∃ y, x = some y ∧ (∀ M, y = .inl M → f M = some r) ∧ ∀ q M, y = .inr (q, M) → k q M = some r := by
  cases x with
  | none => cases h
  | some y => exact ⟨y, rfl, fun M e => by subst e; exact h, fun q M e => by subst e; exact h⟩
def rsI (r : (Int32 × Mem) ⊕ (Nat × Mem)) : Rs := match r with
  | .inl (v, M) => .inl (some (.int v), M)
  | .inr x => .inr x
def rsL (r : (Int64 × Mem) ⊕ (Nat × Mem)) : Rs := match r with
  | .inl (v, M) => .inl (some (.long v), M)
  | .inr x => .inr x
def rsA (E : En) (r : (Nat × Mem) ⊕ (Nat × Mem)) : Rs := match r with
  | .inl (v, M) => .inl (some (rf E v), M)
  | .inr x => .inr x
def rsV (r : Mem ⊕ (Nat × Mem)) : Rs := match r with
  | .inl M => .inl (none, M)
  | .inr x => .inr x
theorem CM_introX {E : En} {y : MethodName} {cc : ByteArray} {nL : Nat} {ret : Option FieldType} {rm : Room} {args : List Value} {M M' : Mem} {v : Option Value} {own : String} (ho : y.cls = own) (hy : plainFor y = true) (hlen : (lg_sl args).length ≤ nL) {lv : List (Nat × Value)} (hlv : lv_args 0 args = lv)
    (body : ∀ G : Ctx, Cx E G cc nL ret own rm → Ent E G M → (y.name = "<init>" → IsInit G) → V E G M 0 0 nL 0 lv [] (QM E G v M' rm.cells rm.slots)) : CM E y cc nL ret rm args M v M' := by
  refine va_MetF (cc := cc) (maxL := nL) (ret := ret) hy rfl ?_
  intro p e s m args' below meth c s₁ B hml hv
  obtain ⟨rfl, hR, hK⟩ := hv
  have hts := atoms_spec (ws := ws_ y cc nL ret) B.pre
  have hts : ∀ w ∈ lw_all, w.before _ s = true := fun w h => hts w (List.mem_cons_of_mem _ h)
  have hown : s.vm.findClass y.cls = some m.cls := findClass_of_methodNamed B.named
  have hl := lv_entry args (n := nL) hlen
  rw [lg_entry_eq]
  rw [hlv] at hl
  exact body (p, e, rm, s, m, args.toArray, below, meth, c) ⟨B.exec, B.bytes, hml, by rw [← ho]; exact hown, hts, B.returns, B.notSynchronized, rfl, hK⟩ hR (fun hi => by show meth.name = "<init>"; rw [(name_of_methodNamed B.named B.method).1]; exact hi) s.heap [] _ hR va_S.rf hl
theorem RM_introX {E : En} {fa : Fam} {y : MethodName} {cc : ByteArray} {nL : Nat} {ret : Option FieldType} {rm : Room} {args : List Value} {M : Mem} {res : Rs} {own : String} (ho : y.cls = own) (hy : plainName y.cls = true) (hlen : (lg_sl args).length ≤ nL) {lv : List (Nat × Value)} (hlv : lv_args 0 args = lv)
    (body : ∀ G : Ctx, Cx E G cc nL ret own rm → Ent E G M → (y.name = "<init>" → IsInit G) → NoXr G res → V E G M 0 0 nL 0 lv [] (QR E G fa res rm.cells rm.slots)) : RM E fa y cc nL ret rm args M res := by
  match res, body with
  | .inl (v, M'), body =>
    refine Met.ofW (cc := cc) (maxL := nL) (ret := ret) hy rfl ?_
    intro p e s m args' below meth c s₁ B hml hv
    obtain ⟨rfl, hR, hK⟩ := hv
    have hts := atoms_spec (ws := ws_ y cc nL ret) B.pre
    have hts : ∀ w ∈ lw_all, w.before _ s = true := fun w h => hts w (List.mem_cons_of_mem _ h)
    have hown : s.vm.findClass y.cls = some m.cls := findClass_of_methodNamed B.named
    have hl := lv_entry args (n := nL) hlen
    rw [lg_entry_eq]
    rw [hlv] at hl
    exact body (p, e, rm, s, m, args.toArray, below, meth, c) ⟨B.exec, B.bytes, hml, by rw [← ho]; exact hown, hts, B.returns, B.notSynchronized, rfl, hK⟩ hR (fun hi => by show meth.name = "<init>"; rw [(name_of_methodNamed B.named B.method).1]; exact hi) trivial s.heap [] _ hR va_S.rf hl
  | .inr (q, M'), body =>
    refine vx_ofW (cc := cc) (maxL := nL) (ret := ret) hy rfl ?_
    intro p e s m args' below meth c s₁ B hml hX hv
    obtain ⟨rfl, hR, hK⟩ := hv
    have hts := atoms_spec (ws := ws_ y cc nL ret) B.pre
    have hts : ∀ w ∈ lw_all, w.before _ s = true := fun w h => hts w (List.mem_cons_of_mem _ h)
    have hown : s.vm.findClass y.cls = some m.cls := findClass_of_methodNamed B.named
    have hl := lv_entry args (n := nL) hlen
    rw [lg_entry_eq]
    rw [hlv] at hl
    exact body (p, e, rm, s, m, args.toArray, below, meth, c) ⟨B.exec, B.bytes, hml, by rw [← ho]; exact hown, hts, B.returns, B.notSynchronized, rfl, hK⟩ hR (fun hi => by show meth.name = "<init>"; rw [(name_of_methodNamed B.named B.method).1]; exact hi) hX s.heap [] _ hR va_S.rf hl
section VM
variable {E : En} {G : Ctx} {M M1 Me : Mem} {cells slots nL pc : Nat} {lv lv' : List (Nat × Value)} {st st0 : List Value} {Q : State → Prop} {cc : ByteArray} {ret : Option FieldType} {own : String} {rm0 : Room}
theorem V_topa {x y : Nat} (e : y = x) (k : V E G M cells slots nL pc lv (rf E y :: st) Q) : V E G M cells slots nL pc lv (rf E x :: st) Q := e ▸ k
theorem V_ldcw (hG : Cx E G cc nL ret own rm0) {i : Nat} {v : Int32} (q : Cond.constant own i v ∈ lw_all) (d : decode cc pc = .ok (.ldc_w i, 3)) (k : V E G M cells slots nL (pc + 3) lv (.int v :: st) Q) : V E G M cells slots nL pc lv st Q := by
  obtain ⟨p, e, R, s, m, args, below, meth, c⟩ := G
  obtain ⟨hx, hb, hml, hown, hts, hr, hlk, hRm, hK, hbs, hKs⟩ := hG
  intro H locs ls hR hS hl
  exact lv_ldcw hx hb hown (hts _ q) d (k H locs ls hR hS hl)
theorem V_zero {rm : Room} (h0 : rm.cells = 0) (h1 : rm.slots = 0) (k : V E G M cells slots nL pc lv st Q) : V E G M (cells + rm.cells) (slots + rm.slots) nL pc lv st Q := by
  rw [h0, h1]
  exact k
theorem V_iushr (hG : Cx E G cc nL ret own rm0) {x y : Int32} (d : decode cc pc = .ok (.iushr, 1)) (k : V E G M cells slots nL (pc + 1) lv (.int (x.toUInt32 >>> (y.toUInt32 &&& Int32.toUInt32 31)).toInt32 :: st) Q) : V E G M cells slots nL pc lv (.int y :: .int x :: st) Q := by
  obtain ⟨p, e, R, s, m, args, below, meth, c⟩ := G
  obtain ⟨hx, hb, hml, hown, hts, hr, hlk, hRm, hK, hbs, hKs⟩ := hG
  intro H locs ls hR hS hl
  exact lv_iushr hx hb d rfl (k H locs ls hR hS hl)
theorem A_newa0 (hG : Cx E G cc nL ret own rm0) (hEn : Ent E G Me) {LC LZ : Nat} (hrc : rm0.cells = LC - mN Me) (hrs : rm0.slots = LZ - mZ Me) {n : Int32} (hn : ¬ n < 0 ∧ n.toNatClampNeg ≤ 60000) (hM1 : M1 = nw M 100 n.toNatClampNeg) (hg : mN M + 1 ≤ LC ∧ mZ M + n.toNatClampNeg ≤ LZ) (d : decode cc pc = .ok (.newarray .int, 2)) (kk : V E G M1 (mN M1 - mN Me) (mZ M1 - mZ Me) nL (pc + 2) lv (rf E (mN M) :: st) Q) : V E G M cells slots nL pc lv (.int n :: st) Q := by
  subst hM1
  refine V_narrow hEn (fun h1 h2 h3 => ?_)
  exact V_newa0 hG q384 hn.1 rfl hn.2 (by rw [hrc]; omega) (by rw [hrs]; omega) d (V_narrow hEn (fun _ _ _ => kk))
theorem A_newa1 (hG : Cx E G cc nL ret own rm0) (hEn : Ent E G Me) {LC LZ : Nat} (hrc : rm0.cells = LC - mN Me) (hrs : rm0.slots = LZ - mZ Me) {n : Int32} (hn : ¬ n < 0 ∧ n.toNatClampNeg ≤ 60000) (hM1 : M1 = nw M 101 n.toNatClampNeg) (hg : mN M + 1 ≤ LC ∧ mZ M + n.toNatClampNeg ≤ LZ) (d : decode cc pc = .ok (.newarray .byte, 2)) (kk : V E G M1 (mN M1 - mN Me) (mZ M1 - mZ Me) nL (pc + 2) lv (rf E (mN M) :: st) Q) : V E G M cells slots nL pc lv (.int n :: st) Q := by
  subst hM1
  refine V_narrow hEn (fun h1 h2 h3 => ?_)
  exact V_newa1 hG q206 hn.1 rfl hn.2 (by rw [hrc]; omega) (by rw [hrs]; omega) d (V_narrow hEn (fun _ _ _ => kk))
theorem A_newa2 (hG : Cx E G cc nL ret own rm0) (hEn : Ent E G Me) {LC LZ : Nat} (hrc : rm0.cells = LC - mN Me) (hrs : rm0.slots = LZ - mZ Me) {n : Int32} (hn : ¬ n < 0 ∧ n.toNatClampNeg ≤ 60000) (hM1 : M1 = nw M 102 n.toNatClampNeg) (hg : mN M + 1 ≤ LC ∧ mZ M + n.toNatClampNeg ≤ LZ) (d : decode cc pc = .ok (.newarray .boolean, 2)) (kk : V E G M1 (mN M1 - mN Me) (mZ M1 - mZ Me) nL (pc + 2) lv (rf E (mN M) :: st) Q) : V E G M cells slots nL pc lv (.int n :: st) Q := by
  subst hM1
  refine V_narrow hEn (fun h1 h2 h3 => ?_)
  exact V_newa2 hG q490 hn.1 rfl hn.2 (by rw [hrc]; omega) (by rw [hrs]; omega) d (V_narrow hEn (fun _ _ _ => kk))
theorem A_newa3 (hG : Cx E G cc nL ret own rm0) (hEn : Ent E G Me) {LC LZ : Nat} (hrc : rm0.cells = LC - mN Me) (hrs : rm0.slots = LZ - mZ Me) {n : Int32} (hn : ¬ n < 0 ∧ n.toNatClampNeg ≤ 60000) (hM1 : M1 = nw M 103 n.toNatClampNeg) (hg : mN M + 1 ≤ LC ∧ mZ M + n.toNatClampNeg ≤ LZ) (d : decode cc pc = .ok (.newarray .long, 2)) (kk : V E G M1 (mN M1 - mN Me) (mZ M1 - mZ Me) nL (pc + 2) lv (rf E (mN M) :: st) Q) : V E G M cells slots nL pc lv (.int n :: st) Q := by
  subst hM1
  refine V_narrow hEn (fun h1 h2 h3 => ?_)
  exact V_newa3 hG q304 hn.1 rfl hn.2 (by rw [hrc]; omega) (by rw [hrs]; omega) d (V_narrow hEn (fun _ _ _ => kk))
theorem A_anew4 (hG : Cx E G cc nL ret own rm0) (hN : NOk E) (hEn : Ent E G Me) {LC LZ : Nat} (hrc : rm0.cells = LC - mN Me) (hrs : rm0.slots = LZ - mZ Me) {idx : Nat} (q1 : Cond.classLink own idx "java/lang/Object" ∈ lw_all) {n : Int32} (hn : ¬ n < 0 ∧ n.toNatClampNeg ≤ 60000) (hM1 : M1 = nw M 104 n.toNatClampNeg) (hg : mN M + 1 ≤ LC ∧ mZ M + n.toNatClampNeg ≤ LZ) (d : decode cc pc = .ok (.anewarray idx, 3)) (kk : V E G M1 (mN M1 - mN Me) (mZ M1 - mZ Me) nL (pc + 3) lv (rf E (mN M) :: st) Q) : V E G M cells slots nL pc lv (.int n :: st) Q := by
  subst hM1
  refine V_narrow hEn (fun h1 h2 h3 => ?_)
  exact W_anew4 hG hN q1 q226 hn.1 rfl hn.2 (by rw [hrc]; omega) (by rw [hrs]; omega) d (V_narrow hEn (fun _ _ _ => kk))
theorem A_anew5 (hG : Cx E G cc nL ret own rm0) (hN : NOk E) (hEn : Ent E G Me) {LC LZ : Nat} (hrc : rm0.cells = LC - mN Me) (hrs : rm0.slots = LZ - mZ Me) {idx : Nat} (q1 : Cond.classLink own idx "TroughTreaty$Part" ∈ lw_all) {n : Int32} (hn : ¬ n < 0 ∧ n.toNatClampNeg ≤ 60000) (hM1 : M1 = nw M 105 n.toNatClampNeg) (hg : mN M + 1 ≤ LC ∧ mZ M + n.toNatClampNeg ≤ LZ) (d : decode cc pc = .ok (.anewarray idx, 3)) (kk : V E G M1 (mN M1 - mN Me) (mZ M1 - mZ Me) nL (pc + 3) lv (rf E (mN M) :: st) Q) : V E G M cells slots nL pc lv (.int n :: st) Q := by
  subst hM1
  refine V_narrow hEn (fun h1 h2 h3 => ?_)
  exact W_anew5 hG hN q1 q242 hn.1 rfl hn.2 (by rw [hrc]; omega) (by rw [hrs]; omega) d (V_narrow hEn (fun _ _ _ => kk))
theorem A_anew6 (hG : Cx E G cc nL ret own rm0) (hN : NOk E) (hEn : Ent E G Me) {LC LZ : Nat} (hrc : rm0.cells = LC - mN Me) (hrs : rm0.slots = LZ - mZ Me) {idx : Nat} (q1 : Cond.classLink own idx "TroughTreaty$State" ∈ lw_all) {n : Int32} (hn : ¬ n < 0 ∧ n.toNatClampNeg ≤ 60000) (hM1 : M1 = nw M 106 n.toNatClampNeg) (hg : mN M + 1 ≤ LC ∧ mZ M + n.toNatClampNeg ≤ LZ) (d : decode cc pc = .ok (.anewarray idx, 3)) (kk : V E G M1 (mN M1 - mN Me) (mZ M1 - mZ Me) nL (pc + 3) lv (rf E (mN M) :: st) Q) : V E G M cells slots nL pc lv (.int n :: st) Q := by
  subst hM1
  refine V_narrow hEn (fun h1 h2 h3 => ?_)
  exact W_anew6 hG hN q1 q385 hn.1 rfl hn.2 (by rw [hrc]; omega) (by rw [hrs]; omega) d (V_narrow hEn (fun _ _ _ => kk))
theorem W_aastoreS6 (hG : Cx E G cc nL ret own rm0) {a r : Nat} {i : Int32} (hT : mT M a = 106) (hi : inb i (mLn M a)) (hTr : mT M r = 5) (M1 : Mem) (hM1 : M1 = sR M a i.toNatClampNeg (some r)) (d : decode cc pc = .ok (.aastore, 1)) (k : V E G M1 cells slots nL (pc + 1) lv st Q) : V E G M cells slots nL pc lv (rf E r :: .int i :: rf E a :: st) Q := by
  subst hM1
  obtain ⟨p, e, R, s, m, args, below, meth, c⟩ := G
  obtain ⟨hx, hb, hml, hown, hts, hr, hlk, hRm, hK, hbs, hKs⟩ := hG
  intro H locs ls hR hS hl
  have g := hR.arr (t := 6) hT
  obtain ⟨fs, g1, -, -⟩ := hR.obj hTr (by decide)
  obtain ⟨r', hr', cellV, q1, q2, q3, -⟩ := g1
  have hcls := (hK.1 5 (RX6, TX6, 18) rfl).2
  obtain ⟨kA, comp, k1, k2, k3, -⟩ := (hK.2 6 _ rfl).2
  have hcomp : comp = E.2.2.1.1 5 := Option.some.inj (k3.symm.trans hcls.1)
  subst hcomp
  obtain ⟨kC, hkC, -⟩ := hcls.2
  refine W.aast hx hb g (fun q h => by cases h) (fun h => by cases h) k1 k2 rfl hkC ⟨fun h => hi (Or.inl h), by show _ < (arrV _ _ _).slots.size; rw [arrV_size]; exact Nat.not_le.mp fun h => hi (Or.inr h)⟩ q1 (fun q h => by rw [q3] at h; cases h) (by rw [q2]; exact hkC) (by rw [q2]; exact va_assign hcls) rfl rfl d fun H1 e z oq => ?_
  refine k H1 _ ls (Rep_set (a := a) (e := .inl (E.2.2.2.1 6, aC E (sR M a i.toNatClampNeg (some r)) a 6)) hR z oq rfl rfl rfl (fun b hb => rfl) (fun b hb => rfl) (fun b hb => u2_ne hb) ?_ ?_ ⟨_, e, by rw [setSlot_size]; exact hR.sz (hR.lt hT (by omega)) g⟩) (hS.put z oq (Nat.le_add_right _ _)) hl
  · show H1[E.2.1 + a]? = some (vp_cell _ _)
    rw [e]
    rw [show vp_cell (E.2.2.2.1 6) (aC E M a 6) = arrV (E.2.2.2.1 6) (mLn M a) (fun j => va_rf ((mR M a j).map (fun r => E.2.1 + r))) from rfl, arrV_store]
    show some _ = some (arrV (E.2.2.2.1 6) (mLn M a) (fun j => va_rf ((u2 (mR M) a i.toNatClampNeg (some r) a j).map (fun r => E.2.1 + r))))
    congr 2
    funext q
    by_cases hq : q = i.toNatClampNeg
    · subst hq
      simp [updV, u2, va_rf]
    · simp [updV, u2, hq]
  · unfold CellM
    have hT2 : mT (sR M a i.toNatClampNeg (some r)) a = 106 := hT
    rw [hT2, if_neg (by omega), if_neg (by omega)]
end VM
theorem hap_X5 {E : En} : ∀ (s : State) (args : Array Value), (∀ w ∈ lw_all, w.before args s = true) → va_K E.2.2.1 vwCl (tysL E.2.2.2.1) s → ∀ x y, x < 2 → y < 2 → x ≠ y → (E.2.2.1.2 4) x ≠ (E.2.2.1.2 4) y := by
  intro s args hts hK
  have key : (E.2.2.1.2 4) 0 ≠ (E.2.2.1.2 4) 1 := by
    obtain ⟨hS, hfc, kC, hkC, -⟩ := hK.1 4 (RX5, TX5, 2) rfl
    obtain ⟨cf, kf, fi, f, hi, hsl⟩ := hS 0 (by decide)
    obtain ⟨cf2, kf2, fi2, f2, hi2, hsl2⟩ := hS 1 (by decide)
    have l1 : (Cond.laysFinal RX5 "TroughTreaty$Nature" "this$0" "LTroughTreaty;").before args s = true := hts _ (in_X5 _ (u_in_lay (k := 0) (by decide)))
    have l2 : (Cond.laysFinal RX5 "TroughTreaty$Lawful" "this$0" "LTroughTreaty;").before args s = true := hts _ (in_X5 _ (u_in_lay (k := 1) (by decide)))
    obtain ⟨c, k, c', k', i, g, a1, a2, a3, a4, a5, a6, a7, a8, d, a9, a10, a11, a12⟩ := Cond.laysFinal_spec l1
    obtain ⟨c0, k0, c0', k0', i0, g0, b1, b2, b3, b4, b5, b6, b7, b8, d0, b9, b10, b11, b12⟩ := Cond.laysFinal_spec l2
    have e1 := Option.some.inj (hi.symm.trans a3)
    have e2 := Option.some.inj (hi2.symm.trans b3)
    cases e1
    cases e2
    cases a1.symm.trans b1
    intro he
    rw [← hsl, ← hsl2] at he
    rw [he] at a9
    have hd := Option.some.inj (a9.symm.trans b9)
    subst hd
    have hn : kf.name = kf2.name := a10.symm.trans b10
    obtain ⟨q1, h1, h2⟩ := Vm.findClass_spec a7
    obtain ⟨q2, h3, h4⟩ := Vm.findClass_spec b7
    have f1 := State.fieldFound?_class a3
    have f2 := State.fieldFound?_class b3
    have g1 := Option.some.inj (h1.symm.trans f1)
    have g2 := Option.some.inj (h3.symm.trans f2)
    rw [← g1, ← g2, h2, h4] at hn
    exact absurd hn (by decide)
  intro x y hx hy hne
  rcases (show x = 0 ∧ y = 1 ∨ x = 1 ∧ y = 0 by omega) with ⟨rfl, rfl⟩ | ⟨rfl, rfl⟩
  · exact key
  · exact fun h => key h.symm
theorem q_oi : Cond.instanceMethod Lib.objectInit ∈ lw_all := q170
theorem q_oc : Cond.code Lib.objectInit ⟨#[0xb1]⟩ 1 none ∈ lw_all := q171
