/-! ===== V-layer: a judgement over W with a pure memory; codes are addresses less 'base' ===== -/
set_option maxRecDepth 100000
abbrev Mem : Type := Nat × (Nat → Nat) × (Nat → Nat) × (Nat → Nat → Int32) × (Nat → Nat → Int64) × (Nat → Nat → Option Nat)
def mN (M : Mem) : Nat := M.1
def mT (M : Mem) : Nat → Nat := M.2.1
def mLn (M : Mem) : Nat → Nat := M.2.2.1
def mI (M : Mem) : Nat → Nat → Int32 := M.2.2.2.1
def mL (M : Mem) : Nat → Nat → Int64 := M.2.2.2.2.1
def mR (M : Mem) : Nat → Nat → Option Nat := M.2.2.2.2.2
def u1 {α : Type} (f : Nat → α) (a : Nat) (v : α) : Nat → α := fun x => if x = a then v else f x
def u2 {α : Type} (f : Nat → Nat → α) (a k : Nat) (v : α) : Nat → Nat → α := fun x y => if x = a ∧ y = k then v else f x y
def sI (M : Mem) (a k : Nat) (v : Int32) : Mem := (mN M, mT M, mLn M, u2 (mI M) a k v, mL M, mR M)
def sL (M : Mem) (a k : Nat) (v : Int64) : Mem := (mN M, mT M, mLn M, mI M, u2 (mL M) a k v, mR M)
def sR (M : Mem) (a k : Nat) (v : Option Nat) : Mem := (mN M, mT M, mLn M, mI M, mL M, u2 (mR M) a k v)
/-- a new cell of kind t and length n -/
def nw (M : Mem) (t n : Nat) : Mem := (mN M + 1, u1 (mT M) (mN M) t, u1 (mLn M) (mN M) n, fun x y => if x = mN M then 0 else mI M x y, fun x y => if x = mN M then 0 else mL M x y, fun x y => if x = mN M then none else mR M x y)
/-- what stays all through a run: launch, base, class numbers, array class numbers -/
abbrev En : Type := Launch × Nat × va_G × (Nat → ClassId) × (State → Prop)
def rf (E : En) (r : Nat) : Value := .ref (E.2.1 + r)
def rq (E : En) (r : Option Nat) : Value := match r with
  | none => .null
  | some r => .ref (E.2.1 + r)
theorem rq_some (E : En) (r : Nat) : rq E (some r) = rf E r := rfl
theorem rq_none (E : En) : rq E none = Value.null := rfl
def fv (E : En) (M : Mem) (a k kk : Nat) : Value := match kk with
  | 0 => .int (mI M a k)
  | 1 => .long (mL M a k)
  | _ => rq E (mR M a k)

def vwCl : List vw_C := [(RX1, TX1, 19), (RX2, TX2, 9), (RX3, TX3, 9), (RJ2, TJ2, 3), (RX5, TX5, 2), (RX6, TX6, 18), (RX7, TX7, 84), (RX11, TX11, 4), (RX12, TX12, 5), (RX13, TX13, 3), (RX15, TX15, 1), (RX16, TX16, 1), (RX17, TX17, 1), (RX18, TX18, 3), (RX20, TX20, 4), (RX21, TX21, 1), (RX8, TX8, 8), (RJ15, TJ15, 6), (RJ17, TJ17, 6)]
/-- the kinds of fields by class number: 0 int-like, 1 long, 2 reference, 3 not followed -/
def kd (c : Nat) : List Nat := match c with
  | 0 => [2, 0, 0, 0, 0, 2, 2, 2, 2, 2, 2, 2, 2, 0, 2, 2, 2, 2, 0]
  | 1 => [0, 0, 0, 0, 0, 0, 0, 2, 2]
  | 2 => [2, 2, 2, 2, 0, 0, 0, 0, 0]
  | 3 => [0, 2, 0]
  | 4 => [2, 2]
  | 5 => [2, 2, 2, 2, 2, 2, 0, 0, 0, 0, 0, 0, 0, 0, 0, 0, 0, 2]
  | 6 => [2, 0, 0, 2, 0, 0, 0, 0, 0, 0, 0, 0, 0, 0, 0, 0, 0, 0, 0, 0, 0, 0, 0, 2, 2, 2, 2, 2, 2, 2, 2, 2, 2, 2, 2, 2, 2, 2, 2, 2, 2, 2, 2, 2, 2, 0, 0, 0, 0, 0, 0, 2, 2, 0, 2, 2, 2, 2, 2, 2, 2, 2, 2, 2, 2, 2, 2, 1, 0, 0, 0, 0, 0, 2, 0, 0, 2, 2, 0, 2, 0, 2, 2, 1]
  | 7 => [0, 0, 0, 0]
  | 8 => [0, 0, 0, 0, 0]
  | 9 => [0, 0, 0]
  | 10 => [0]
  | 11 => [0]
  | 12 => [2]
  | 13 => [2, 0, 2]
  | 14 => [0, 0, 0, 0]
  | 15 => [0]
  | 16 => [3, 3, 3, 3, 3, 4, 0, 0]
  | 17 => [3, 3, 3, 3, 3, 4]
  | 18 => [3, 3, 3, 3, 3, 4]
  | _ => []
def aTy (t : Nat) : FieldType := match t with
  | 0 => .int
  | 1 => .byte
  | 2 => .boolean
  | 3 => .long
  | 4 => .object "java/lang/Object"
  | 5 => .object "TroughTreaty$Part"
  | _ => .object "TroughTreaty$State"
def tysL (dA : Nat → ClassId) : List (ClassId × FieldType) := [(dA 0, .int), (dA 1, .byte), (dA 2, .boolean), (dA 3, .long), (dA 4, .object "java/lang/Object"), (dA 5, .object "TroughTreaty$Part"), (dA 6, .object "TroughTreaty$State")]
def aC (E : En) (M : Mem) (a t : Nat) : vp_A := (mLn M a, match t with
  | 0 => .inl (mI M a)
  | 1 => .inl (mI M a)
  | 2 => .inl (mI M a)
  | 3 => .inr (.inl (mL M a))
  | _ => .inr (.inr (.inr (.inr (fun i => (mR M a i).map (fun r => E.2.1 + r))))))
/-- the cell e holds what the memory says of code a -/
def CellM (E : En) (M : Mem) (a : Nat) (e : va_E) : Prop :=
  if mT M a = 98 then True else if mT M a < 100 then ∃ fs, e = .inr (mT M a, fs) ∧ fs.length = (kd (mT M a)).length ∧ ∀ k kk, (kd (mT M a))[k]? = some kk → kk < 3 → fs[k]? = some (fv E M a k kk)
  else e = .inl (E.2.2.2.1 (mT M a - 100), aC E M a (mT M a - 100))
def SzAt (H : Heap) (q n : Nat) : Prop := ∃ cell : Cell, H[q]? = some cell ∧ cell.slots.size = n
/-- cells of kind 98 are junk: nothing is said of them but their size -/
def Rep (E : En) (M : Mem) (H : Heap) : Prop := H.size = E.2.1 + mN M ∧ (∀ a, mN M ≤ a → mT M a = 99) ∧ ∀ a, a < mN M → ∃ e, (mT M a = 98 ∨ va_at E.2.2.1 vwCl (E.2.1 + a, e) H) ∧ CellM E M a e ∧ SzAt H (E.2.1 + a) (mLn M a)

/-- the machine's part of a method's run -/
abbrev Ctx : Type := Program × Env × Room × State × MethodId × Array Value × List Frame × Method × Code
def V (E : En) (G : Ctx) (M : Mem) (cells slots nL pc : Nat) (lv : List (Nat × Value)) (st : List Value) (Q : State → Prop) : Prop := match G with
  | (p, e, R, s, m, args, below, meth, c) => ∀ (H : Heap) (locs : List Loc) (ls : Array Slot), Rep E M H → va_S (fun q => E.2.1 ≤ q) s.heap H locs → lv_has ls nL lv → W p E.1 e R s m args below meth c H locs cells slots Q (F0 m pc ls st)
def KX (E : En) (U : State) : Prop := va_K E.2.2.1 vwCl (tysL E.2.2.2.1) U ∧ E.2.1 ≤ U.heap.size ∧ E.2.2.2.2 U
def Cx (E : En) (G : Ctx) (cc : ByteArray) (nL : Nat) (ret : Option FieldType) (own : String) (rm : Room) : Prop := match G with
  | (p, e, R, s, m, args, below, meth, c) => p.tables.exec = Jvm.exec ∧ c.code = cc ∧ c.maxLocals = nL ∧ s.vm.findClass own = some m.cls ∧ (∀ w ∈ lw_all, w.before args s = true) ∧ meth.sig.returnType = ret ∧ meth.locks = false ∧ R = rm ∧ KX E s
/-- the further knowledge moves with the run -/
def EOk (E : En) : Prop := (∀ s U : State, E.2.2.2.2 s → s.WarmedH U.vm → (∀ q : Nat, q < E.2.1 → U.heap[q]? = s.heap[q]?) → E.2.2.2.2 U) ∧ ∀ U U' : State, U.vm = U'.vm → U.heap = U'.heap → E.2.2.2.2 U → E.2.2.2.2 U'
def QX (E : En) (v : Option Value) (M' : Mem) : Array Value → State → Outcome → State → Prop := fun _ st oc t => (oc = .returned v ∧ Rep E M' t.heap) ∧ va_F (fun q => E.2.1 ≤ q) st t
def QM (E : En) (G : Ctx) (v : Option Value) (M' : Mem) (mc ms : Nat) : State → Prop := match G with
  | (p, e, R, s, m, args, below, meth, c) => MQ below (QX E v M') args s mc ms (fun q => E.2.1 ≤ q)
/-- a method's contract: from the memory M, with these arguments, it returns v and leaves the memory M' -/
def CM (E : En) (y : MethodName) (cc : ByteArray) (nL : Nat) (ret : Option FieldType) (rm : Room) (args : List Value) (M : Mem) (v : Option Value) (M' : Mem) : Prop :=
  Met E.1 y (ws_ y cc nL ret) rm (va_Pc args (fun U => Rep E M U.heap ∧ KX E U)) (QX E v M') rm.cells rm.slots (fun q => E.2.1 ≤ q)
theorem CM_intro {E : En} {y : MethodName} {cc : ByteArray} {nL : Nat} {ret : Option FieldType} {rm : Room} {args : List Value} {M M' : Mem} {v : Option Value} {own : String} (ho : y.cls = own) (hy : plainName y.cls = true) (hlen : (lg_sl args).length ≤ nL) {lv : List (Nat × Value)} (hlv : lv_args 0 args = lv)
    (body : ∀ G : Ctx, Cx E G cc nL ret own rm → V E G M 0 0 nL 0 lv [] (QM E G v M' rm.cells rm.slots)) : CM E y cc nL ret rm args M v M' := by
  refine Met.ofW (cc := cc) (maxL := nL) (ret := ret) hy rfl ?_
  intro p e s m args' below meth c s₁ B hml hv
  obtain ⟨rfl, hR, hK⟩ := hv
  have hts := atoms_spec (ws := ws_ y cc nL ret) B.pre
  have hts : ∀ w ∈ lw_all, w.before _ s = true := fun w h => hts w (List.mem_cons_of_mem _ h)
  have hown : s.vm.findClass y.cls = some m.cls := findClass_of_methodNamed B.named
  have hl := lv_entry args (n := nL) hlen
  rw [lg_entry_eq]
  rw [hlv] at hl
  exact body (p, e, rm, s, m, args.toArray, below, meth, c) ⟨B.exec, B.bytes, hml, by rw [← ho]; exact hown, hts, B.returns, B.notSynchronized, rfl, hK⟩ s.heap [] _ hR va_S.rf hl
section VR
variable {E : En} {G : Ctx} {M M' : Mem} {cells slots nL pc : Nat} {lv lv' : List (Nat × Value)} {st st0 : List Value} {Q : State → Prop} {cc : ByteArray} {ret : Option FieldType} {own : String} {rm0 : Room}
theorem V_widen {k n : Nat} (h1 : cells ≤ k) (h2 : slots ≤ n) (kk : V E G M k n nL pc lv st Q) : V E G M cells slots nL pc lv st Q := by
  obtain ⟨p, e, R, s, m, args, below, meth, c⟩ := G
  intro H locs ls hR hS hl
  exact W.widen h1 h2 (kk H locs ls hR hS hl)
theorem V_lv (is : List Nat) (h : lv_pick lv is = lv') (kk : V E G M cells slots nL pc lv' st Q) : V E G M cells slots nL pc lv st Q := by
  obtain ⟨p, e, R, s, m, args, below, meth, c⟩ := G
  intro H locs ls hR hS hl
  exact kk H locs ls hR hS (lv_sub hl is h)
theorem V_pc {pc' : Nat} (h : pc = pc') (kk : V E G M cells slots nL pc' lv st Q) : V E G M cells slots nL pc lv st Q := h ▸ kk
theorem V_iconst (hG : Cx E G cc nL ret own rm0) {n : Int} (v : Int32) (hv : Int32.ofInt n = v) (d : decode cc pc = .ok (.iconst n, 1)) (k : V E G M cells slots nL (pc + 1) lv (.int v :: st) Q) : V E G M cells slots nL pc lv (st) Q := by
  obtain ⟨p, e, R, s, m, args, below, meth, c⟩ := G
  obtain ⟨hx, hb, hml, hown, hts, hr, hlk, hRm, hK, hbs, hKs⟩ := hG
  intro H locs ls hR hS hl
  exact lv_iconst hx hb d hv (k H locs ls hR hS hl)
theorem V_bipush (hG : Cx E G cc nL ret own rm0) {n : Int} (v : Int32) (hv : (Int8.ofInt n).toInt32 = v) (d : decode cc pc = .ok (.bipush n, 2)) (k : V E G M cells slots nL (pc + 2) lv (.int v :: st) Q) : V E G M cells slots nL pc lv (st) Q := by
  obtain ⟨p, e, R, s, m, args, below, meth, c⟩ := G
  obtain ⟨hx, hb, hml, hown, hts, hr, hlk, hRm, hK, hbs, hKs⟩ := hG
  intro H locs ls hR hS hl
  exact lv_bipush hx hb d hv (k H locs ls hR hS hl)
theorem V_sipush (hG : Cx E G cc nL ret own rm0) {n : Int} (v : Int32) (hv : (Int16.ofInt n).toInt32 = v) (d : decode cc pc = .ok (.sipush n, 3)) (k : V E G M cells slots nL (pc + 3) lv (.int v :: st) Q) : V E G M cells slots nL pc lv (st) Q := by
  obtain ⟨p, e, R, s, m, args, below, meth, c⟩ := G
  obtain ⟨hx, hb, hml, hown, hts, hr, hlk, hRm, hK, hbs, hKs⟩ := hG
  intro H locs ls hR hS hl
  exact lv_sipush hx hb d hv (k H locs ls hR hS hl)
theorem V_lconst (hG : Cx E G cc nL ret own rm0) {n : Fin 2} (v : Int64) (hv : Int64.ofNat (n : Nat) = v) (d : decode cc pc = .ok (.lconst n, 1)) (k : V E G M cells slots nL (pc + 1) lv (.long v :: st) Q) : V E G M cells slots nL pc lv (st) Q := by
  obtain ⟨p, e, R, s, m, args, below, meth, c⟩ := G
  obtain ⟨hx, hb, hml, hown, hts, hr, hlk, hRm, hK, hbs, hKs⟩ := hG
  intro H locs ls hR hS hl
  exact lv_lconst hx hb d hv (k H locs ls hR hS hl)
theorem V_null (hG : Cx E G cc nL ret own rm0)  (d : decode cc pc = .ok (.aconst_null, 1)) (k : V E G M cells slots nL (pc + 1) lv (.null :: st) Q) : V E G M cells slots nL pc lv (st) Q := by
  obtain ⟨p, e, R, s, m, args, below, meth, c⟩ := G
  obtain ⟨hx, hb, hml, hown, hts, hr, hlk, hRm, hK, hbs, hKs⟩ := hG
  intro H locs ls hR hS hl
  exact lv_null hx hb d (k H locs ls hR hS hl)
theorem V_iload_n (hG : Cx E G cc nL ret own rm0) {q : Fin 4} (w : Nat) {x : Int32} (hi : lv[w]? = some (q.val, .int x)) (d : decode cc pc = .ok (.iload_n q, 1)) (k : V E G M cells slots nL (pc + 1) lv (.int x :: st) Q) : V E G M cells slots nL pc lv (st) Q := by
  obtain ⟨p, e, R, s, m, args, below, meth, c⟩ := G
  obtain ⟨hx, hb, hml, hown, hts, hr, hlk, hRm, hK, hbs, hKs⟩ := hG
  intro H locs ls hR hS hl
  exact lv_iload_n hx hb d rfl (lv_at hl w hi) (k H locs ls hR hS hl)
theorem V_iload (hG : Cx E G cc nL ret own rm0) {i : Nat} (w : Nat) {x : Int32} (hi : lv[w]? = some (i, .int x)) (d : decode cc pc = .ok (.iload i, 2)) (k : V E G M cells slots nL (pc + 2) lv (.int x :: st) Q) : V E G M cells slots nL pc lv (st) Q := by
  obtain ⟨p, e, R, s, m, args, below, meth, c⟩ := G
  obtain ⟨hx, hb, hml, hown, hts, hr, hlk, hRm, hK, hbs, hKs⟩ := hG
  intro H locs ls hR hS hl
  exact lv_iload hx hb d (lv_at hl w hi) (k H locs ls hR hS hl)
theorem V_lload_n (hG : Cx E G cc nL ret own rm0) {q : Fin 4} (w : Nat) {x : Int64} (hi : lv[w]? = some (q.val, .long x)) (d : decode cc pc = .ok (.lload_n q, 1)) (k : V E G M cells slots nL (pc + 1) lv (.long x :: st) Q) : V E G M cells slots nL pc lv (st) Q := by
  obtain ⟨p, e, R, s, m, args, below, meth, c⟩ := G
  obtain ⟨hx, hb, hml, hown, hts, hr, hlk, hRm, hK, hbs, hKs⟩ := hG
  intro H locs ls hR hS hl
  exact lv_lload_n hx hb d rfl (lv_at hl w hi) (k H locs ls hR hS hl)
theorem V_lload (hG : Cx E G cc nL ret own rm0) {i : Nat} (w : Nat) {x : Int64} (hi : lv[w]? = some (i, .long x)) (d : decode cc pc = .ok (.lload i, 2)) (k : V E G M cells slots nL (pc + 2) lv (.long x :: st) Q) : V E G M cells slots nL pc lv (st) Q := by
  obtain ⟨p, e, R, s, m, args, below, meth, c⟩ := G
  obtain ⟨hx, hb, hml, hown, hts, hr, hlk, hRm, hK, hbs, hKs⟩ := hG
  intro H locs ls hR hS hl
  exact lv_lload hx hb d (lv_at hl w hi) (k H locs ls hR hS hl)
theorem V_aload_n (hG : Cx E G cc nL ret own rm0) {q : Fin 4} (w : Nat) {r : Nat} (hi : lv[w]? = some (q.val, rf E r)) (d : decode cc pc = .ok (.aload_n q, 1)) (k : V E G M cells slots nL (pc + 1) lv (rf E r :: st) Q) : V E G M cells slots nL pc lv (st) Q := by
  obtain ⟨p, e, R, s, m, args, below, meth, c⟩ := G
  obtain ⟨hx, hb, hml, hown, hts, hr, hlk, hRm, hK, hbs, hKs⟩ := hG
  intro H locs ls hR hS hl
  exact lv_aload_n hx hb d rfl (lv_at hl w hi) (k H locs ls hR hS hl)
theorem V_aload (hG : Cx E G cc nL ret own rm0) {i : Nat} (w : Nat) {r : Nat} (hi : lv[w]? = some (i, rf E r)) (d : decode cc pc = .ok (.aload i, 2)) (k : V E G M cells slots nL (pc + 2) lv (rf E r :: st) Q) : V E G M cells slots nL pc lv (st) Q := by
  obtain ⟨p, e, R, s, m, args, below, meth, c⟩ := G
  obtain ⟨hx, hb, hml, hown, hts, hr, hlk, hRm, hK, hbs, hKs⟩ := hG
  intro H locs ls hR hS hl
  exact lv_aload hx hb d (lv_at hl w hi) (k H locs ls hR hS hl)
theorem V_istore_n (hG : Cx E G cc nL ret own rm0) {q : Fin 4} {i : Nat} {x : Int32} (hi : q.val = i) (lv' : List (Nat × Value)) (d : decode cc pc = .ok (.istore_n q, 1)) (hn : i < nL) (hl' : (i, Value.int x) :: lv.filter (fun q => !(q.1 == i) && !(q.1 + 1 == i && q.2.category == 2)) = lv') (k : V E G M cells slots nL (pc + 1) lv' st Q) : V E G M cells slots nL pc lv (.int x :: st) Q := by
  obtain ⟨p, e, R, s, m, args, below, meth, c⟩ := G
  obtain ⟨hx, hb, hml, hown, hts, hr, hlk, hRm, hK, hbs, hKs⟩ := hG
  intro H locs ls hR hS hl
  exact lv_istore_n hx hb d hi hl hn hl' (fun ls' h => k H locs ls' hR hS h)
theorem V_istore (hG : Cx E G cc nL ret own rm0) {i : Nat} {x : Int32} (lv' : List (Nat × Value)) (d : decode cc pc = .ok (.istore i, 2)) (hn : i < nL) (hl' : (i, Value.int x) :: lv.filter (fun q => !(q.1 == i) && !(q.1 + 1 == i && q.2.category == 2)) = lv') (k : V E G M cells slots nL (pc + 2) lv' st Q) : V E G M cells slots nL pc lv (.int x :: st) Q := by
  obtain ⟨p, e, R, s, m, args, below, meth, c⟩ := G
  obtain ⟨hx, hb, hml, hown, hts, hr, hlk, hRm, hK, hbs, hKs⟩ := hG
  intro H locs ls hR hS hl
  exact lv_istore hx hb d hl hn hl' (fun ls' h => k H locs ls' hR hS h)
theorem V_astore_n (hG : Cx E G cc nL ret own rm0) {q : Fin 4} {i : Nat} {x : Nat} (hi : q.val = i) (lv' : List (Nat × Value)) (d : decode cc pc = .ok (.astore_n q, 1)) (hn : i < nL) (hl' : (i, rf E x) :: lv.filter (fun q => !(q.1 == i) && !(q.1 + 1 == i && q.2.category == 2)) = lv') (k : V E G M cells slots nL (pc + 1) lv' st Q) : V E G M cells slots nL pc lv (rf E x :: st) Q := by
  obtain ⟨p, e, R, s, m, args, below, meth, c⟩ := G
  obtain ⟨hx, hb, hml, hown, hts, hr, hlk, hRm, hK, hbs, hKs⟩ := hG
  intro H locs ls hR hS hl
  exact lv_astore_n hx hb d hi hl hn hl' (fun ls' h => k H locs ls' hR hS h)
theorem V_astore (hG : Cx E G cc nL ret own rm0) {i : Nat} {x : Nat} (lv' : List (Nat × Value)) (d : decode cc pc = .ok (.astore i, 2)) (hn : i < nL) (hl' : (i, rf E x) :: lv.filter (fun q => !(q.1 == i) && !(q.1 + 1 == i && q.2.category == 2)) = lv') (k : V E G M cells slots nL (pc + 2) lv' st Q) : V E G M cells slots nL pc lv (rf E x :: st) Q := by
  obtain ⟨p, e, R, s, m, args, below, meth, c⟩ := G
  obtain ⟨hx, hb, hml, hown, hts, hr, hlk, hRm, hK, hbs, hKs⟩ := hG
  intro H locs ls hR hS hl
  exact lv_astore hx hb d hl hn hl' (fun ls' h => k H locs ls' hR hS h)
theorem V_lstore_n (hG : Cx E G cc nL ret own rm0) {q : Fin 4} {i : Nat} {x : Int64} (hi : q.val = i) (lv' : List (Nat × Value)) (d : decode cc pc = .ok (.lstore_n q, 1)) (hn : i + 1 < nL) (hl' : (i, Value.long x) :: lv.filter (fun q => !(q.1 == i) && (!(q.1 == i + 1) && !(q.1 + 1 == i && q.2.category == 2))) = lv') (k : V E G M cells slots nL (pc + 1) lv' st Q) : V E G M cells slots nL pc lv (.long x :: st) Q := by
  obtain ⟨p, e, R, s, m, args, below, meth, c⟩ := G
  obtain ⟨hx, hb, hml, hown, hts, hr, hlk, hRm, hK, hbs, hKs⟩ := hG
  intro H locs ls hR hS hl
  exact lv_lstore_n hx hb d hi hl hn hl' (fun ls' h => k H locs ls' hR hS h)
theorem V_lstore (hG : Cx E G cc nL ret own rm0) {i : Nat} {x : Int64} (lv' : List (Nat × Value)) (d : decode cc pc = .ok (.lstore i, 2)) (hn : i + 1 < nL) (hl' : (i, Value.long x) :: lv.filter (fun q => !(q.1 == i) && (!(q.1 == i + 1) && !(q.1 + 1 == i && q.2.category == 2))) = lv') (k : V E G M cells slots nL (pc + 2) lv' st Q) : V E G M cells slots nL pc lv (.long x :: st) Q := by
  obtain ⟨p, e, R, s, m, args, below, meth, c⟩ := G
  obtain ⟨hx, hb, hml, hown, hts, hr, hlk, hRm, hK, hbs, hKs⟩ := hG
  intro H locs ls hR hS hl
  exact lv_lstore hx hb d hl hn hl' (fun ls' h => k H locs ls' hR hS h)
theorem V_iinc (hG : Cx E G cc nL ret own rm0) {i : Nat} {n : Int} (w : Nat) {x : Int32} (v : Int32) (hk : lv[w]? = some (i, .int x)) (hv : x + Int32.ofInt n = v) (lv' : List (Nat × Value)) (d : decode cc pc = .ok (.iinc i n, 3)) (hn : i < nL) (hl' : (i, Value.int v) :: lv.filter (fun q => !(q.1 == i) && !(q.1 + 1 == i && q.2.category == 2)) = lv') (k : V E G M cells slots nL (pc + 3) lv' st Q) : V E G M cells slots nL pc lv (st) Q := by
  obtain ⟨p, e, R, s, m, args, below, meth, c⟩ := G
  obtain ⟨hx, hb, hml, hown, hts, hr, hlk, hRm, hK, hbs, hKs⟩ := hG
  intro H locs ls hR hS hl
  exact lv_iinc hx hb d hl hk hv hn hl' (fun ls' h => k H locs ls' hR hS h)
theorem V_iadd (hG : Cx E G cc nL ret own rm0) {x y : Int32} (d : decode cc pc = .ok (.iadd, 1)) (k : V E G M cells slots nL (pc + 1) lv (.int (x + y) :: st) Q) : V E G M cells slots nL pc lv (.int y :: .int x :: st) Q := by
  obtain ⟨p, e, R, s, m, args, below, meth, c⟩ := G
  obtain ⟨hx, hb, hml, hown, hts, hr, hlk, hRm, hK, hbs, hKs⟩ := hG
  intro H locs ls hR hS hl
  exact lv_iadd hx hb d (k H locs ls hR hS hl)
theorem V_isub (hG : Cx E G cc nL ret own rm0) {x y : Int32} (d : decode cc pc = .ok (.isub, 1)) (k : V E G M cells slots nL (pc + 1) lv (.int (x - y) :: st) Q) : V E G M cells slots nL pc lv (.int y :: .int x :: st) Q := by
  obtain ⟨p, e, R, s, m, args, below, meth, c⟩ := G
  obtain ⟨hx, hb, hml, hown, hts, hr, hlk, hRm, hK, hbs, hKs⟩ := hG
  intro H locs ls hR hS hl
  exact lv_isub hx hb d (k H locs ls hR hS hl)
theorem V_imul (hG : Cx E G cc nL ret own rm0) {x y : Int32} (d : decode cc pc = .ok (.imul, 1)) (k : V E G M cells slots nL (pc + 1) lv (.int (x * y) :: st) Q) : V E G M cells slots nL pc lv (.int y :: .int x :: st) Q := by
  obtain ⟨p, e, R, s, m, args, below, meth, c⟩ := G
  obtain ⟨hx, hb, hml, hown, hts, hr, hlk, hRm, hK, hbs, hKs⟩ := hG
  intro H locs ls hR hS hl
  exact lv_imul hx hb d (k H locs ls hR hS hl)
theorem V_iand (hG : Cx E G cc nL ret own rm0) {x y : Int32} (d : decode cc pc = .ok (.iand, 1)) (k : V E G M cells slots nL (pc + 1) lv (.int (x &&& y) :: st) Q) : V E G M cells slots nL pc lv (.int y :: .int x :: st) Q := by
  obtain ⟨p, e, R, s, m, args, below, meth, c⟩ := G
  obtain ⟨hx, hb, hml, hown, hts, hr, hlk, hRm, hK, hbs, hKs⟩ := hG
  intro H locs ls hR hS hl
  exact lv_iand hx hb d (k H locs ls hR hS hl)
theorem V_ior (hG : Cx E G cc nL ret own rm0) {x y : Int32} (d : decode cc pc = .ok (.ior, 1)) (k : V E G M cells slots nL (pc + 1) lv (.int (x ||| y) :: st) Q) : V E G M cells slots nL pc lv (.int y :: .int x :: st) Q := by
  obtain ⟨p, e, R, s, m, args, below, meth, c⟩ := G
  obtain ⟨hx, hb, hml, hown, hts, hr, hlk, hRm, hK, hbs, hKs⟩ := hG
  intro H locs ls hR hS hl
  exact lv_ior hx hb d (k H locs ls hR hS hl)
theorem V_ixor (hG : Cx E G cc nL ret own rm0) {x y : Int32} (d : decode cc pc = .ok (.ixor, 1)) (k : V E G M cells slots nL (pc + 1) lv (.int (x ^^^ y) :: st) Q) : V E G M cells slots nL pc lv (.int y :: .int x :: st) Q := by
  obtain ⟨p, e, R, s, m, args, below, meth, c⟩ := G
  obtain ⟨hx, hb, hml, hown, hts, hr, hlk, hRm, hK, hbs, hKs⟩ := hG
  intro H locs ls hR hS hl
  exact lv_ixor hx hb d (k H locs ls hR hS hl)
theorem V_ishl (hG : Cx E G cc nL ret own rm0) {x y : Int32} (d : decode cc pc = .ok (.ishl, 1)) (k : V E G M cells slots nL (pc + 1) lv (.int (x <<< (y &&& 31)) :: st) Q) : V E G M cells slots nL pc lv (.int y :: .int x :: st) Q := by
  obtain ⟨p, e, R, s, m, args, below, meth, c⟩ := G
  obtain ⟨hx, hb, hml, hown, hts, hr, hlk, hRm, hK, hbs, hKs⟩ := hG
  intro H locs ls hR hS hl
  exact lv_ishl hx hb d (k H locs ls hR hS hl)
theorem V_ishr (hG : Cx E G cc nL ret own rm0) {x y : Int32} (d : decode cc pc = .ok (.ishr, 1)) (k : V E G M cells slots nL (pc + 1) lv (.int (x >>> (y &&& 31)) :: st) Q) : V E G M cells slots nL pc lv (.int y :: .int x :: st) Q := by
  obtain ⟨p, e, R, s, m, args, below, meth, c⟩ := G
  obtain ⟨hx, hb, hml, hown, hts, hr, hlk, hRm, hK, hbs, hKs⟩ := hG
  intro H locs ls hR hS hl
  exact lv_ishr hx hb d (k H locs ls hR hS hl)
theorem V_idiv (hG : Cx E G cc nL ret own rm0) {x y : Int32} (h0 : ¬ y = 0) (d : decode cc pc = .ok (.idiv, 1)) (k : V E G M cells slots nL (pc + 1) lv (.int (x / y) :: st) Q) : V E G M cells slots nL pc lv (.int y :: .int x :: st) Q := by
  obtain ⟨p, e, R, s, m, args, below, meth, c⟩ := G
  obtain ⟨hx, hb, hml, hown, hts, hr, hlk, hRm, hK, hbs, hKs⟩ := hG
  intro H locs ls hR hS hl
  exact lv_idiv hx hb d h0 (k H locs ls hR hS hl)
theorem V_irem (hG : Cx E G cc nL ret own rm0) {x y : Int32} (h0 : ¬ y = 0) (d : decode cc pc = .ok (.irem, 1)) (k : V E G M cells slots nL (pc + 1) lv (.int (x - x / y * y) :: st) Q) : V E G M cells slots nL pc lv (.int y :: .int x :: st) Q := by
  obtain ⟨p, e, R, s, m, args, below, meth, c⟩ := G
  obtain ⟨hx, hb, hml, hown, hts, hr, hlk, hRm, hK, hbs, hKs⟩ := hG
  intro H locs ls hR hS hl
  exact lv_irem hx hb d h0 (k H locs ls hR hS hl)
theorem V_ineg (hG : Cx E G cc nL ret own rm0) {x : Int32} (d : decode cc pc = .ok (.ineg, 1)) (k : V E G M cells slots nL (pc + 1) lv (.int (-x) :: st) Q) : V E G M cells slots nL pc lv (.int x :: st) Q := by
  obtain ⟨p, e, R, s, m, args, below, meth, c⟩ := G
  obtain ⟨hx, hb, hml, hown, hts, hr, hlk, hRm, hK, hbs, hKs⟩ := hG
  intro H locs ls hR hS hl
  exact lv_ineg hx hb d (k H locs ls hR hS hl)
theorem V_ladd (hG : Cx E G cc nL ret own rm0) {x y : Int64} (d : decode cc pc = .ok (.ladd, 1)) (k : V E G M cells slots nL (pc + 1) lv (.long (x + y) :: st) Q) : V E G M cells slots nL pc lv (.long y :: .long x :: st) Q := by
  obtain ⟨p, e, R, s, m, args, below, meth, c⟩ := G
  obtain ⟨hx, hb, hml, hown, hts, hr, hlk, hRm, hK, hbs, hKs⟩ := hG
  intro H locs ls hR hS hl
  exact lv_ladd hx hb d (k H locs ls hR hS hl)
theorem V_lsub (hG : Cx E G cc nL ret own rm0) {x y : Int64} (d : decode cc pc = .ok (.lsub, 1)) (k : V E G M cells slots nL (pc + 1) lv (.long (x - y) :: st) Q) : V E G M cells slots nL pc lv (.long y :: .long x :: st) Q := by
  obtain ⟨p, e, R, s, m, args, below, meth, c⟩ := G
  obtain ⟨hx, hb, hml, hown, hts, hr, hlk, hRm, hK, hbs, hKs⟩ := hG
  intro H locs ls hR hS hl
  exact lv_lsub hx hb d (k H locs ls hR hS hl)
theorem V_lmul (hG : Cx E G cc nL ret own rm0) {x y : Int64} (d : decode cc pc = .ok (.lmul, 1)) (k : V E G M cells slots nL (pc + 1) lv (.long (x * y) :: st) Q) : V E G M cells slots nL pc lv (.long y :: .long x :: st) Q := by
  obtain ⟨p, e, R, s, m, args, below, meth, c⟩ := G
  obtain ⟨hx, hb, hml, hown, hts, hr, hlk, hRm, hK, hbs, hKs⟩ := hG
  intro H locs ls hR hS hl
  exact lv_lmul hx hb d (k H locs ls hR hS hl)
theorem V_land (hG : Cx E G cc nL ret own rm0) {x y : Int64} (d : decode cc pc = .ok (.land, 1)) (k : V E G M cells slots nL (pc + 1) lv (.long (x &&& y) :: st) Q) : V E G M cells slots nL pc lv (.long y :: .long x :: st) Q := by
  obtain ⟨p, e, R, s, m, args, below, meth, c⟩ := G
  obtain ⟨hx, hb, hml, hown, hts, hr, hlk, hRm, hK, hbs, hKs⟩ := hG
  intro H locs ls hR hS hl
  exact lv_land hx hb d (k H locs ls hR hS hl)
theorem V_ldiv (hG : Cx E G cc nL ret own rm0) {x y : Int64} (h0 : ¬ y = 0) (d : decode cc pc = .ok (.ldiv, 1)) (k : V E G M cells slots nL (pc + 1) lv (.long (x / y) :: st) Q) : V E G M cells slots nL pc lv (.long y :: .long x :: st) Q := by
  obtain ⟨p, e, R, s, m, args, below, meth, c⟩ := G
  obtain ⟨hx, hb, hml, hown, hts, hr, hlk, hRm, hK, hbs, hKs⟩ := hG
  intro H locs ls hR hS hl
  exact lv_ldiv hx hb d h0 (k H locs ls hR hS hl)
theorem V_lrem (hG : Cx E G cc nL ret own rm0) {x y : Int64} (h0 : ¬ y = 0) (d : decode cc pc = .ok (.lrem, 1)) (k : V E G M cells slots nL (pc + 1) lv (.long (x - x / y * y) :: st) Q) : V E G M cells slots nL pc lv (.long y :: .long x :: st) Q := by
  obtain ⟨p, e, R, s, m, args, below, meth, c⟩ := G
  obtain ⟨hx, hb, hml, hown, hts, hr, hlk, hRm, hK, hbs, hKs⟩ := hG
  intro H locs ls hR hS hl
  exact lv_lrem hx hb d h0 (k H locs ls hR hS hl)
theorem V_lneg (hG : Cx E G cc nL ret own rm0) {x : Int64} (d : decode cc pc = .ok (.lneg, 1)) (k : V E G M cells slots nL (pc + 1) lv (.long (-x) :: st) Q) : V E G M cells slots nL pc lv (.long x :: st) Q := by
  obtain ⟨p, e, R, s, m, args, below, meth, c⟩ := G
  obtain ⟨hx, hb, hml, hown, hts, hr, hlk, hRm, hK, hbs, hKs⟩ := hG
  intro H locs ls hR hS hl
  exact lv_lneg hx hb d (k H locs ls hR hS hl)
theorem V_lcmp (hG : Cx E G cc nL ret own rm0) {x y : Int64} (d : decode cc pc = .ok (.lcmp, 1)) (k : V E G M cells slots nL (pc + 1) lv (.int (lg_cmp x y) :: st) Q) : V E G M cells slots nL pc lv (.long y :: .long x :: st) Q := by
  obtain ⟨p, e, R, s, m, args, below, meth, c⟩ := G
  obtain ⟨hx, hb, hml, hown, hts, hr, hlk, hRm, hK, hbs, hKs⟩ := hG
  intro H locs ls hR hS hl
  exact W.lcmp hx hb d (k H locs ls hR hS hl)
theorem V_i2l (hG : Cx E G cc nL ret own rm0) {x : Int32} (d : decode cc pc = .ok (.i2l, 1)) (k : V E G M cells slots nL (pc + 1) lv (.long x.toInt64 :: st) Q) : V E G M cells slots nL pc lv (.int x :: st) Q := by
  obtain ⟨p, e, R, s, m, args, below, meth, c⟩ := G
  obtain ⟨hx, hb, hml, hown, hts, hr, hlk, hRm, hK, hbs, hKs⟩ := hG
  intro H locs ls hR hS hl
  exact lv_i2l hx hb d rfl (k H locs ls hR hS hl)
theorem V_l2i (hG : Cx E G cc nL ret own rm0) {x : Int64} (d : decode cc pc = .ok (.l2i, 1)) (k : V E G M cells slots nL (pc + 1) lv (.int x.toInt32 :: st) Q) : V E G M cells slots nL pc lv (.long x :: st) Q := by
  obtain ⟨p, e, R, s, m, args, below, meth, c⟩ := G
  obtain ⟨hx, hb, hml, hown, hts, hr, hlk, hRm, hK, hbs, hKs⟩ := hG
  intro H locs ls hR hS hl
  exact lv_l2i hx hb d rfl (k H locs ls hR hS hl)
theorem V_i2b (hG : Cx E G cc nL ret own rm0) {x : Int32} (d : decode cc pc = .ok (.i2b, 1)) (k : V E G M cells slots nL (pc + 1) lv (.int x.toInt8.toInt32 :: st) Q) : V E G M cells slots nL pc lv (.int x :: st) Q := by
  obtain ⟨p, e, R, s, m, args, below, meth, c⟩ := G
  obtain ⟨hx, hb, hml, hown, hts, hr, hlk, hRm, hK, hbs, hKs⟩ := hG
  intro H locs ls hR hS hl
  exact lv_i2b hx hb d rfl (k H locs ls hR hS hl)
theorem V_i2c (hG : Cx E G cc nL ret own rm0) {x : Int32} (d : decode cc pc = .ok (.i2c, 1)) (k : V E G M cells slots nL (pc + 1) lv (.int (x.toUInt32 % 65536).toInt32 :: st) Q) : V E G M cells slots nL pc lv (.int x :: st) Q := by
  obtain ⟨p, e, R, s, m, args, below, meth, c⟩ := G
  obtain ⟨hx, hb, hml, hown, hts, hr, hlk, hRm, hK, hbs, hKs⟩ := hG
  intro H locs ls hR hS hl
  exact lv_i2c hx hb d rfl (k H locs ls hR hS hl)
theorem V_dup (hG : Cx E G cc nL ret own rm0) {a : Value} (h1 : a.category = 1) (d : decode cc pc = .ok (.dup, 1)) (k : V E G M cells slots nL (pc + 1) lv (a :: a :: st) Q) : V E G M cells slots nL pc lv (a :: st) Q := by
  obtain ⟨p, e, R, s, m, args, below, meth, c⟩ := G
  obtain ⟨hx, hb, hml, hown, hts, hr, hlk, hRm, hK, hbs, hKs⟩ := hG
  intro H locs ls hR hS hl
  exact lv_dup hx hb d h1 (k H locs ls hR hS hl)
theorem V_pop (hG : Cx E G cc nL ret own rm0) {a : Value} (h1 : a.category = 1) (d : decode cc pc = .ok (.pop, 1)) (k : V E G M cells slots nL (pc + 1) lv (st) Q) : V E G M cells slots nL pc lv (a :: st) Q := by
  obtain ⟨p, e, R, s, m, args, below, meth, c⟩ := G
  obtain ⟨hx, hb, hml, hown, hts, hr, hlk, hRm, hK, hbs, hKs⟩ := hG
  intro H locs ls hR hS hl
  exact lv_pop hx hb d h1 (k H locs ls hR hS hl)
theorem V_dup_x1 (hG : Cx E G cc nL ret own rm0) {a b : Value} (h1 : a.category = 1) (h2 : b.category = 1) (d : decode cc pc = .ok (.dup_x1, 1)) (k : V E G M cells slots nL (pc + 1) lv (a :: b :: a :: st) Q) : V E G M cells slots nL pc lv (a :: b :: st) Q := by
  obtain ⟨p, e, R, s, m, args, below, meth, c⟩ := G
  obtain ⟨hx, hb, hml, hown, hts, hr, hlk, hRm, hK, hbs, hKs⟩ := hG
  intro H locs ls hR hS hl
  exact lv_dup_x1 hx hb d h1 h2 (k H locs ls hR hS hl)
theorem V_dup2 (hG : Cx E G cc nL ret own rm0) {a b : Value} (h1 : a.category = 1) (h2 : b.category = 1) (d : decode cc pc = .ok (.dup2, 1)) (k : V E G M cells slots nL (pc + 1) lv (a :: b :: a :: b :: st) Q) : V E G M cells slots nL pc lv (a :: b :: st) Q := by
  obtain ⟨p, e, R, s, m, args, below, meth, c⟩ := G
  obtain ⟨hx, hb, hml, hown, hts, hr, hlk, hRm, hK, hbs, hKs⟩ := hG
  intro H locs ls hR hS hl
  exact lv_dup2_11 hx hb d h1 h2 (k H locs ls hR hS hl)
theorem V_dup_x2 (hG : Cx E G cc nL ret own rm0) {a b v : Value} (h1 : a.category = 1) (h2 : b.category = 1) (h3 : v.category = 1) (d : decode cc pc = .ok (.dup_x2, 1)) (k : V E G M cells slots nL (pc + 1) lv (a :: b :: v :: a :: st) Q) : V E G M cells slots nL pc lv (a :: b :: v :: st) Q := by
  obtain ⟨p, e, R, s, m, args, below, meth, c⟩ := G
  obtain ⟨hx, hb, hml, hown, hts, hr, hlk, hRm, hK, hbs, hKs⟩ := hG
  intro H locs ls hR hS hl
  exact lv_dup_x2 hx hb d h1 h2 h3 (k H locs ls hR hS hl)
theorem V_ldc (hG : Cx E G cc nL ret own rm0) {i : Nat} {v : Int32} (q : Cond.constant own i v ∈ lw_all) (d : decode cc pc = .ok (.ldc i, 2)) (k : V E G M cells slots nL (pc + 2) lv (.int v :: st) Q) : V E G M cells slots nL pc lv (st) Q := by
  obtain ⟨p, e, R, s, m, args, below, meth, c⟩ := G
  obtain ⟨hx, hb, hml, hown, hts, hr, hlk, hRm, hK, hbs, hKs⟩ := hG
  intro H locs ls hR hS hl
  exact lv_ldc hx hb hown (hts _ q) d (k H locs ls hR hS hl)
theorem V_ldc2 (hG : Cx E G cc nL ret own rm0) {i : Nat} {v : Int64} (q : Cond.constantLong own i v ∈ lw_all) (d : decode cc pc = .ok (.ldc2_w i, 3)) (k : V E G M cells slots nL (pc + 3) lv (.long v :: st) Q) : V E G M cells slots nL pc lv (st) Q := by
  obtain ⟨p, e, R, s, m, args, below, meth, c⟩ := G
  obtain ⟨hx, hb, hml, hown, hts, hr, hlk, hRm, hK, hbs, hKs⟩ := hG
  intro H locs ls hR hS hl
  exact lv_ldc2 hx hb hown (hts _ q) d (k H locs ls hR hS hl)
theorem V_if_eq (hG : Cx E G cc nL ret own rm0) {x : Int32} {off : Int} (tgt : Nat) (d : decode cc pc = .ok (.ifCond .eq off, 3)) (ht : (pc : Int) + off = (tgt : Int)) (kt : x = 0 → V E G M cells slots nL tgt lv st Q) (kf : ¬ x = 0 → V E G M cells slots nL (pc + 3) lv st Q) : V E G M cells slots nL pc lv (.int x :: st) Q := by
  obtain ⟨p, e, R, s, m, args, below, meth, c⟩ := G
  obtain ⟨hx, hb, hml, hown, hts, hr, hlk, hRm, hK, hbs, hKs⟩ := hG
  intro H locs ls hR hS hl
  exact lv_if_eq hx hb d ht (fun h => kt h H locs ls hR hS hl) (fun h => kf h H locs ls hR hS hl)
theorem V_icmp_eq (hG : Cx E G cc nL ret own rm0) {x y : Int32} {off : Int} (tgt : Nat) (d : decode cc pc = .ok (.if_icmp .eq off, 3)) (ht : (pc : Int) + off = (tgt : Int)) (kt : x = y → V E G M cells slots nL tgt lv st Q) (kf : ¬ x = y → V E G M cells slots nL (pc + 3) lv st Q) : V E G M cells slots nL pc lv (.int y :: .int x :: st) Q := by
  obtain ⟨p, e, R, s, m, args, below, meth, c⟩ := G
  obtain ⟨hx, hb, hml, hown, hts, hr, hlk, hRm, hK, hbs, hKs⟩ := hG
  intro H locs ls hR hS hl
  exact lv_icmp_eq hx hb d ht (fun h => kt h H locs ls hR hS hl) (fun h => kf h H locs ls hR hS hl)
theorem V_if_ne (hG : Cx E G cc nL ret own rm0) {x : Int32} {off : Int} (tgt : Nat) (d : decode cc pc = .ok (.ifCond .ne off, 3)) (ht : (pc : Int) + off = (tgt : Int)) (kt : ¬ x = 0 → V E G M cells slots nL tgt lv st Q) (kf : x = 0 → V E G M cells slots nL (pc + 3) lv st Q) : V E G M cells slots nL pc lv (.int x :: st) Q := by
  obtain ⟨p, e, R, s, m, args, below, meth, c⟩ := G
  obtain ⟨hx, hb, hml, hown, hts, hr, hlk, hRm, hK, hbs, hKs⟩ := hG
  intro H locs ls hR hS hl
  exact lv_if_ne hx hb d ht (fun h => kt h H locs ls hR hS hl) (fun h => kf h H locs ls hR hS hl)
theorem V_icmp_ne (hG : Cx E G cc nL ret own rm0) {x y : Int32} {off : Int} (tgt : Nat) (d : decode cc pc = .ok (.if_icmp .ne off, 3)) (ht : (pc : Int) + off = (tgt : Int)) (kt : ¬ x = y → V E G M cells slots nL tgt lv st Q) (kf : x = y → V E G M cells slots nL (pc + 3) lv st Q) : V E G M cells slots nL pc lv (.int y :: .int x :: st) Q := by
  obtain ⟨p, e, R, s, m, args, below, meth, c⟩ := G
  obtain ⟨hx, hb, hml, hown, hts, hr, hlk, hRm, hK, hbs, hKs⟩ := hG
  intro H locs ls hR hS hl
  exact lv_icmp_ne hx hb d ht (fun h => kt h H locs ls hR hS hl) (fun h => kf h H locs ls hR hS hl)
theorem V_if_lt (hG : Cx E G cc nL ret own rm0) {x : Int32} {off : Int} (tgt : Nat) (d : decode cc pc = .ok (.ifCond .lt off, 3)) (ht : (pc : Int) + off = (tgt : Int)) (kt : x < 0 → V E G M cells slots nL tgt lv st Q) (kf : ¬ x < 0 → V E G M cells slots nL (pc + 3) lv st Q) : V E G M cells slots nL pc lv (.int x :: st) Q := by
  obtain ⟨p, e, R, s, m, args, below, meth, c⟩ := G
  obtain ⟨hx, hb, hml, hown, hts, hr, hlk, hRm, hK, hbs, hKs⟩ := hG
  intro H locs ls hR hS hl
  exact lv_if_lt hx hb d ht (fun h => kt h H locs ls hR hS hl) (fun h => kf h H locs ls hR hS hl)
theorem V_icmp_lt (hG : Cx E G cc nL ret own rm0) {x y : Int32} {off : Int} (tgt : Nat) (d : decode cc pc = .ok (.if_icmp .lt off, 3)) (ht : (pc : Int) + off = (tgt : Int)) (kt : x < y → V E G M cells slots nL tgt lv st Q) (kf : ¬ x < y → V E G M cells slots nL (pc + 3) lv st Q) : V E G M cells slots nL pc lv (.int y :: .int x :: st) Q := by
  obtain ⟨p, e, R, s, m, args, below, meth, c⟩ := G
  obtain ⟨hx, hb, hml, hown, hts, hr, hlk, hRm, hK, hbs, hKs⟩ := hG
  intro H locs ls hR hS hl
  exact lv_icmp_lt hx hb d ht (fun h => kt h H locs ls hR hS hl) (fun h => kf h H locs ls hR hS hl)
theorem V_if_ge (hG : Cx E G cc nL ret own rm0) {x : Int32} {off : Int} (tgt : Nat) (d : decode cc pc = .ok (.ifCond .ge off, 3)) (ht : (pc : Int) + off = (tgt : Int)) (kt : 0 ≤ x → V E G M cells slots nL tgt lv st Q) (kf : ¬ 0 ≤ x → V E G M cells slots nL (pc + 3) lv st Q) : V E G M cells slots nL pc lv (.int x :: st) Q := by
  obtain ⟨p, e, R, s, m, args, below, meth, c⟩ := G
  obtain ⟨hx, hb, hml, hown, hts, hr, hlk, hRm, hK, hbs, hKs⟩ := hG
  intro H locs ls hR hS hl
  exact lv_if_ge hx hb d ht (fun h => kt h H locs ls hR hS hl) (fun h => kf h H locs ls hR hS hl)
theorem V_icmp_ge (hG : Cx E G cc nL ret own rm0) {x y : Int32} {off : Int} (tgt : Nat) (d : decode cc pc = .ok (.if_icmp .ge off, 3)) (ht : (pc : Int) + off = (tgt : Int)) (kt : y ≤ x → V E G M cells slots nL tgt lv st Q) (kf : ¬ y ≤ x → V E G M cells slots nL (pc + 3) lv st Q) : V E G M cells slots nL pc lv (.int y :: .int x :: st) Q := by
  obtain ⟨p, e, R, s, m, args, below, meth, c⟩ := G
  obtain ⟨hx, hb, hml, hown, hts, hr, hlk, hRm, hK, hbs, hKs⟩ := hG
  intro H locs ls hR hS hl
  exact lv_icmp_ge hx hb d ht (fun h => kt h H locs ls hR hS hl) (fun h => kf h H locs ls hR hS hl)
theorem V_if_gt (hG : Cx E G cc nL ret own rm0) {x : Int32} {off : Int} (tgt : Nat) (d : decode cc pc = .ok (.ifCond .gt off, 3)) (ht : (pc : Int) + off = (tgt : Int)) (kt : 0 < x → V E G M cells slots nL tgt lv st Q) (kf : ¬ 0 < x → V E G M cells slots nL (pc + 3) lv st Q) : V E G M cells slots nL pc lv (.int x :: st) Q := by
  obtain ⟨p, e, R, s, m, args, below, meth, c⟩ := G
  obtain ⟨hx, hb, hml, hown, hts, hr, hlk, hRm, hK, hbs, hKs⟩ := hG
  intro H locs ls hR hS hl
  exact lv_if_gt hx hb d ht (fun h => kt h H locs ls hR hS hl) (fun h => kf h H locs ls hR hS hl)
theorem V_icmp_gt (hG : Cx E G cc nL ret own rm0) {x y : Int32} {off : Int} (tgt : Nat) (d : decode cc pc = .ok (.if_icmp .gt off, 3)) (ht : (pc : Int) + off = (tgt : Int)) (kt : y < x → V E G M cells slots nL tgt lv st Q) (kf : ¬ y < x → V E G M cells slots nL (pc + 3) lv st Q) : V E G M cells slots nL pc lv (.int y :: .int x :: st) Q := by
  obtain ⟨p, e, R, s, m, args, below, meth, c⟩ := G
  obtain ⟨hx, hb, hml, hown, hts, hr, hlk, hRm, hK, hbs, hKs⟩ := hG
  intro H locs ls hR hS hl
  exact lv_icmp_gt hx hb d ht (fun h => kt h H locs ls hR hS hl) (fun h => kf h H locs ls hR hS hl)
theorem V_if_le (hG : Cx E G cc nL ret own rm0) {x : Int32} {off : Int} (tgt : Nat) (d : decode cc pc = .ok (.ifCond .le off, 3)) (ht : (pc : Int) + off = (tgt : Int)) (kt : x ≤ 0 → V E G M cells slots nL tgt lv st Q) (kf : ¬ x ≤ 0 → V E G M cells slots nL (pc + 3) lv st Q) : V E G M cells slots nL pc lv (.int x :: st) Q := by
  obtain ⟨p, e, R, s, m, args, below, meth, c⟩ := G
  obtain ⟨hx, hb, hml, hown, hts, hr, hlk, hRm, hK, hbs, hKs⟩ := hG
  intro H locs ls hR hS hl
  exact lv_if_le hx hb d ht (fun h => kt h H locs ls hR hS hl) (fun h => kf h H locs ls hR hS hl)
theorem V_icmp_le (hG : Cx E G cc nL ret own rm0) {x y : Int32} {off : Int} (tgt : Nat) (d : decode cc pc = .ok (.if_icmp .le off, 3)) (ht : (pc : Int) + off = (tgt : Int)) (kt : x ≤ y → V E G M cells slots nL tgt lv st Q) (kf : ¬ x ≤ y → V E G M cells slots nL (pc + 3) lv st Q) : V E G M cells slots nL pc lv (.int y :: .int x :: st) Q := by
  obtain ⟨p, e, R, s, m, args, below, meth, c⟩ := G
  obtain ⟨hx, hb, hml, hown, hts, hr, hlk, hRm, hK, hbs, hKs⟩ := hG
  intro H locs ls hR hS hl
  exact lv_icmp_le hx hb d ht (fun h => kt h H locs ls hR hS hl) (fun h => kf h H locs ls hR hS hl)
theorem V_goto (hG : Cx E G cc nL ret own rm0) {off : Int} (tgt : Nat) (d : decode cc pc = .ok (.goto off, 3)) (ht : (pc : Int) + off = (tgt : Int)) (k : V E G M cells slots nL tgt lv st Q) : V E G M cells slots nL pc lv (st) Q := by
  obtain ⟨p, e, R, s, m, args, below, meth, c⟩ := G
  obtain ⟨hx, hb, hml, hown, hts, hr, hlk, hRm, hK, hbs, hKs⟩ := hG
  intro H locs ls hR hS hl
  exact lv_goto hx hb d ht (k H locs ls hR hS hl)
theorem V_tableOut (hG : Cx E G cc nL ret own rm0) {dflt lo hi : Int} {offs : Array Int} {len : Nat} {x : Int32} (tgt : Nat) (d : decode cc pc = .ok (.tableswitch dflt lo hi offs, len)) (h : x.toInt < lo ∨ hi < x.toInt) (ht : (pc : Int) + dflt = (tgt : Int)) (k : V E G M cells slots nL tgt lv st Q) : V E G M cells slots nL pc lv (.int x :: st) Q := by
  obtain ⟨p, e, R, s, m, args, below, meth, c⟩ := G
  obtain ⟨hx, hb, hml, hown, hts, hr, hlk, hRm, hK, hbs, hKs⟩ := hG
  intro H locs ls hR hS hl
  exact lv_tableOut hx hb d h ht (k H locs ls hR hS hl)
theorem V_tableIn (hG : Cx E G cc nL ret own rm0) {dflt lo hi : Int} {offs : Array Int} {len : Nat} {x : Int32} {off : Int} (tgt : Nat) (d : decode cc pc = .ok (.tableswitch dflt lo hi offs, len)) (h1 : ¬ x.toInt < lo) (h2 : ¬ hi < x.toInt) (ho : offs[(x.toInt - lo).toNat]? = some off) (ht : (pc : Int) + off = (tgt : Int)) (k : V E G M cells slots nL tgt lv st Q) : V E G M cells slots nL pc lv (.int x :: st) Q := by
  obtain ⟨p, e, R, s, m, args, below, meth, c⟩ := G
  obtain ⟨hx, hb, hml, hown, hts, hr, hlk, hRm, hK, hbs, hKs⟩ := hG
  intro H locs ls hR hS hl
  exact lv_tableIn hx hb d h1 h2 ho ht (k H locs ls hR hS hl)
theorem V_lookup (hG : Cx E G cc nL ret own rm0) {dflt : Int} {ps : Array (Int × Int)} {len : Nat} {x : Int32} {off : Int} (tgt : Nat) (d : decode cc pc = .ok (.lookupswitch dflt ps, len)) (hp : (ps.toList.zip (ps.toList.drop 1)).all (fun (a, next) => a.1 < next.1) = true) (ho : Op.lookupswitch.offset ps.toList dflt x.toInt = off) (ht : (pc : Int) + off = (tgt : Int)) (k : V E G M cells slots nL tgt lv st Q) : V E G M cells slots nL pc lv (.int x :: st) Q := by
  obtain ⟨p, e, R, s, m, args, below, meth, c⟩ := G
  obtain ⟨hx, hb, hml, hown, hts, hr, hlk, hRm, hK, hbs, hKs⟩ := hG
  intro H locs ls hR hS hl
  exact lv_lookup hx hb d hp ho ht (k H locs ls hR hS hl)
theorem V_iret (hG : Cx E G cc nL (some .int) own rm0) {v : Int32} (d : decode cc pc = .ok (.ireturn, 1)) : V E G M cells slots nL pc lv [.int v] (QM E G (some (.int v)) M cells slots) := by
  obtain ⟨p, e, R, s, m, args, below, meth, c⟩ := G
  obtain ⟨hx, hb, hml, hown, hts, hr, hlk, hRm, hK, hbs, hKs⟩ := hG
  intro H locs ls hR hS hl
  exact W.iret (v := v) hx hb hr (fun t ht hW => ⟨⟨rfl, by rw [ht]; exact hR⟩, hS.F ht⟩) hS.2.2 d hlk
theorem V_zret (hG : Cx E G cc nL (some .boolean) own rm0) {v : Int32} (h : v = 0 ∨ v = 1) (d : decode cc pc = .ok (.ireturn, 1)) : V E G M cells slots nL pc lv [.int v] (QM E G (some (.int v)) M cells slots) := by
  obtain ⟨p, e, R, s, m, args, below, meth, c⟩ := G
  obtain ⟨hx, hb, hml, hown, hts, hr, hlk, hRm, hK, hbs, hKs⟩ := hG
  intro H locs ls hR hS hl
  exact W.zret (v := v) hx hb hr (by rcases h with rfl | rfl <;> rfl) (fun t ht hW => ⟨⟨rfl, by rw [ht]; exact hR⟩, hS.F ht⟩) hS.2.2 d hlk
theorem V_lret (hG : Cx E G cc nL (some .long) own rm0) {v : Int64} (d : decode cc pc = .ok (.lreturn, 1)) : V E G M cells slots nL pc lv [.long v] (QM E G (some (.long v)) M cells slots) := by
  obtain ⟨p, e, R, s, m, args, below, meth, c⟩ := G
  obtain ⟨hx, hb, hml, hown, hts, hr, hlk, hRm, hK, hbs, hKs⟩ := hG
  intro H locs ls hR hS hl
  exact W.lret (v := v) hx hb hr (fun t ht hW => ⟨⟨rfl, by rw [ht]; exact hR⟩, hS.F ht⟩) hS.2.2 d hlk
theorem V_vret (hG : Cx E G cc nL none own rm0)  (d : decode cc pc = .ok (.return_, 1)) : V E G M cells slots nL pc lv [] (QM E G none M cells slots) := by
  obtain ⟨p, e, R, s, m, args, below, meth, c⟩ := G
  obtain ⟨hx, hb, hml, hown, hts, hr, hlk, hRm, hK, hbs, hKs⟩ := hG
  intro H locs ls hR hS hl
  exact W.vret hx hb hr (fun t ht hW => ⟨⟨rfl, by rw [ht]; exact hR⟩, hS.F ht⟩) hS.2.2 d hlk
theorem V_aret {rt : String} (hG : Cx E G cc nL (some (.object rt)) own rm0) {v : Value} (hv : v = .null ∨ ∃ a, v = .ref a) (d : decode cc pc = .ok (.areturn, 1)) : V E G M cells slots nL pc lv [v] (QM E G (some v) M cells slots) := by
  obtain ⟨p, e, R, s, m, args, below, meth, c⟩ := G
  obtain ⟨hx, hb, hml, hown, hts, hr, hlk, hRm, hK, hbs, hKs⟩ := hG
  intro H locs ls hR hS hl
  exact W.aret (v := v) hx hb hr (Or.inl ⟨_, rfl⟩) hv (fun t ht hW => ⟨⟨rfl, by rw [ht]; exact hR⟩, hS.F ht⟩) hS.2.2 d hlk
theorem setSlot_size (c : Cell) (k : Nat) (v : Value) : (c.setSlot k v).slots.size = c.slots.size := by
  simp [Cell.setSlot]
theorem Rep.sz {E : En} {M : Mem} {H : Heap} {a : Nat} {cell : Cell} (hR : Rep E M H) (ha : a < mN M) (hc : H[E.2.1 + a]? = some cell) : cell.slots.size = mLn M a := by
  obtain ⟨e, -, -, c2, h1, h2⟩ := hR.2.2 a ha
  rw [hc] at h1
  cases h1
  exact h2
theorem CellM_congr {E : En} {M M' : Mem} {a : Nat} {e : va_E} (hT : mT M' a = mT M a) (hn : mLn M' a = mLn M a) (hI : mI M' a = mI M a) (hL : mL M' a = mL M a) (hR : mR M' a = mR M a) (h : CellM E M a e) : CellM E M' a e := by
  unfold CellM fv aC at *
  rw [hT, hn, hI, hL, hR]
  exact h
theorem Rep_set {E : En} {M M' : Mem} {H H1 : Heap} {a : Nat} {e : va_E} (hR : Rep E M H) (z : H1.size = H.size) (oq : ∀ q : Nat, q ≠ E.2.1 + a → H1[q]? = H[q]?) (hn : mN M' = mN M) (hT : mT M' = mT M) (hln : mLn M' = mLn M) (hI : ∀ b, b ≠ a → mI M' b = mI M b) (hL : ∀ b, b ≠ a → mL M' b = mL M b) (hRr : ∀ b, b ≠ a → mR M' b = mR M b) (he : va_at E.2.2.1 vwCl (E.2.1 + a, e) H1) (hc : CellM E M' a e) (hz : SzAt H1 (E.2.1 + a) (mLn M a)) : Rep E M' H1 := by
  obtain ⟨h1, h2, h3⟩ := hR
  refine ⟨by rw [z, h1, hn], fun b hb => by rw [hT]; exact h2 b (by rw [← hn]; exact hb), fun b hb => ?_⟩
  by_cases hba : b = a
  · subst hba
    exact ⟨e, Or.inr he, hc, by rw [hln]; exact hz⟩
  · obtain ⟨e1, g1, g2, cell, g3, g4⟩ := h3 b (by rw [← hn]; exact hb)
    have g5 := oq _ (fun h => hba (Nat.add_left_cancel h))
    exact ⟨e1, g1.imp (fun h => by rw [hT]; exact h) (fun h => h.kept g5), CellM_congr (by rw [hT]) (by rw [hln]) (hI b hba) (hL b hba) (hRr b hba) g2, cell, by rw [g5]; exact g3, by rw [hln]; exact g4⟩
theorem Rep.lt {E : En} {M : Mem} {H : Heap} {a t : Nat} (hR : Rep E M H) (hT : mT M a = t) (h99 : t ≠ 99) : a < mN M := by
  rcases Nat.lt_or_ge a (mN M) with h | h
  · exact h
  · exact absurd ((hR.2.1 a h).symm.trans hT).symm h99
theorem Rep.obj {E : En} {M : Mem} {H : Heap} {a ci : Nat} (hR : Rep E M H) (hT : mT M a = ci) (h99 : ci < 98) : ∃ fs, va_at E.2.2.1 vwCl (E.2.1 + a, .inr (ci, fs)) H ∧ fs.length = (kd ci).length ∧ ∀ k kk, (kd ci)[k]? = some kk → kk < 3 → fs[k]? = some (fv E M a k kk) := by
  obtain ⟨e, h1, h2, -⟩ := hR.2.2 a (hR.lt hT (by omega))
  unfold CellM at h2
  rw [hT, if_neg (by omega), if_pos (by omega)] at h2
  obtain ⟨fs, rfl, h3, h4⟩ := h2
  exact ⟨fs, h1.resolve_left (by rw [hT]; omega), h3, h4⟩
theorem Rep.arr {E : En} {M : Mem} {H : Heap} {a t : Nat} (hR : Rep E M H) (hT : mT M a = 100 + t) : H[E.2.1 + a]? = some (vp_cell (E.2.2.2.1 t) (aC E M a t)) := by
  obtain ⟨e, h1, h2, -⟩ := hR.2.2 a (hR.lt hT (by omega))
  unfold CellM at h2
  rw [hT, if_neg (by omega), if_neg (by omega), show 100 + t - 100 = t by omega] at h2
  subst h2
  exact h1.resolve_left (by rw [hT]; omega)
theorem u2_ne {α : Type} {f : Nat → Nat → α} {a k b : Nat} {v : α} (h : b ≠ a) : u2 f a k v b = f b := by
  funext y
  simp [u2, h]
theorem u2_upd {f : Nat → Nat → Int32} {a k : Nat} {v : Int32} : u2 f a k v a = upd (f a) k v := by
  funext y
  simp [u2, upd]
theorem u2_updL {f : Nat → Nat → Int64} {a k : Nat} {v : Int64} : u2 f a k v a = vp_updL (f a) k v := by
  funext y
  simp [u2, vp_updL]
theorem oneP {D : va_G} {cl : List vw_C} {q : Nat × va_E} {H : Heap} (h : va_at D cl q H) : va_P D cl [q] H := by
  intro k x hx
  have hz : k < 1 := (List.getElem?_eq_some_iff.mp hx).1
  rw [show k = 0 by omega] at hx
  cases hx
  exact h
theorem V_getI (hG : Cx E G cc nL ret own rm0) {a ci k idx N : Nat} {C : String} {T : u_T} (hT : mT M a = ci) (h99 : ci < 98) (hc : vwCl[ci]? = some (C, T, N)) (hin : ∀ w ∈ u_ws C T N, w ∈ lw_all) (hk : k < N) (hkd : (kd ci)[k]? = some 0) (q : Cond.fieldLink own idx (T k).1 (T k).2.1 (T k).2.2.1 ∈ lw_all) (d : decode cc pc = .ok (.getfield idx, 3)) (kk : V E G M cells slots nL (pc + 3) lv (.int (mI M a k) :: st) Q) : V E G M cells slots nL pc lv (rf E a :: st) Q := by
  obtain ⟨p, e, R, s, m, args, below, meth, c⟩ := G
  obtain ⟨hx, hb, hml, hown, hts, hr, hlk, hRm, hK, hbs, hKs⟩ := hG
  intro H locs ls hR hS hl
  obtain ⟨fs, g1, g2, g3⟩ := hR.obj hT h99
  exact va_get (D := E.2.2.1) (ci := ci) (v := fv E M a k 0) (C := C) (T := T) (N := N) hx hb hts hin hown hK (oneP g1) 0 rfl hc k hk (hts _ q) (fun _ h9 => h9) (g3 k 0 hkd (by decide)) d (kk H locs ls hR hS hl)
theorem V_getL (hG : Cx E G cc nL ret own rm0) {a ci k idx N : Nat} {C : String} {T : u_T} (hT : mT M a = ci) (h99 : ci < 98) (hc : vwCl[ci]? = some (C, T, N)) (hin : ∀ w ∈ u_ws C T N, w ∈ lw_all) (hk : k < N) (hkd : (kd ci)[k]? = some 1) (q : Cond.fieldLink own idx (T k).1 (T k).2.1 (T k).2.2.1 ∈ lw_all) (d : decode cc pc = .ok (.getfield idx, 3)) (kk : V E G M cells slots nL (pc + 3) lv (.long (mL M a k) :: st) Q) : V E G M cells slots nL pc lv (rf E a :: st) Q := by
  obtain ⟨p, e, R, s, m, args, below, meth, c⟩ := G
  obtain ⟨hx, hb, hml, hown, hts, hr, hlk, hRm, hK, hbs, hKs⟩ := hG
  intro H locs ls hR hS hl
  obtain ⟨fs, g1, g2, g3⟩ := hR.obj hT h99
  exact va_get (D := E.2.2.1) (ci := ci) (v := fv E M a k 1) (C := C) (T := T) (N := N) hx hb hts hin hown hK (oneP g1) 0 rfl hc k hk (hts _ q) (fun _ h9 => h9) (g3 k 1 hkd (by decide)) d (kk H locs ls hR hS hl)
theorem V_getQ (hG : Cx E G cc nL ret own rm0) {a ci k idx N : Nat} {C : String} {T : u_T} (hT : mT M a = ci) (h99 : ci < 98) (hc : vwCl[ci]? = some (C, T, N)) (hin : ∀ w ∈ u_ws C T N, w ∈ lw_all) (hk : k < N) (hkd : (kd ci)[k]? = some 2) (q : Cond.fieldLink own idx (T k).1 (T k).2.1 (T k).2.2.1 ∈ lw_all) (d : decode cc pc = .ok (.getfield idx, 3)) (kk : V E G M cells slots nL (pc + 3) lv (rq E (mR M a k) :: st) Q) : V E G M cells slots nL pc lv (rf E a :: st) Q := by
  obtain ⟨p, e, R, s, m, args, below, meth, c⟩ := G
  obtain ⟨hx, hb, hml, hown, hts, hr, hlk, hRm, hK, hbs, hKs⟩ := hG
  intro H locs ls hR hS hl
  obtain ⟨fs, g1, g2, g3⟩ := hR.obj hT h99
  exact va_get (D := E.2.2.1) (ci := ci) (v := fv E M a k 2) (C := C) (T := T) (N := N) hx hb hts hin hown hK (oneP g1) 0 rfl hc k hk (hts _ q) (fun _ h9 => h9) (g3 k 2 hkd (by decide)) d (kk H locs ls hR hS hl)
theorem V_getR (hG : Cx E G cc nL ret own rm0) {a ci k idx N : Nat} {C : String} {T : u_T} (hT : mT M a = ci) (h99 : ci < 98) (hc : vwCl[ci]? = some (C, T, N)) (hin : ∀ w ∈ u_ws C T N, w ∈ lw_all) (hk : k < N) {r : Nat} (hr9 : mR M a k = some r) (hkd : (kd ci)[k]? = some 2) (q : Cond.fieldLink own idx (T k).1 (T k).2.1 (T k).2.2.1 ∈ lw_all) (d : decode cc pc = .ok (.getfield idx, 3)) (kk : V E G M cells slots nL (pc + 3) lv (rf E r :: st) Q) : V E G M cells slots nL pc lv (rf E a :: st) Q := V_getQ hG hT h99 hc hin hk hkd q d (by rw [hr9]; exact kk)
theorem fv_set {E : En} {M M' : Mem} {a ci k : Nat} {fs : List Value} {kk0 : Nat} {v : Value} (g2 : fs.length = (kd ci).length) (g3 : ∀ j kk, (kd ci)[j]? = some kk → kk < 3 → fs[j]? = some (fv E M a j kk)) (hkd : (kd ci)[k]? = some kk0) (hv : v = fv E M' a k kk0) (ho : ∀ j kk, j ≠ k → fv E M' a j kk = fv E M a j kk) : (fs.set k v).length = (kd ci).length ∧ ∀ j kk, (kd ci)[j]? = some kk → kk < 3 → (fs.set k v)[j]? = some (fv E M' a j kk) := by
  refine ⟨by rw [List.length_set]; exact g2, fun j kk h1 h2 => ?_⟩
  by_cases hj : j = k
  · subst hj
    have e : kk0 = kk := Option.some.inj (hkd.symm.trans h1)
    subst e
    have hl : j < fs.length := by rw [g2]; exact (List.getElem?_eq_some_iff.mp hkd).1
    rw [List.getElem?_set_self hl, hv]
  · rw [List.getElem?_set_ne (fun h => hj h.symm), ho j kk hj]
    exact g3 j kk h1 h2
theorem fvI_ne {E : En} {M : Mem} {a k : Nat} {v : Int32} (j kk : Nat) (h : j ≠ k) : fv E (sI M a k v) a j kk = fv E M a j kk := by
  unfold fv
  split <;> simp [sI, mI, mL, mR, u2, h]
theorem fvL_ne {E : En} {M : Mem} {a k : Nat} {v : Int64} (j kk : Nat) (h : j ≠ k) : fv E (sL M a k v) a j kk = fv E M a j kk := by
  unfold fv
  split <;> simp [sL, mI, mL, mR, u2, h]
theorem fvR_ne {E : En} {M : Mem} {a k : Nat} {v : Option Nat} (j kk : Nat) (h : j ≠ k) : fv E (sR M a k v) a j kk = fv E M a j kk := by
  unfold fv
  split <;> simp [sR, mI, mL, mR, u2, h]
theorem sI_self {M : Mem} {a k : Nat} {v : Int32} : mI (sI M a k v) a k = v := by simp [sI, mI, u2]
theorem sL_self {M : Mem} {a k : Nat} {v : Int64} : mL (sL M a k v) a k = v := by simp [sL, mL, u2]
theorem sR_self {M : Mem} {a k : Nat} {v : Option Nat} : mR (sR M a k v) a k = v := by simp [sR, mR, u2]
def IsInit (G : Ctx) : Prop := G.2.2.2.2.2.2.2.1.name = "<init>"
theorem V_putI (hG : Cx E G cc nL ret own rm0) {a ci k idx N : Nat} {C : String} {T : u_T} (hT : mT M a = ci) (h99 : ci < 98) (hc : vwCl[ci]? = some (C, T, N)) (hin : ∀ w ∈ u_ws C T N, w ∈ lw_all) (hk : k < N) (ty0 : Nat → FieldType) (hty : ∀ k, k < N → parseFieldDescriptor (T k).2.2.1 = some (ty0 k)) (hnm : ∀ a, a < N → ∀ b, b < N → a ≠ b → (T a).2.1 ≠ (T b).2.1) (hfin : (T k).2.2.2 = false) {x : Int32} (hd : parseFieldDescriptor (T k).2.2.1 = some .int) (hkd : (kd ci)[k]? = some 0) (q : Cond.fieldLink own idx (T k).1 (T k).2.1 (T k).2.2.1 ∈ lw_all) (d : decode cc pc = .ok (.putfield idx, 3)) (kk : V E G (sI M a k x) cells slots nL (pc + 3) lv st Q) : V E G M cells slots nL pc lv (.int x :: rf E a :: st) Q := by
  obtain ⟨p, e, R, s, m, args, below, meth, c⟩ := G
  obtain ⟨hx, hb, hml, hown, hts, hr, hlk, hRm, hK, hbs, hKs⟩ := hG
  intro H locs ls hR hS hl
  obtain ⟨fs, g1, g2, g3⟩ := hR.obj hT h99
  have hl9 : k < fs.length := by rw [g2]; exact (List.getElem?_eq_some_iff.mp hkd).1
  have hap := va_apart (own := own) hts hin ty0 hty hnm hK hc
  obtain ⟨r, h1, cell, q1, q2, q3, q4⟩ := g1
  have hr9 : r = (C, T, N) := Option.some.inj (h1.symm.trans hc)
  subst hr9
  obtain ⟨hSl, hfc, kC, hkC, hkind⟩ := hK.1 ci _ hc
  obtain ⟨cf, kf, fi, f, hi, hsl⟩ := hSl k hk
  have hlay := hts _ (hin _ (u_in_lay hk))
  unfold u_lay at hlay
  rw [if_neg (by rw [hfin]; decide)] at hlay
  have hst := (u_facts hfc hkC (u_lays hts hin hk) hi).1
  have h6 := u_store (v := .int x) hfc hkC hkind hlay hi hd rfl rfl
  refine W.putK hx hb (f := f) ⟨hown, hts _ q, ⟨_, _, _, hi⟩, hst⟩ (by rw [q2]; exact h6) q1 q3 (by rw [hsl]; exact k2_hasslot (q4 k hk)) rfl rfl d fun H' e1 e2 e3 => ?_
  rw [hsl] at e1 ⊢
  have g4 := fv_set (E := E) (M := M) (M' := sI M a k x) (a := a) (ci := ci) (v := .int x) g2 g3 hkd (by show _ = Value.int _; rw [sI_self]) (fun j kk h => fvI_ne j kk h)
  refine kk H' _ ls (Rep_set (a := a) (e := .inr (ci, fs.set k (.int x))) hR e2 e3 rfl rfl rfl (fun b hb => u2_ne hb) (fun b hb => rfl) (fun b hb => rfl) ⟨_, hc, t_OB.to (V := updV (vp_V fs) k (.int x)) ⟨_, e1, q2, q3, t_set q4 hap hk _⟩ (fun j _ => vp_updV_set hl9 _ j)⟩ ?_ ⟨_, e1, by rw [setSlot_size]; exact hR.sz (hR.lt hT (by omega)) q1⟩) (hS.put e2 e3 (Nat.le_add_right _ _)) hl
  unfold CellM
  have hT2 : mT (sI M a k x) a = ci := hT
  rw [hT2, if_neg (by omega), if_pos (by omega)]
  exact ⟨_, rfl, g4.1, g4.2⟩
theorem V_putZ (hG : Cx E G cc nL ret own rm0) {a ci k idx N : Nat} {C : String} {T : u_T} (hT : mT M a = ci) (h99 : ci < 98) (hc : vwCl[ci]? = some (C, T, N)) (hin : ∀ w ∈ u_ws C T N, w ∈ lw_all) (hk : k < N) (ty0 : Nat → FieldType) (hty : ∀ k, k < N → parseFieldDescriptor (T k).2.2.1 = some (ty0 k)) (hnm : ∀ a, a < N → ∀ b, b < N → a ≠ b → (T a).2.1 ≠ (T b).2.1) (hfin : (T k).2.2.2 = false) {x : Int32} (hd : parseFieldDescriptor (T k).2.2.1 = some .boolean) (hx01 : x = 0 ∨ x = 1) (hkd : (kd ci)[k]? = some 0) (q : Cond.fieldLink own idx (T k).1 (T k).2.1 (T k).2.2.1 ∈ lw_all) (d : decode cc pc = .ok (.putfield idx, 3)) (kk : V E G (sI M a k x) cells slots nL (pc + 3) lv st Q) : V E G M cells slots nL pc lv (.int x :: rf E a :: st) Q := by
  obtain ⟨p, e, R, s, m, args, below, meth, c⟩ := G
  obtain ⟨hx, hb, hml, hown, hts, hr, hlk, hRm, hK, hbs, hKs⟩ := hG
  intro H locs ls hR hS hl
  obtain ⟨fs, g1, g2, g3⟩ := hR.obj hT h99
  have hl9 : k < fs.length := by rw [g2]; exact (List.getElem?_eq_some_iff.mp hkd).1
  have hap := va_apart (own := own) hts hin ty0 hty hnm hK hc
  obtain ⟨r, h1, cell, q1, q2, q3, q4⟩ := g1
  have hr9 : r = (C, T, N) := Option.some.inj (h1.symm.trans hc)
  subst hr9
  obtain ⟨hSl, hfc, kC, hkC, hkind⟩ := hK.1 ci _ hc
  obtain ⟨cf, kf, fi, f, hi, hsl⟩ := hSl k hk
  have hlay := hts _ (hin _ (u_in_lay hk))
  unfold u_lay at hlay
  rw [if_neg (by rw [hfin]; decide)] at hlay
  have hst := (u_facts hfc hkC (u_lays hts hin hk) hi).1
  have h6 := u_store (v := .int x) hfc hkC hkind hlay hi hd (by rcases hx01 with rfl | rfl <;> rfl) (by rcases hx01 with rfl | rfl <;> rfl)
  refine W.putK hx hb (f := f) ⟨hown, hts _ q, ⟨_, _, _, hi⟩, hst⟩ (by rw [q2]; exact h6) q1 q3 (by rw [hsl]; exact k2_hasslot (q4 k hk)) rfl rfl d fun H' e1 e2 e3 => ?_
  rw [hsl] at e1 ⊢
  have g4 := fv_set (E := E) (M := M) (M' := sI M a k x) (a := a) (ci := ci) (v := .int x) g2 g3 hkd (by show _ = Value.int _; rw [sI_self]) (fun j kk h => fvI_ne j kk h)
  refine kk H' _ ls (Rep_set (a := a) (e := .inr (ci, fs.set k (.int x))) hR e2 e3 rfl rfl rfl (fun b hb => u2_ne hb) (fun b hb => rfl) (fun b hb => rfl) ⟨_, hc, t_OB.to (V := updV (vp_V fs) k (.int x)) ⟨_, e1, q2, q3, t_set q4 hap hk _⟩ (fun j _ => vp_updV_set hl9 _ j)⟩ ?_ ⟨_, e1, by rw [setSlot_size]; exact hR.sz (hR.lt hT (by omega)) q1⟩) (hS.put e2 e3 (Nat.le_add_right _ _)) hl
  unfold CellM
  have hT2 : mT (sI M a k x) a = ci := hT
  rw [hT2, if_neg (by omega), if_pos (by omega)]
  exact ⟨_, rfl, g4.1, g4.2⟩
theorem V_putL (hG : Cx E G cc nL ret own rm0) {a ci k idx N : Nat} {C : String} {T : u_T} (hT : mT M a = ci) (h99 : ci < 98) (hc : vwCl[ci]? = some (C, T, N)) (hin : ∀ w ∈ u_ws C T N, w ∈ lw_all) (hk : k < N) (ty0 : Nat → FieldType) (hty : ∀ k, k < N → parseFieldDescriptor (T k).2.2.1 = some (ty0 k)) (hnm : ∀ a, a < N → ∀ b, b < N → a ≠ b → (T a).2.1 ≠ (T b).2.1) (hfin : (T k).2.2.2 = false) {x : Int64} (hd : parseFieldDescriptor (T k).2.2.1 = some .long) (hkd : (kd ci)[k]? = some 1) (q : Cond.fieldLink own idx (T k).1 (T k).2.1 (T k).2.2.1 ∈ lw_all) (d : decode cc pc = .ok (.putfield idx, 3)) (kk : V E G (sL M a k x) cells slots nL (pc + 3) lv st Q) : V E G M cells slots nL pc lv (.long x :: rf E a :: st) Q := by
  obtain ⟨p, e, R, s, m, args, below, meth, c⟩ := G
  obtain ⟨hx, hb, hml, hown, hts, hr, hlk, hRm, hK, hbs, hKs⟩ := hG
  intro H locs ls hR hS hl
  obtain ⟨fs, g1, g2, g3⟩ := hR.obj hT h99
  have hl9 : k < fs.length := by rw [g2]; exact (List.getElem?_eq_some_iff.mp hkd).1
  have hap := va_apart (own := own) hts hin ty0 hty hnm hK hc
  obtain ⟨r, h1, cell, q1, q2, q3, q4⟩ := g1
  have hr9 : r = (C, T, N) := Option.some.inj (h1.symm.trans hc)
  subst hr9
  obtain ⟨hSl, hfc, kC, hkC, hkind⟩ := hK.1 ci _ hc
  obtain ⟨cf, kf, fi, f, hi, hsl⟩ := hSl k hk
  have hlay := hts _ (hin _ (u_in_lay hk))
  unfold u_lay at hlay
  rw [if_neg (by rw [hfin]; decide)] at hlay
  have hst := (u_facts hfc hkC (u_lays hts hin hk) hi).1
  have h6 := u_store (v := .long x) hfc hkC hkind hlay hi hd rfl rfl
  refine W.putK hx hb (f := f) ⟨hown, hts _ q, ⟨_, _, _, hi⟩, hst⟩ (by rw [q2]; exact h6) q1 q3 (by rw [hsl]; exact k2_hasslot (q4 k hk)) rfl rfl d fun H' e1 e2 e3 => ?_
  rw [hsl] at e1 ⊢
  have g4 := fv_set (E := E) (M := M) (M' := sL M a k x) (a := a) (ci := ci) (v := .long x) g2 g3 hkd (by show _ = Value.long _; rw [sL_self]) (fun j kk h => fvL_ne j kk h)
  refine kk H' _ ls (Rep_set (a := a) (e := .inr (ci, fs.set k (.long x))) hR e2 e3 rfl rfl rfl (fun b hb => rfl) (fun b hb => u2_ne hb) (fun b hb => rfl) ⟨_, hc, t_OB.to (V := updV (vp_V fs) k (.long x)) ⟨_, e1, q2, q3, t_set q4 hap hk _⟩ (fun j _ => vp_updV_set hl9 _ j)⟩ ?_ ⟨_, e1, by rw [setSlot_size]; exact hR.sz (hR.lt hT (by omega)) q1⟩) (hS.put e2 e3 (Nat.le_add_right _ _)) hl
  unfold CellM
  have hT2 : mT (sL M a k x) a = ci := hT
  rw [hT2, if_neg (by omega), if_pos (by omega)]
  exact ⟨_, rfl, g4.1, g4.2⟩
theorem V_putQ (hG : Cx E G cc nL ret own rm0) {a ci k idx N : Nat} {C : String} {T : u_T} (hT : mT M a = ci) (h99 : ci < 98) (hc : vwCl[ci]? = some (C, T, N)) (hin : ∀ w ∈ u_ws C T N, w ∈ lw_all) (hk : k < N) (ty0 : Nat → FieldType) (hty : ∀ k, k < N → parseFieldDescriptor (T k).2.2.1 = some (ty0 k)) (hnm : ∀ a, a < N → ∀ b, b < N → a ≠ b → (T a).2.1 ≠ (T b).2.1) (hfin : (T k).2.2.2 = false) {x : Option Nat} {ty : FieldType} (hd : parseFieldDescriptor (T k).2.2.1 = some ty) (hty9 : (∃ c, ty = .object c) ∨ ∃ t, ty = .array t) (hkd : (kd ci)[k]? = some 2) (q : Cond.fieldLink own idx (T k).1 (T k).2.1 (T k).2.2.1 ∈ lw_all) (d : decode cc pc = .ok (.putfield idx, 3)) (kk : V E G (sR M a k x) cells slots nL (pc + 3) lv st Q) : V E G M cells slots nL pc lv (rq E x :: rf E a :: st) Q := by
  obtain ⟨p, e, R, s, m, args, below, meth, c⟩ := G
  obtain ⟨hx, hb, hml, hown, hts, hr, hlk, hRm, hK, hbs, hKs⟩ := hG
  intro H locs ls hR hS hl
  obtain ⟨fs, g1, g2, g3⟩ := hR.obj hT h99
  have hl9 : k < fs.length := by rw [g2]; exact (List.getElem?_eq_some_iff.mp hkd).1
  have hap := va_apart (own := own) hts hin ty0 hty hnm hK hc
  obtain ⟨r, h1, cell, q1, q2, q3, q4⟩ := g1
  have hr9 : r = (C, T, N) := Option.some.inj (h1.symm.trans hc)
  subst hr9
  obtain ⟨hSl, hfc, kC, hkC, hkind⟩ := hK.1 ci _ hc
  obtain ⟨cf, kf, fi, f, hi, hsl⟩ := hSl k hk
  have hlay := hts _ (hin _ (u_in_lay hk))
  unfold u_lay at hlay
  rw [if_neg (by rw [hfin]; decide)] at hlay
  have hst := (u_facts hfc hkC (u_lays hts hin hk) hi).1
  have h6 := u_store (v := rq E x) hfc hkC hkind hlay hi hd (by rcases hty9 with ⟨c, rfl⟩ | ⟨t, rfl⟩ <;> cases x <;> rfl) (by rcases hty9 with ⟨c, rfl⟩ | ⟨t, rfl⟩ <;> cases x <;> rfl)
  refine W.putK hx hb (f := f) ⟨hown, hts _ q, ⟨_, _, _, hi⟩, hst⟩ (by rw [q2]; exact h6) q1 q3 (by rw [hsl]; exact k2_hasslot (q4 k hk)) rfl rfl d fun H' e1 e2 e3 => ?_
  rw [hsl] at e1 ⊢
  have g4 := fv_set (E := E) (M := M) (M' := sR M a k x) (a := a) (ci := ci) (v := rq E x) g2 g3 hkd (by show _ = rq E _; rw [sR_self]) (fun j kk h => fvR_ne j kk h)
  refine kk H' _ ls (Rep_set (a := a) (e := .inr (ci, fs.set k (rq E x))) hR e2 e3 rfl rfl rfl (fun b hb => rfl) (fun b hb => rfl) (fun b hb => u2_ne hb) ⟨_, hc, t_OB.to (V := updV (vp_V fs) k (rq E x)) ⟨_, e1, q2, q3, t_set q4 hap hk _⟩ (fun j _ => vp_updV_set hl9 _ j)⟩ ?_ ⟨_, e1, by rw [setSlot_size]; exact hR.sz (hR.lt hT (by omega)) q1⟩) (hS.put e2 e3 (Nat.le_add_right _ _)) hl
  unfold CellM
  have hT2 : mT (sR M a k x) a = ci := hT
  rw [hT2, if_neg (by omega), if_pos (by omega)]
  exact ⟨_, rfl, g4.1, g4.2⟩
theorem V_putIF (hG : Cx E G cc nL ret own rm0) {a ci k idx N : Nat} {C : String} {T : u_T} (hT : mT M a = ci) (h99 : ci < 98) (hc : vwCl[ci]? = some (C, T, N)) (hin : ∀ w ∈ u_ws C T N, w ∈ lw_all) (hk : k < N) (ty0 : Nat → FieldType) (hty : ∀ k, k < N → parseFieldDescriptor (T k).2.2.1 = some (ty0 k)) (hnm : ∀ a, a < N → ∀ b, b < N → a ≠ b → (T a).2.1 ≠ (T b).2.1) (hfin : (T k).2.2.2 = true) (hdecl : (T k).1 = own) (hini : IsInit G) {x : Int32} (hd : parseFieldDescriptor (T k).2.2.1 = some .int) (hkd : (kd ci)[k]? = some 0) (q : Cond.fieldLink own idx (T k).1 (T k).2.1 (T k).2.2.1 ∈ lw_all) (d : decode cc pc = .ok (.putfield idx, 3)) (kk : V E G (sI M a k x) cells slots nL (pc + 3) lv st Q) : V E G M cells slots nL pc lv (.int x :: rf E a :: st) Q := by
  obtain ⟨p, e, R, s, m, args, below, meth, c⟩ := G
  obtain ⟨hx, hb, hml, hown, hts, hr, hlk, hRm, hK, hbs, hKs⟩ := hG
  intro H locs ls hR hS hl
  obtain ⟨fs, g1, g2, g3⟩ := hR.obj hT h99
  have hl9 : k < fs.length := by rw [g2]; exact (List.getElem?_eq_some_iff.mp hkd).1
  have hap := va_apart (own := own) hts hin ty0 hty hnm hK hc
  obtain ⟨r, h1, cell, q1, q2, q3, q4⟩ := g1
  have hr9 : r = (C, T, N) := Option.some.inj (h1.symm.trans hc)
  subst hr9
  obtain ⟨hSl, hfc, kC, hkC, hkind⟩ := hK.1 ci _ hc
  obtain ⟨cf, kf, fi, f, hi, hsl⟩ := hSl k hk
  have hlay := hts _ (hin _ (u_in_lay hk))
  unfold u_lay at hlay
  rw [if_pos hfin] at hlay
  have hst := (u_facts hfc hkC (u_lays hts hin hk) hi).1
  have hcf : m.cls = cf := by
    obtain ⟨_, _, c', _, _, _, -, -, hf', -, -, -, hown2, -⟩ := Cond.laysFinal_spec hlay
    have e1 : c' = cf := by have := hi.symm.trans hf'; simp at this; exact this.1.symm
    rw [hdecl] at hown2
    rw [← e1]; exact Option.some.inj (hown.symm.trans hown2)
  have h6 := u_fits (v := .int x) hfc hkC hkind (Or.inr hlay) hi hd rfl rfl
  refine W.putFinK hx hb hown (hts _ q) hi hst hcf hini (by rw [q2]; exact h6) q1 q3 (by rw [hsl]; exact k2_hasslot (q4 k hk)) rfl rfl d fun H' e1 e2 e3 => ?_
  rw [hsl] at e1 ⊢
  have g4 := fv_set (E := E) (M := M) (M' := sI M a k x) (a := a) (ci := ci) (v := .int x) g2 g3 hkd (by show _ = Value.int _; rw [sI_self]) (fun j kk h => fvI_ne j kk h)
  refine kk H' _ ls (Rep_set (a := a) (e := .inr (ci, fs.set k (.int x))) hR e2 e3 rfl rfl rfl (fun b hb => u2_ne hb) (fun b hb => rfl) (fun b hb => rfl) ⟨_, hc, t_OB.to (V := updV (vp_V fs) k (.int x)) ⟨_, e1, q2, q3, t_set q4 hap hk _⟩ (fun j _ => vp_updV_set hl9 _ j)⟩ ?_ ⟨_, e1, by rw [setSlot_size]; exact hR.sz (hR.lt hT (by omega)) q1⟩) (hS.put e2 e3 (Nat.le_add_right _ _)) hl
  unfold CellM
  have hT2 : mT (sI M a k x) a = ci := hT
  rw [hT2, if_neg (by omega), if_pos (by omega)]
  exact ⟨_, rfl, g4.1, g4.2⟩
theorem V_putZF (hG : Cx E G cc nL ret own rm0) {a ci k idx N : Nat} {C : String} {T : u_T} (hT : mT M a = ci) (h99 : ci < 98) (hc : vwCl[ci]? = some (C, T, N)) (hin : ∀ w ∈ u_ws C T N, w ∈ lw_all) (hk : k < N) (ty0 : Nat → FieldType) (hty : ∀ k, k < N → parseFieldDescriptor (T k).2.2.1 = some (ty0 k)) (hnm : ∀ a, a < N → ∀ b, b < N → a ≠ b → (T a).2.1 ≠ (T b).2.1) (hfin : (T k).2.2.2 = true) (hdecl : (T k).1 = own) (hini : IsInit G) {x : Int32} (hd : parseFieldDescriptor (T k).2.2.1 = some .boolean) (hx01 : x = 0 ∨ x = 1) (hkd : (kd ci)[k]? = some 0) (q : Cond.fieldLink own idx (T k).1 (T k).2.1 (T k).2.2.1 ∈ lw_all) (d : decode cc pc = .ok (.putfield idx, 3)) (kk : V E G (sI M a k x) cells slots nL (pc + 3) lv st Q) : V E G M cells slots nL pc lv (.int x :: rf E a :: st) Q := by
  obtain ⟨p, e, R, s, m, args, below, meth, c⟩ := G
  obtain ⟨hx, hb, hml, hown, hts, hr, hlk, hRm, hK, hbs, hKs⟩ := hG
  intro H locs ls hR hS hl
  obtain ⟨fs, g1, g2, g3⟩ := hR.obj hT h99
  have hl9 : k < fs.length := by rw [g2]; exact (List.getElem?_eq_some_iff.mp hkd).1
  have hap := va_apart (own := own) hts hin ty0 hty hnm hK hc
  obtain ⟨r, h1, cell, q1, q2, q3, q4⟩ := g1
  have hr9 : r = (C, T, N) := Option.some.inj (h1.symm.trans hc)
  subst hr9
  obtain ⟨hSl, hfc, kC, hkC, hkind⟩ := hK.1 ci _ hc
  obtain ⟨cf, kf, fi, f, hi, hsl⟩ := hSl k hk
  have hlay := hts _ (hin _ (u_in_lay hk))
  unfold u_lay at hlay
  rw [if_pos hfin] at hlay
  have hst := (u_facts hfc hkC (u_lays hts hin hk) hi).1
  have hcf : m.cls = cf := by
    obtain ⟨_, _, c', _, _, _, -, -, hf', -, -, -, hown2, -⟩ := Cond.laysFinal_spec hlay
    have e1 : c' = cf := by have := hi.symm.trans hf'; simp at this; exact this.1.symm
    rw [hdecl] at hown2
    rw [← e1]; exact Option.some.inj (hown.symm.trans hown2)
  have h6 := u_fits (v := .int x) hfc hkC hkind (Or.inr hlay) hi hd (by rcases hx01 with rfl | rfl <;> rfl) (by rcases hx01 with rfl | rfl <;> rfl)
  refine W.putFinK hx hb hown (hts _ q) hi hst hcf hini (by rw [q2]; exact h6) q1 q3 (by rw [hsl]; exact k2_hasslot (q4 k hk)) rfl rfl d fun H' e1 e2 e3 => ?_
  rw [hsl] at e1 ⊢
  have g4 := fv_set (E := E) (M := M) (M' := sI M a k x) (a := a) (ci := ci) (v := .int x) g2 g3 hkd (by show _ = Value.int _; rw [sI_self]) (fun j kk h => fvI_ne j kk h)
  refine kk H' _ ls (Rep_set (a := a) (e := .inr (ci, fs.set k (.int x))) hR e2 e3 rfl rfl rfl (fun b hb => u2_ne hb) (fun b hb => rfl) (fun b hb => rfl) ⟨_, hc, t_OB.to (V := updV (vp_V fs) k (.int x)) ⟨_, e1, q2, q3, t_set q4 hap hk _⟩ (fun j _ => vp_updV_set hl9 _ j)⟩ ?_ ⟨_, e1, by rw [setSlot_size]; exact hR.sz (hR.lt hT (by omega)) q1⟩) (hS.put e2 e3 (Nat.le_add_right _ _)) hl
  unfold CellM
  have hT2 : mT (sI M a k x) a = ci := hT
  rw [hT2, if_neg (by omega), if_pos (by omega)]
  exact ⟨_, rfl, g4.1, g4.2⟩
theorem V_putLF (hG : Cx E G cc nL ret own rm0) {a ci k idx N : Nat} {C : String} {T : u_T} (hT : mT M a = ci) (h99 : ci < 98) (hc : vwCl[ci]? = some (C, T, N)) (hin : ∀ w ∈ u_ws C T N, w ∈ lw_all) (hk : k < N) (ty0 : Nat → FieldType) (hty : ∀ k, k < N → parseFieldDescriptor (T k).2.2.1 = some (ty0 k)) (hnm : ∀ a, a < N → ∀ b, b < N → a ≠ b → (T a).2.1 ≠ (T b).2.1) (hfin : (T k).2.2.2 = true) (hdecl : (T k).1 = own) (hini : IsInit G) {x : Int64} (hd : parseFieldDescriptor (T k).2.2.1 = some .long) (hkd : (kd ci)[k]? = some 1) (q : Cond.fieldLink own idx (T k).1 (T k).2.1 (T k).2.2.1 ∈ lw_all) (d : decode cc pc = .ok (.putfield idx, 3)) (kk : V E G (sL M a k x) cells slots nL (pc + 3) lv st Q) : V E G M cells slots nL pc lv (.long x :: rf E a :: st) Q := by
  obtain ⟨p, e, R, s, m, args, below, meth, c⟩ := G
  obtain ⟨hx, hb, hml, hown, hts, hr, hlk, hRm, hK, hbs, hKs⟩ := hG
  intro H locs ls hR hS hl
  obtain ⟨fs, g1, g2, g3⟩ := hR.obj hT h99
  have hl9 : k < fs.length := by rw [g2]; exact (List.getElem?_eq_some_iff.mp hkd).1
  have hap := va_apart (own := own) hts hin ty0 hty hnm hK hc
  obtain ⟨r, h1, cell, q1, q2, q3, q4⟩ := g1
  have hr9 : r = (C, T, N) := Option.some.inj (h1.symm.trans hc)
  subst hr9
  obtain ⟨hSl, hfc, kC, hkC, hkind⟩ := hK.1 ci _ hc
  obtain ⟨cf, kf, fi, f, hi, hsl⟩ := hSl k hk
  have hlay := hts _ (hin _ (u_in_lay hk))
  unfold u_lay at hlay
  rw [if_pos hfin] at hlay
  have hst := (u_facts hfc hkC (u_lays hts hin hk) hi).1
  have hcf : m.cls = cf := by
    obtain ⟨_, _, c', _, _, _, -, -, hf', -, -, -, hown2, -⟩ := Cond.laysFinal_spec hlay
    have e1 : c' = cf := by have := hi.symm.trans hf'; simp at this; exact this.1.symm
    rw [hdecl] at hown2
    rw [← e1]; exact Option.some.inj (hown.symm.trans hown2)
  have h6 := u_fits (v := .long x) hfc hkC hkind (Or.inr hlay) hi hd rfl rfl
  refine W.putFinK hx hb hown (hts _ q) hi hst hcf hini (by rw [q2]; exact h6) q1 q3 (by rw [hsl]; exact k2_hasslot (q4 k hk)) rfl rfl d fun H' e1 e2 e3 => ?_
  rw [hsl] at e1 ⊢
  have g4 := fv_set (E := E) (M := M) (M' := sL M a k x) (a := a) (ci := ci) (v := .long x) g2 g3 hkd (by show _ = Value.long _; rw [sL_self]) (fun j kk h => fvL_ne j kk h)
  refine kk H' _ ls (Rep_set (a := a) (e := .inr (ci, fs.set k (.long x))) hR e2 e3 rfl rfl rfl (fun b hb => rfl) (fun b hb => u2_ne hb) (fun b hb => rfl) ⟨_, hc, t_OB.to (V := updV (vp_V fs) k (.long x)) ⟨_, e1, q2, q3, t_set q4 hap hk _⟩ (fun j _ => vp_updV_set hl9 _ j)⟩ ?_ ⟨_, e1, by rw [setSlot_size]; exact hR.sz (hR.lt hT (by omega)) q1⟩) (hS.put e2 e3 (Nat.le_add_right _ _)) hl
  unfold CellM
  have hT2 : mT (sL M a k x) a = ci := hT
  rw [hT2, if_neg (by omega), if_pos (by omega)]
  exact ⟨_, rfl, g4.1, g4.2⟩
theorem V_putQF (hG : Cx E G cc nL ret own rm0) {a ci k idx N : Nat} {C : String} {T : u_T} (hT : mT M a = ci) (h99 : ci < 98) (hc : vwCl[ci]? = some (C, T, N)) (hin : ∀ w ∈ u_ws C T N, w ∈ lw_all) (hk : k < N) (ty0 : Nat → FieldType) (hty : ∀ k, k < N → parseFieldDescriptor (T k).2.2.1 = some (ty0 k)) (hnm : ∀ a, a < N → ∀ b, b < N → a ≠ b → (T a).2.1 ≠ (T b).2.1) (hfin : (T k).2.2.2 = true) (hdecl : (T k).1 = own) (hini : IsInit G) {x : Option Nat} {ty : FieldType} (hd : parseFieldDescriptor (T k).2.2.1 = some ty) (hty9 : (∃ c, ty = .object c) ∨ ∃ t, ty = .array t) (hkd : (kd ci)[k]? = some 2) (q : Cond.fieldLink own idx (T k).1 (T k).2.1 (T k).2.2.1 ∈ lw_all) (d : decode cc pc = .ok (.putfield idx, 3)) (kk : V E G (sR M a k x) cells slots nL (pc + 3) lv st Q) : V E G M cells slots nL pc lv (rq E x :: rf E a :: st) Q := by
  obtain ⟨p, e, R, s, m, args, below, meth, c⟩ := G
  obtain ⟨hx, hb, hml, hown, hts, hr, hlk, hRm, hK, hbs, hKs⟩ := hG
  intro H locs ls hR hS hl
  obtain ⟨fs, g1, g2, g3⟩ := hR.obj hT h99
  have hl9 : k < fs.length := by rw [g2]; exact (List.getElem?_eq_some_iff.mp hkd).1
  have hap := va_apart (own := own) hts hin ty0 hty hnm hK hc
  obtain ⟨r, h1, cell, q1, q2, q3, q4⟩ := g1
  have hr9 : r = (C, T, N) := Option.some.inj (h1.symm.trans hc)
  subst hr9
  obtain ⟨hSl, hfc, kC, hkC, hkind⟩ := hK.1 ci _ hc
  obtain ⟨cf, kf, fi, f, hi, hsl⟩ := hSl k hk
  have hlay := hts _ (hin _ (u_in_lay hk))
  unfold u_lay at hlay
  rw [if_pos hfin] at hlay
  have hst := (u_facts hfc hkC (u_lays hts hin hk) hi).1
  have hcf : m.cls = cf := by
    obtain ⟨_, _, c', _, _, _, -, -, hf', -, -, -, hown2, -⟩ := Cond.laysFinal_spec hlay
    have e1 : c' = cf := by have := hi.symm.trans hf'; simp at this; exact this.1.symm
    rw [hdecl] at hown2
    rw [← e1]; exact Option.some.inj (hown.symm.trans hown2)
  have h6 := u_fits (v := rq E x) hfc hkC hkind (Or.inr hlay) hi hd (by rcases hty9 with ⟨c, rfl⟩ | ⟨t, rfl⟩ <;> cases x <;> rfl) (by rcases hty9 with ⟨c, rfl⟩ | ⟨t, rfl⟩ <;> cases x <;> rfl)
  refine W.putFinK hx hb hown (hts _ q) hi hst hcf hini (by rw [q2]; exact h6) q1 q3 (by rw [hsl]; exact k2_hasslot (q4 k hk)) rfl rfl d fun H' e1 e2 e3 => ?_
  rw [hsl] at e1 ⊢
  have g4 := fv_set (E := E) (M := M) (M' := sR M a k x) (a := a) (ci := ci) (v := rq E x) g2 g3 hkd (by show _ = rq E _; rw [sR_self]) (fun j kk h => fvR_ne j kk h)
  refine kk H' _ ls (Rep_set (a := a) (e := .inr (ci, fs.set k (rq E x))) hR e2 e3 rfl rfl rfl (fun b hb => rfl) (fun b hb => rfl) (fun b hb => u2_ne hb) ⟨_, hc, t_OB.to (V := updV (vp_V fs) k (rq E x)) ⟨_, e1, q2, q3, t_set q4 hap hk _⟩ (fun j _ => vp_updV_set hl9 _ j)⟩ ?_ ⟨_, e1, by rw [setSlot_size]; exact hR.sz (hR.lt hT (by omega)) q1⟩) (hS.put e2 e3 (Nat.le_add_right _ _)) hl
  unfold CellM
  have hT2 : mT (sR M a k x) a = ci := hT
  rw [hT2, if_neg (by omega), if_pos (by omega)]
  exact ⟨_, rfl, g4.1, g4.2⟩
theorem V_putQFA (hG : Cx E G cc nL ret own rm0) {a ci k idx N : Nat} {C : String} {T : u_T} (hT : mT M a = ci) (h99 : ci < 98) (hc : vwCl[ci]? = some (C, T, N)) (hin : ∀ w ∈ u_ws C T N, w ∈ lw_all) (hk : k < N) (hap9 : ∀ (s : State) (args : Array Value), (∀ w ∈ lw_all, w.before args s = true) → va_K E.2.2.1 vwCl (tysL E.2.2.2.1) s → ∀ x y, x < N → y < N → x ≠ y → (E.2.2.1.2 ci) x ≠ (E.2.2.1.2 ci) y) (hfin : (T k).2.2.2 = true) (hdecl : (T k).1 = own) (hini : IsInit G) {x : Option Nat} {ty : FieldType} (hd : parseFieldDescriptor (T k).2.2.1 = some ty) (hty9 : (∃ c, ty = .object c) ∨ ∃ t, ty = .array t) (hkd : (kd ci)[k]? = some 2) (q : Cond.fieldLink own idx (T k).1 (T k).2.1 (T k).2.2.1 ∈ lw_all) (d : decode cc pc = .ok (.putfield idx, 3)) (kk : V E G (sR M a k x) cells slots nL (pc + 3) lv st Q) : V E G M cells slots nL pc lv (rq E x :: rf E a :: st) Q := by
  obtain ⟨p, e, R, s, m, args, below, meth, c⟩ := G
  obtain ⟨hx, hb, hml, hown, hts, hr, hlk, hRm, hK, hbs, hKs⟩ := hG
  intro H locs ls hR hS hl
  obtain ⟨fs, g1, g2, g3⟩ := hR.obj hT h99
  have hl9 : k < fs.length := by rw [g2]; exact (List.getElem?_eq_some_iff.mp hkd).1
  have hap := hap9 s args hts hK
  obtain ⟨r, h1, cell, q1, q2, q3, q4⟩ := g1
  have hr9 : r = (C, T, N) := Option.some.inj (h1.symm.trans hc)
  subst hr9
  obtain ⟨hSl, hfc, kC, hkC, hkind⟩ := hK.1 ci _ hc
  obtain ⟨cf, kf, fi, f, hi, hsl⟩ := hSl k hk
  have hlay := hts _ (hin _ (u_in_lay hk))
  unfold u_lay at hlay
  rw [if_pos hfin] at hlay
  have hst := (u_facts hfc hkC (u_lays hts hin hk) hi).1
  have hcf : m.cls = cf := by
    obtain ⟨_, _, c', _, _, _, -, -, hf', -, -, -, hown2, -⟩ := Cond.laysFinal_spec hlay
    have e1 : c' = cf := by have := hi.symm.trans hf'; simp at this; exact this.1.symm
    rw [hdecl] at hown2
    rw [← e1]; exact Option.some.inj (hown.symm.trans hown2)
  have h6 := u_fits (v := rq E x) hfc hkC hkind (Or.inr hlay) hi hd (by rcases hty9 with ⟨c, rfl⟩ | ⟨t, rfl⟩ <;> cases x <;> rfl) (by rcases hty9 with ⟨c, rfl⟩ | ⟨t, rfl⟩ <;> cases x <;> rfl)
  refine W.putFinK hx hb hown (hts _ q) hi hst hcf hini (by rw [q2]; exact h6) q1 q3 (by rw [hsl]; exact k2_hasslot (q4 k hk)) rfl rfl d fun H' e1 e2 e3 => ?_
  rw [hsl] at e1 ⊢
  have g4 := fv_set (E := E) (M := M) (M' := sR M a k x) (a := a) (ci := ci) (v := rq E x) g2 g3 hkd (by show _ = rq E _; rw [sR_self]) (fun j kk h => fvR_ne j kk h)
  refine kk H' _ ls (Rep_set (a := a) (e := .inr (ci, fs.set k (rq E x))) hR e2 e3 rfl rfl rfl (fun b hb => rfl) (fun b hb => rfl) (fun b hb => u2_ne hb) ⟨_, hc, t_OB.to (V := updV (vp_V fs) k (rq E x)) ⟨_, e1, q2, q3, t_set q4 hap hk _⟩ (fun j _ => vp_updV_set hl9 _ j)⟩ ?_ ⟨_, e1, by rw [setSlot_size]; exact hR.sz (hR.lt hT (by omega)) q1⟩) (hS.put e2 e3 (Nat.le_add_right _ _)) hl
  unfold CellM
  have hT2 : mT (sR M a k x) a = ci := hT
  rw [hT2, if_neg (by omega), if_pos (by omega)]
  exact ⟨_, rfl, g4.1, g4.2⟩
theorem V_iaload (hG : Cx E G cc nL ret own rm0) {a : Nat} {i : Int32} (hT : mT M a = 100) (hi : ¬ (i < 0 ∨ mLn M a ≤ i.toNatClampNeg)) (d : decode cc pc = .ok (.iaload, 1)) (k : V E G M cells slots nL (pc + 1) lv (.int (mI M a i.toNatClampNeg) :: st) Q) : V E G M cells slots nL pc lv (.int i :: rf E a :: st) Q := by
  obtain ⟨p, e, R, s, m, args, below, meth, c⟩ := G
  obtain ⟨hx, hb, hml, hown, hts, hr, hlk, hRm, hK, hbs, hKs⟩ := hG
  intro H locs ls hR hS hl
  have g := hR.arr (t := 0) hT
  exact va_iald hx hb hK (oneP (q := (E.2.1 + a, .inl (E.2.2.2.1 0, aC E M a 0))) g) 0 0 rfl rfl hi d (k H locs ls hR hS hl)
theorem V_baload (hG : Cx E G cc nL ret own rm0) {a : Nat} {i : Int32} (hT : mT M a = 101) (hi : ¬ (i < 0 ∨ mLn M a ≤ i.toNatClampNeg)) (d : decode cc pc = .ok (.baload, 1)) (k : V E G M cells slots nL (pc + 1) lv (.int (mI M a i.toNatClampNeg) :: st) Q) : V E G M cells slots nL pc lv (.int i :: rf E a :: st) Q := by
  obtain ⟨p, e, R, s, m, args, below, meth, c⟩ := G
  obtain ⟨hx, hb, hml, hown, hts, hr, hlk, hRm, hK, hbs, hKs⟩ := hG
  intro H locs ls hR hS hl
  have g := hR.arr (t := 1) hT
  exact va_bald hx hb hK (oneP (q := (E.2.1 + a, .inl (E.2.2.2.1 1, aC E M a 1))) g) 0 1 rfl rfl hi d (k H locs ls hR hS hl)
theorem V_zaload (hG : Cx E G cc nL ret own rm0) {a : Nat} {i : Int32} (hT : mT M a = 102) (hi : ¬ (i < 0 ∨ mLn M a ≤ i.toNatClampNeg)) (d : decode cc pc = .ok (.baload, 1)) (k : V E G M cells slots nL (pc + 1) lv (.int (mI M a i.toNatClampNeg) :: st) Q) : V E G M cells slots nL pc lv (.int i :: rf E a :: st) Q := by
  obtain ⟨p, e, R, s, m, args, below, meth, c⟩ := G
  obtain ⟨hx, hb, hml, hown, hts, hr, hlk, hRm, hK, hbs, hKs⟩ := hG
  intro H locs ls hR hS hl
  have g := hR.arr (t := 2) hT
  exact va_zald hx hb hK (oneP (q := (E.2.1 + a, .inl (E.2.2.2.1 2, aC E M a 2))) g) 0 2 rfl rfl hi d (k H locs ls hR hS hl)
theorem V_laload (hG : Cx E G cc nL ret own rm0) {a : Nat} {i : Int32} (hT : mT M a = 103) (hi : ¬ (i < 0 ∨ mLn M a ≤ i.toNatClampNeg)) (d : decode cc pc = .ok (.laload, 1)) (k : V E G M cells slots nL (pc + 1) lv (.long (mL M a i.toNatClampNeg) :: st) Q) : V E G M cells slots nL pc lv (.int i :: rf E a :: st) Q := by
  obtain ⟨p, e, R, s, m, args, below, meth, c⟩ := G
  obtain ⟨hx, hb, hml, hown, hts, hr, hlk, hRm, hK, hbs, hKs⟩ := hG
  intro H locs ls hR hS hl
  have g := hR.arr (t := 3) hT
  exact va_lald hx hb hK (oneP (q := (E.2.1 + a, .inl (E.2.2.2.1 3, aC E M a 3))) g) 0 3 rfl rfl hi d (k H locs ls hR hS hl)
theorem V_iastore (hG : Cx E G cc nL ret own rm0) {a : Nat} {i : Int32} (hT : mT M a = 100) (hi : ¬ (i < 0 ∨ mLn M a ≤ i.toNatClampNeg)) {x : Int32}  (d : decode cc pc = .ok (.iastore, 1)) (k : V E G (sI M a i.toNatClampNeg x) cells slots nL (pc + 1) lv st Q) : V E G M cells slots nL pc lv (.int x :: .int i :: rf E a :: st) Q := by
  obtain ⟨p, e, R, s, m, args, below, meth, c⟩ := G
  obtain ⟨hx, hb, hml, hown, hts, hr, hlk, hRm, hK, hbs, hKs⟩ := hG
  intro H locs ls hR hS hl
  have g := hR.arr (t := 0) hT
  refine W.iast hx hb g ((hK.2 0 _ rfl).1 _ _) (fun q => by cases q) (by show ¬ (i < 0 ∨ (arrV _ _ _).slots.size ≤ _); rw [arrV_size]; exact hi) rfl rfl d fun H1 e z oq => ?_
  refine k H1 _ ls (Rep_set (a := a) (e := .inl (E.2.2.2.1 0, aC E (sI M a i.toNatClampNeg x) a 0)) hR z oq rfl rfl rfl (fun b hb => u2_ne hb) (fun b hb => rfl) (fun b hb => rfl) ?_ ?_ ⟨_, e, by rw [setSlot_size]; exact hR.sz (hR.lt hT (by omega)) g⟩) (hS.put z oq (Nat.le_add_right _ _)) hl
  · show H1[E.2.1 + a]? = some (vp_cell _ _)
    rw [e]
    have e9 : mI (sI M a i.toNatClampNeg x) a = upd (mI M a) i.toNatClampNeg x := u2_upd
    show _ = some (vp_cell _ (mLn M a, .inl (mI (sI M a i.toNatClampNeg x) a)))
    rw [e9, vp_cell_i]
    show some _ = _
    rw [show vp_cell (E.2.2.2.1 0) (aC E M a 0) = arrV (E.2.2.2.1 0) (mLn M a) (fun j => .int (mI M a j)) from rfl, arrV_store]
    congr 2
    funext q
    by_cases hq : q = i.toNatClampNeg
    · subst hq
      simp [updV, upd]
    · simp [updV, upd, hq]
  · unfold CellM
    have hT2 : mT (sI M a i.toNatClampNeg x) a = 100 := hT
    rw [hT2, if_neg (by omega), if_neg (by omega)]
theorem V_zastore (hG : Cx E G cc nL ret own rm0) {a : Nat} {i : Int32} (hT : mT M a = 102) (hi : ¬ (i < 0 ∨ mLn M a ≤ i.toNatClampNeg)) {x : Int32} (hx01 : x = 0 ∨ x = 1) (d : decode cc pc = .ok (.bastore, 1)) (k : V E G (sI M a i.toNatClampNeg x) cells slots nL (pc + 1) lv st Q) : V E G M cells slots nL pc lv (.int x :: .int i :: rf E a :: st) Q := by
  obtain ⟨p, e, R, s, m, args, below, meth, c⟩ := G
  obtain ⟨hx, hb, hml, hown, hts, hr, hlk, hRm, hK, hbs, hKs⟩ := hG
  intro H locs ls hR hS hl
  have g := hR.arr (t := 2) hT
  refine W.zast hx hb g ((hK.2 2 _ rfl).1 _ _) (fun q => by cases q) (by show ¬ (i < 0 ∨ (arrV _ _ _).slots.size ≤ _); rw [arrV_size]; exact hi) rfl rfl d fun H1 e z oq => ?_
  refine k H1 _ ls (Rep_set (a := a) (e := .inl (E.2.2.2.1 2, aC E (sI M a i.toNatClampNeg x) a 2)) hR z oq rfl rfl rfl (fun b hb => u2_ne hb) (fun b hb => rfl) (fun b hb => rfl) ?_ ?_ ⟨_, e, by rw [setSlot_size]; exact hR.sz (hR.lt hT (by omega)) g⟩) (hS.put z oq (Nat.le_add_right _ _)) hl
  · show H1[E.2.1 + a]? = some (vp_cell _ _)
    rw [e]
    have e9 : mI (sI M a i.toNatClampNeg x) a = upd (mI M a) i.toNatClampNeg x := u2_upd
    show _ = some (vp_cell _ (mLn M a, .inl (mI (sI M a i.toNatClampNeg x) a)))
    rw [e9, vp_cell_i]
    show some _ = _
    rw [show vp_cell (E.2.2.2.1 2) (aC E M a 2) = arrV (E.2.2.2.1 2) (mLn M a) (fun j => .int (mI M a j)) from rfl, arrV_store]
    congr 2
    funext q
    by_cases hq : q = i.toNatClampNeg
    · subst hq
      simp [updV, upd]
      rcases hx01 with rfl | rfl <;> rfl
    · simp [updV, upd, hq]
  · unfold CellM
    have hT2 : mT (sI M a i.toNatClampNeg x) a = 102 := hT
    rw [hT2, if_neg (by omega), if_neg (by omega)]
theorem V_bastore (hG : Cx E G cc nL ret own rm0) {a : Nat} {i : Int32} (hT : mT M a = 101) (hi : ¬ (i < 0 ∨ mLn M a ≤ i.toNatClampNeg)) {x : Int32}  (d : decode cc pc = .ok (.bastore, 1)) (k : V E G (sI M a i.toNatClampNeg x.toInt8.toInt32) cells slots nL (pc + 1) lv st Q) : V E G M cells slots nL pc lv (.int x :: .int i :: rf E a :: st) Q := by
  obtain ⟨p, e, R, s, m, args, below, meth, c⟩ := G
  obtain ⟨hx, hb, hml, hown, hts, hr, hlk, hRm, hK, hbs, hKs⟩ := hG
  intro H locs ls hR hS hl
  have g := hR.arr (t := 1) hT
  refine W.bast hx hb g ((hK.2 1 _ rfl).1 _ _) (fun q => by cases q) (by show ¬ (i < 0 ∨ (arrV _ _ _).slots.size ≤ _); rw [arrV_size]; exact hi) rfl rfl d fun H1 e z oq => ?_
  refine k H1 _ ls (Rep_set (a := a) (e := .inl (E.2.2.2.1 1, aC E (sI M a i.toNatClampNeg x.toInt8.toInt32) a 1)) hR z oq rfl rfl rfl (fun b hb => u2_ne hb) (fun b hb => rfl) (fun b hb => rfl) ?_ ?_ ⟨_, e, by rw [setSlot_size]; exact hR.sz (hR.lt hT (by omega)) g⟩) (hS.put z oq (Nat.le_add_right _ _)) hl
  · show H1[E.2.1 + a]? = some (vp_cell _ _)
    rw [e]
    have e9 : mI (sI M a i.toNatClampNeg x.toInt8.toInt32) a = upd (mI M a) i.toNatClampNeg x.toInt8.toInt32 := u2_upd
    show _ = some (vp_cell _ (mLn M a, .inl (mI (sI M a i.toNatClampNeg x.toInt8.toInt32) a)))
    rw [e9, vp_cell_i]
    show some _ = _
    rw [show vp_cell (E.2.2.2.1 1) (aC E M a 1) = arrV (E.2.2.2.1 1) (mLn M a) (fun j => .int (mI M a j)) from rfl, arrV_store]
    congr 2
    funext q
    by_cases hq : q = i.toNatClampNeg
    · subst hq
      simp [updV, upd]
      rfl
    · simp [updV, upd, hq]
  · unfold CellM
    have hT2 : mT (sI M a i.toNatClampNeg x.toInt8.toInt32) a = 101 := hT
    rw [hT2, if_neg (by omega), if_neg (by omega)]
theorem V_lastore (hG : Cx E G cc nL ret own rm0) {a : Nat} {i : Int32} (hT : mT M a = 103) (hi : ¬ (i < 0 ∨ mLn M a ≤ i.toNatClampNeg)) {x : Int64}  (d : decode cc pc = .ok (.lastore, 1)) (k : V E G (sL M a i.toNatClampNeg x) cells slots nL (pc + 1) lv st Q) : V E G M cells slots nL pc lv (.long x :: .int i :: rf E a :: st) Q := by
  obtain ⟨p, e, R, s, m, args, below, meth, c⟩ := G
  obtain ⟨hx, hb, hml, hown, hts, hr, hlk, hRm, hK, hbs, hKs⟩ := hG
  intro H locs ls hR hS hl
  have g := hR.arr (t := 3) hT
  refine W.last hx hb g ((hK.2 3 _ rfl).1 _ _) (fun q => by cases q) (by show ¬ (i < 0 ∨ (arrV _ _ _).slots.size ≤ _); rw [arrV_size]; exact hi) rfl rfl d fun H1 e z oq => ?_
  refine k H1 _ ls (Rep_set (a := a) (e := .inl (E.2.2.2.1 3, aC E (sL M a i.toNatClampNeg x) a 3)) hR z oq rfl rfl rfl (fun b hb => rfl) (fun b hb => u2_ne hb) (fun b hb => rfl) ?_ ?_ ⟨_, e, by rw [setSlot_size]; exact hR.sz (hR.lt hT (by omega)) g⟩) (hS.put z oq (Nat.le_add_right _ _)) hl
  · show H1[E.2.1 + a]? = some (vp_cell _ _)
    rw [e]
    have e9 : mL (sL M a i.toNatClampNeg x) a = vp_updL (mL M a) i.toNatClampNeg x := u2_updL
    show _ = some (vp_cell _ (mLn M a, .inr (.inl (mL (sL M a i.toNatClampNeg x) a))))
    rw [e9, vp_cell_l]
    rw [show vp_cell (E.2.2.2.1 3) (aC E M a 3) = arrV (E.2.2.2.1 3) (mLn M a) (fun j => .long (mL M a j)) from rfl, arrV_store]
    congr 2
    funext q
    by_cases hq : q = i.toNatClampNeg
    · subst hq
      simp [updV, vp_updL]
    · simp [updV, vp_updL, hq]
  · unfold CellM
    have hT2 : mT (sL M a i.toNatClampNeg x) a = 103 := hT
    rw [hT2, if_neg (by omega), if_neg (by omega)]
theorem V_alen (hG : Cx E G cc nL ret own rm0) {a t : Nat} (hT : mT M a = 100 + t) (ht : t < 7) (d : decode cc pc = .ok (.arraylength, 1)) (k : V E G M cells slots nL (pc + 1) lv (.int (Int32.ofNat (mLn M a)) :: st) Q) : V E G M cells slots nL pc lv (rf E a :: st) Q := by
  obtain ⟨p, e, R, s, m, args, below, meth, c⟩ := G
  obtain ⟨hx, hb, hml, hown, hts, hr, hlk, hRm, hK, hbs, hKs⟩ := hG
  intro H locs ls hR hS hl
  have g := hR.arr (t := t) hT
  have k9 := k H locs ls hR hS hl
  rcases (show t = 0 ∨ t = 1 ∨ t = 2 ∨ t = 3 ∨ t = 4 ∨ t = 5 ∨ t = 6 by omega) with rfl | rfl | rfl | rfl | rfl | rfl | rfl
  · exact va_alen (v := Int32.ofNat (mLn M a)) hx hb hK (oneP (q := (E.2.1 + a, .inl (E.2.2.2.1 0, aC E M a 0))) g) 0 0 rfl rfl rfl d k9
  · exact va_alen (v := Int32.ofNat (mLn M a)) hx hb hK (oneP (q := (E.2.1 + a, .inl (E.2.2.2.1 1, aC E M a 1))) g) 0 1 rfl rfl rfl d k9
  · exact va_alen (v := Int32.ofNat (mLn M a)) hx hb hK (oneP (q := (E.2.1 + a, .inl (E.2.2.2.1 2, aC E M a 2))) g) 0 2 rfl rfl rfl d k9
  · exact va_alen (v := Int32.ofNat (mLn M a)) hx hb hK (oneP (q := (E.2.1 + a, .inl (E.2.2.2.1 3, aC E M a 3))) g) 0 3 rfl rfl rfl d k9
  · exact va_alen (v := Int32.ofNat (mLn M a)) hx hb hK (oneP (q := (E.2.1 + a, .inl (E.2.2.2.1 4, aC E M a 4))) g) 0 4 rfl rfl rfl d k9
  · exact va_alen (v := Int32.ofNat (mLn M a)) hx hb hK (oneP (q := (E.2.1 + a, .inl (E.2.2.2.1 5, aC E M a 5))) g) 0 5 rfl rfl rfl d k9
  · exact va_alen (v := Int32.ofNat (mLn M a)) hx hb hK (oneP (q := (E.2.1 + a, .inl (E.2.2.2.1 6, aC E M a 6))) g) 0 6 rfl rfl rfl d k9
theorem Rep_new {E : En} {M : Mem} {H H1 : Heap} {t n : Nat} {e : va_E} (hR : Rep E M H) (z : H1.size = H.size + 1) (oq : ∀ q : Nat, q < H.size → H1[q]? = H[q]?) (he : va_at E.2.2.1 vwCl (E.2.1 + mN M, e) H1) (hc : CellM E (nw M t n) (mN M) e) (hz : SzAt H1 (E.2.1 + mN M) n) : Rep E (nw M t n) H1 := by
  obtain ⟨h1, h2, h3⟩ := hR
  have hn : mN (nw M t n) = mN M + 1 := rfl
  refine ⟨by rw [z, h1, hn]; omega, fun b hb => ?_, fun b hb => ?_⟩
  · rw [hn] at hb
    show u1 (mT M) (mN M) t b = 99
    unfold u1
    rw [if_neg (by omega)]
    exact h2 b (by omega)
  · rw [hn] at hb
    by_cases hba : b = mN M
    · subst hba
      exact ⟨e, Or.inr he, hc, by rw [show mLn (nw M t n) (mN M) = n by simp [nw, mLn, mN, u1]]; exact hz⟩
    · obtain ⟨e1, g1, g2, cell, g3, g4⟩ := h3 b (by omega)
      have g5 := oq (E.2.1 + b) (by rw [h1]; omega)
      refine ⟨e1, g1.imp (fun h => by rw [show mT (nw M t n) b = mT M b by simp [nw, mT, u1, hba]]; exact h) (fun h => h.kept g5), CellM_congr ?_ ?_ ?_ ?_ ?_ g2, cell, by rw [g5]; exact g3, by rw [show mLn (nw M t n) b = mLn M b by simp [nw, mLn, mN, u1]; intro h; exact absurd h hba]; exact g4⟩
      · show u1 (mT M) (mN M) t b = _
        simp [u1, hba]
      · show u1 (mLn M) (mN M) n b = _
        simp [u1, hba]
      · funext y
        show (if b = mN M then 0 else mI M b y) = _
        rw [if_neg hba]
      · funext y
        show (if b = mN M then 0 else mL M b y) = _
        rw [if_neg hba]
      · funext y
        show (if b = mN M then none else mR M b y) = _
        rw [if_neg hba]
def dfl (ks : List Nat) : List Value := ks.map fun k => match k with
  | 0 => Value.int 0
  | 1 => Value.long 0
  | 4 => Value.int 0
  | _ => Value.null
theorem va_S_new {A : Nat → Prop} {H0 H H1 : Heap} {locs : List Loc} (h : va_S A H0 H locs) (z : H1.size = H.size + 1) (oq : ∀ q : Nat, q < H.size → H1[q]? = H[q]?) : va_S A H0 H1 locs := ⟨Nat.le_trans h.1 (by omega), fun x h1 h2 => (oq x (Nat.lt_of_lt_of_le h1 h.1)).trans (h.2.1 x h1 h2), h.2.2⟩
theorem V_new (hG : Cx E G cc nL ret own rm0) {ci idx N : Nat} {C : String} {T : u_T} (h99 : ci < 98) (hc : vwCl[ci]? = some (C, T, N)) (hin : ∀ w ∈ u_ws C T N, w ∈ lw_all) (ty : Nat → FieldType) (hty : ∀ k, k < N → parseFieldDescriptor (T k).2.2.1 = some (ty k)) (hdf : ∀ j, j < N → defaultValue (ty j) = vp_V (dfl (kd ci)) j) (hq1 : Cond.classLink own idx C ∈ lw_all) (hq2 : Cond.instantiable C N ∈ lw_all) (hq3 : Cond.initialized C ∈ lw_all) (hcells : cells + 1 ≤ rm0.cells) (hslots : slots + N ≤ rm0.slots) (d : decode cc pc = .ok (.new idx, 3)) (k : V E G (nw M ci N) (cells + 1) (slots + N) nL (pc + 3) lv (rf E (mN M) :: st) Q) : V E G M cells slots nL pc lv st Q := by
  obtain ⟨p, e, R, s, m, args, below, meth, c⟩ := G
  obtain ⟨hx, hb, hml, hown, hts, hr, hlk, hRm, hK, hbs, hKs⟩ := hG
  intro H locs ls hR hS hl
  subst hRm
  have hKn := hK.1 ci _ hc
  refine W.newc hx hb hown (hts _ hq1) (hts _ hq2) (hts _ hq3) rfl d hcells hslots fun cC kC h1 hkC h3 h4 => ?_
  obtain rfl := Option.some.inj (hKn.2.1.symm.trans h1)
  generalize hH1 : H.push { cls := E.2.2.1.1 ci, slots := kC.instanceTypes.map defaultValue, vm := .none } = H1
  have e1 : H1[E.2.1 + mN M]? = some (blank (E.2.2.1.1 ci) kC) := by rw [← hH1, ← hR.1]; simp [blank]
  have z1 : H1.size = H.size + 1 := by rw [← hH1]; simp
  have o1 : ∀ q : Nat, q < H.size → H1[q]? = H[q]? := fun q hq => by rw [← hH1, Array.getElem?_push, if_neg (Nat.ne_of_lt hq)]
  rw [show F0 m pc ls st = F0 m pc ls st from rfl]
  have hgoal : ({ F0 m pc ls st with pc := (F0 m pc ls st).pc + 3, stack := .ref H.size :: (F0 m pc ls st).stack } : JFrame) = F0 m (pc + 3) ls (rf E (mN M) :: st) := by rw [hR.1]; rfl
  rw [hgoal]
  refine k H1 locs ls (Rep_new (e := .inr (ci, dfl (kd ci))) hR z1 o1 ⟨_, hc, (u_born ty hts hin hKn hkC e1 hty).to hdf⟩ ?_ ⟨_, e1, by simp [blank, h4]⟩) (va_S_new hS z1 o1) hl
  have hT2 : mT (nw M ci N) (mN M) = ci := by simp [nw, mT, u1]
  unfold CellM
  rw [hT2, if_neg (by omega), if_pos (by omega)]
  refine ⟨_, rfl, by simp [dfl], fun k kk h1 h2 => ?_⟩
  unfold dfl
  rw [List.getElem?_map, h1]
  rcases (show kk = 0 ∨ kk = 1 ∨ kk = 2 by omega) with rfl | rfl | rfl
  · simp [fv, nw, mI, mN]
  · simp [fv, nw, mL, mN]
  · simp [fv, nw, mR, mN, rq]
theorem V_newa0 (hG : Cx E G cc nL ret own rm0) {n : Int32} {N' : Nat} (harr : Cond.arrayClass .int ∈ lw_all) (hn : ¬ n < 0) (hN : n.toNatClampNeg = N') (hbig : N' ≤ 60000) (hcells : cells + 1 ≤ rm0.cells) (hslots : slots + N' ≤ rm0.slots) (d : decode cc pc = .ok (.newarray .int, 2)) (k : V E G (nw M 100 N') (cells + 1) (slots + N') nL (pc + 2) lv (rf E (mN M) :: st) Q) : V E G M cells slots nL pc lv (.int n :: st) Q := by
  obtain ⟨p, e, R, s, m, args, below, meth, c⟩ := G
  obtain ⟨hx, hb, hml, hown, hts, hr, hlk, hRm, hK, hbs, hKs⟩ := hG
  intro H locs ls hR hS hl
  subst hRm
  refine va_newaK (atype := .int) hx hb (hts _ harr) rfl d rfl hn hN (by show N' * _ ≤ _; unfold componentBytes; simp [newarray.typeOf]; omega) hcells hslots hR.1 fun H1 cA e1 z1 o1 hAr hNm => ?_
  have z1 : H1.size = H.size + 1 := by rw [z1, hR.1]
  have o1 : ∀ q : Nat, q < H.size → H1[q]? = H[q]? := fun q h => o1 q (by rw [← hR.1]; exact h)
  have hcA : cA = E.2.2.2.1 0 := Option.some.inj (hNm.symm.trans (hK.2 0 _ rfl).2)
  subst hcA
  refine k H1 locs ls (Rep_new (e := .inl (E.2.2.2.1 0, aC E (nw M 100 N') (mN M) 0)) hR z1 o1 ?_ ?_ ⟨_, e1, arrV_size _ _ _⟩) (va_S_new hS z1 o1) hl
  · show H1[E.2.1 + mN M]? = some (vp_cell _ _)
    rw [e1]
    have a1 : mLn (nw M 100 N') (mN M) = N' := by simp [nw, mLn, mN, u1]
    have a2 : mI (nw M 100 N') (mN M) = fun _ => 0 := by funext y; simp [nw, mI, mL, mN]
    show some _ = some (vp_cell _ (mLn (nw M 100 N') (mN M), .inl (mI (nw M 100 N') (mN M))))
    rw [a1, a2]
    rfl
  · have hT2 : mT (nw M 100 N') (mN M) = 100 := by simp [nw, mT, u1]
    unfold CellM
    rw [hT2, if_neg (by omega), if_neg (by omega)]
theorem V_newa1 (hG : Cx E G cc nL ret own rm0) {n : Int32} {N' : Nat} (harr : Cond.arrayClass .byte ∈ lw_all) (hn : ¬ n < 0) (hN : n.toNatClampNeg = N') (hbig : N' ≤ 60000) (hcells : cells + 1 ≤ rm0.cells) (hslots : slots + N' ≤ rm0.slots) (d : decode cc pc = .ok (.newarray .byte, 2)) (k : V E G (nw M 101 N') (cells + 1) (slots + N') nL (pc + 2) lv (rf E (mN M) :: st) Q) : V E G M cells slots nL pc lv (.int n :: st) Q := by
  obtain ⟨p, e, R, s, m, args, below, meth, c⟩ := G
  obtain ⟨hx, hb, hml, hown, hts, hr, hlk, hRm, hK, hbs, hKs⟩ := hG
  intro H locs ls hR hS hl
  subst hRm
  refine va_newaK (atype := .byte) hx hb (hts _ harr) rfl d rfl hn hN (by show N' * _ ≤ _; unfold componentBytes; simp [newarray.typeOf]; omega) hcells hslots hR.1 fun H1 cA e1 z1 o1 hAr hNm => ?_
  have z1 : H1.size = H.size + 1 := by rw [z1, hR.1]
  have o1 : ∀ q : Nat, q < H.size → H1[q]? = H[q]? := fun q h => o1 q (by rw [← hR.1]; exact h)
  have hcA : cA = E.2.2.2.1 1 := Option.some.inj (hNm.symm.trans (hK.2 1 _ rfl).2)
  subst hcA
  refine k H1 locs ls (Rep_new (e := .inl (E.2.2.2.1 1, aC E (nw M 101 N') (mN M) 1)) hR z1 o1 ?_ ?_ ⟨_, e1, arrV_size _ _ _⟩) (va_S_new hS z1 o1) hl
  · show H1[E.2.1 + mN M]? = some (vp_cell _ _)
    rw [e1]
    have a1 : mLn (nw M 101 N') (mN M) = N' := by simp [nw, mLn, mN, u1]
    have a2 : mI (nw M 101 N') (mN M) = fun _ => 0 := by funext y; simp [nw, mI, mL, mN]
    show some _ = some (vp_cell _ (mLn (nw M 101 N') (mN M), .inl (mI (nw M 101 N') (mN M))))
    rw [a1, a2]
    rfl
  · have hT2 : mT (nw M 101 N') (mN M) = 101 := by simp [nw, mT, u1]
    unfold CellM
    rw [hT2, if_neg (by omega), if_neg (by omega)]
theorem V_newa2 (hG : Cx E G cc nL ret own rm0) {n : Int32} {N' : Nat} (harr : Cond.arrayClass .boolean ∈ lw_all) (hn : ¬ n < 0) (hN : n.toNatClampNeg = N') (hbig : N' ≤ 60000) (hcells : cells + 1 ≤ rm0.cells) (hslots : slots + N' ≤ rm0.slots) (d : decode cc pc = .ok (.newarray .boolean, 2)) (k : V E G (nw M 102 N') (cells + 1) (slots + N') nL (pc + 2) lv (rf E (mN M) :: st) Q) : V E G M cells slots nL pc lv (.int n :: st) Q := by
  obtain ⟨p, e, R, s, m, args, below, meth, c⟩ := G
  obtain ⟨hx, hb, hml, hown, hts, hr, hlk, hRm, hK, hbs, hKs⟩ := hG
  intro H locs ls hR hS hl
  subst hRm
  refine va_newaK (atype := .boolean) hx hb (hts _ harr) rfl d rfl hn hN (by show N' * _ ≤ _; unfold componentBytes; simp [newarray.typeOf]; omega) hcells hslots hR.1 fun H1 cA e1 z1 o1 hAr hNm => ?_
  have z1 : H1.size = H.size + 1 := by rw [z1, hR.1]
  have o1 : ∀ q : Nat, q < H.size → H1[q]? = H[q]? := fun q h => o1 q (by rw [← hR.1]; exact h)
  have hcA : cA = E.2.2.2.1 2 := Option.some.inj (hNm.symm.trans (hK.2 2 _ rfl).2)
  subst hcA
  refine k H1 locs ls (Rep_new (e := .inl (E.2.2.2.1 2, aC E (nw M 102 N') (mN M) 2)) hR z1 o1 ?_ ?_ ⟨_, e1, arrV_size _ _ _⟩) (va_S_new hS z1 o1) hl
  · show H1[E.2.1 + mN M]? = some (vp_cell _ _)
    rw [e1]
    have a1 : mLn (nw M 102 N') (mN M) = N' := by simp [nw, mLn, mN, u1]
    have a2 : mI (nw M 102 N') (mN M) = fun _ => 0 := by funext y; simp [nw, mI, mL, mN]
    show some _ = some (vp_cell _ (mLn (nw M 102 N') (mN M), .inl (mI (nw M 102 N') (mN M))))
    rw [a1, a2]
    rfl
  · have hT2 : mT (nw M 102 N') (mN M) = 102 := by simp [nw, mT, u1]
    unfold CellM
    rw [hT2, if_neg (by omega), if_neg (by omega)]
theorem V_newa3 (hG : Cx E G cc nL ret own rm0) {n : Int32} {N' : Nat} (harr : Cond.arrayClass .long ∈ lw_all) (hn : ¬ n < 0) (hN : n.toNatClampNeg = N') (hbig : N' ≤ 60000) (hcells : cells + 1 ≤ rm0.cells) (hslots : slots + N' ≤ rm0.slots) (d : decode cc pc = .ok (.newarray .long, 2)) (k : V E G (nw M 103 N') (cells + 1) (slots + N') nL (pc + 2) lv (rf E (mN M) :: st) Q) : V E G M cells slots nL pc lv (.int n :: st) Q := by
  obtain ⟨p, e, R, s, m, args, below, meth, c⟩ := G
  obtain ⟨hx, hb, hml, hown, hts, hr, hlk, hRm, hK, hbs, hKs⟩ := hG
  intro H locs ls hR hS hl
  subst hRm
  refine va_newaK (atype := .long) hx hb (hts _ harr) rfl d rfl hn hN (by show N' * _ ≤ _; unfold componentBytes; simp [newarray.typeOf]; omega) hcells hslots hR.1 fun H1 cA e1 z1 o1 hAr hNm => ?_
  have z1 : H1.size = H.size + 1 := by rw [z1, hR.1]
  have o1 : ∀ q : Nat, q < H.size → H1[q]? = H[q]? := fun q h => o1 q (by rw [← hR.1]; exact h)
  have hcA : cA = E.2.2.2.1 3 := Option.some.inj (hNm.symm.trans (hK.2 3 _ rfl).2)
  subst hcA
  refine k H1 locs ls (Rep_new (e := .inl (E.2.2.2.1 3, aC E (nw M 103 N') (mN M) 3)) hR z1 o1 ?_ ?_ ⟨_, e1, arrV_size _ _ _⟩) (va_S_new hS z1 o1) hl
  · show H1[E.2.1 + mN M]? = some (vp_cell _ _)
    rw [e1]
    have a1 : mLn (nw M 103 N') (mN M) = N' := by simp [nw, mLn, mN, u1]
    have a2 : mL (nw M 103 N') (mN M) = fun _ => 0 := by funext y; simp [nw, mI, mL, mN]
    show some _ = some (vp_cell _ (mLn (nw M 103 N') (mN M), .inr (.inl (mL (nw M 103 N') (mN M)))))
    rw [a1, a2]
    rfl
  · have hT2 : mT (nw M 103 N') (mN M) = 103 := by simp [nw, mT, u1]
    unfold CellM
    rw [hT2, if_neg (by omega), if_neg (by omega)]
theorem V_objInit (hG : Cx E G cc nL ret own rm0) {idx : Nat} {a : Nat} (hq1 : Cond.methodLink own idx Lib.objectInit ∈ lw_all) (hq2 : Cond.instanceMethod Lib.objectInit ∈ lw_all) (hq3 : Cond.code Lib.objectInit ⟨#[0xb1]⟩ 1 none ∈ lw_all) (hfr : 1 ≤ rm0.frames) (hlo : (st.map fun v => v.category).sum + 12 ≤ rm0.locals) (d : decode cc pc = .ok (.invokespecial idx, 3)) (k : V E G M cells slots nL (pc + 3) lv st Q) : V E G M cells slots nL pc lv (rf E a :: st) Q := by
  obtain ⟨p, e, R, s, m, args, below, meth, c⟩ := G
  obtain ⟨hx, hb, hml, hown, hts, hr, hlk, hRm, hK, hbs, hKs⟩ := hG
  intro H locs ls hR hS hl
  subst hRm
  exact W.objInit hx hb hown (hts _ hq1) (hts _ hq2) (hts _ hq3) rfl (by rw [hml]; exact hl.1) rfl d hfr (by show 2 * 0 + _ + 12 ≤ _; omega) (k H locs ls hR hS hl)
theorem KX.blind {E : En} (hE : EOk E) {M : Mem} {As : List Value} : FrameBlind (va_Pc As (fun U => Rep E M U.heap ∧ KX E U)) := by
  intro a U g mk h
  obtain ⟨h1, h2, h3, h4, h5⟩ := h
  exact ⟨h1, h2, va_K.moved (u := U) (U := U.calling g mk a) (Vm.Alike.refl U.vm) h3, h4, hE.2 U (U.calling g mk a) rfl rfl h5⟩
theorem KX.at {E : En} (hE : EOk E) {s U : State} {H : Heap} {locs : List Loc} (hK : KX E s) (hS : va_S (fun q => E.2.1 ≤ q) s.heap H locs) (hU : U.heap = H) (hW : s.WarmedH U.vm) : KX E U := by
  obtain ⟨h1, h2, h3⟩ := hK
  refine ⟨va_K.moved hW.alike h1, by rw [hU]; exact Nat.le_trans h2 hS.1, hE.1 s U h3 hW (fun q hq => ?_)⟩
  rw [hU]
  exact hS.2.1 q (Nat.lt_of_lt_of_le hq h2) (by show ¬ E.2.1 ≤ q; omega)
/-- behind a call -/
theorem V_after {p : Program} {e : Env} {R : Room} {s : State} {m : MethodId} {args : Array Value} {below : List Frame} {meth : Method} {c : Code} {H : Heap} {locs : List Loc} {ls : Array Slot} {a : Array Value} {v : Option Value} {mc ms : Nat} {rest : List Value} (hr : va_Run p E.1 e R s m args below meth c H locs cells slots mc ms (F0 m pc ls st0) rest (QX E v M' a) (fun q => E.2.1 ≤ q)) (hS : va_S (fun q => E.2.1 ≤ q) s.heap H locs) (hl : lv_has ls nL lv) (k : V E (p, e, R, s, m, args, below, meth, c) M' (cells + mc) (slots + ms) nL (pc + 3) lv (v.toList ++ rest) Q) : W p E.1 e R s m args below meth c H locs cells slots Q (F0 m pc ls st0) := by
  intro T hT X
  obtain ⟨v2, st₀, t, T', L, h0, X', hL, e1, e2, ⟨⟨hv, hrep⟩, hz, hk⟩, stp⟩ := hr T hT X
  cases hv
  rw [h0] at hz hk
  obtain ⟨t2, a1, b1⟩ := k T'.heap (locs ++ L) ls (by rw [e1]; exact hrep)
    ⟨Nat.le_trans hS.1 (by rw [e1]; exact hz), fun q h1 h2 => by rw [e1, hk q (Nat.lt_of_lt_of_le h1 hS.1) h2]; exact hS.2.1 q h1 h2, fun q hq => by
      rcases List.mem_append.mp hq with h | h
      · exact hS.2.2 q h
      · exact hL q h⟩ hl T' rfl X'
  exact ⟨t2, stp t2 a1, b1⟩
theorem V_callV (hE : EOk E) (hG : Cx E G cc nL ret own rm0) {y : MethodName} {bytes : ByteArray} {maxL n index : Nat} {rt : Option FieldType} {rm : Room} {As rest : List Value} {v : Option Value} {a ci N : Nat} {C : String} {T : u_T} (hM : CM E y bytes maxL rt rm (rf E a :: As) M v M') (hT : mT M a = ci) (h99 : ci < 98) (hc : vwCl[ci]? = some (C, T, N)) (hW : GoodIn lw_all (wsV own index C y (ws_ y bytes maxL rt))) (hd : y.cls = C ∧ y.cls ≠ "java/lang/invoke/MethodHandle" ∧ y.cls ≠ "java/lang/invoke/VarHandle" ∧ (parseMethodDescriptor y.desc).map (fun d => d.parameters.length) = some n) (hR9 : rm.frames + 1 ≤ rm0.frames ∧ 8 + (maxL + 11) + rm.locals ≤ rm0.locals) (hn : As.length = n) (hst : st0 = As.reverse ++ rf E a :: rest) (hcat : (rest.map fun v => v.category).sum ≤ 8) (hf : cells + rm.cells ≤ rm0.cells ∧ slots + rm.slots ≤ rm0.slots) (d : decode cc pc = .ok (.invokevirtual index, 3)) (k : V E G M' (cells + rm.cells) (slots + rm.slots) nL (pc + 3) lv (v.toList ++ rest) Q) : V E G M cells slots nL pc lv st0 Q := by
  obtain ⟨p, e, R, s, m, args, below, meth, c⟩ := G
  obtain ⟨hx, hb, hml, hown, hts, hr, hlk, hRm, hK, hbs, hKs⟩ := hG
  intro H locs ls hR hS hl
  subst hRm
  obtain ⟨fs, g1, -, -⟩ := hR.obj hT h99
  exact V_after (va_runV (As := As) (rest := rest) ⟨hx, hb, hml, hown, hts⟩ hM (cwV n hts hW rfl rfl rfl hd hR9) ⟨KX.blind hE, va_recv hK (oneP g1) hc (q0 := 0) rfl, fun U hU hW => ⟨rfl, by rw [hU]; exact hR, KX.at hE ⟨hK, hbs, hKs⟩ hS hU hW⟩⟩ rfl hn hl.1 hst (lv_room hcat) d hf) hS hl k
theorem V_callS (hE : EOk E) (hG : Cx E G cc nL ret own rm0) {y : MethodName} {bytes : ByteArray} {maxL n index : Nat} {rt : Option FieldType} {rm : Room} {As rest : List Value} {v : Option Value} (hM : CM E y bytes maxL rt rm As M v M') (hW : GoodIn lw_all (va_wsS own index y (ws_ y bytes maxL rt))) (hd : y.cls ≠ "java/lang/invoke/MethodHandle" ∧ y.cls ≠ "java/lang/invoke/VarHandle" ∧ (parseMethodDescriptor y.desc).map (fun d => d.parameters.length) = some n) (hR9 : rm.frames + 1 ≤ rm0.frames ∧ 8 + (maxL + 11) + rm.locals ≤ rm0.locals) (hn : As.length = n) (hst : st0 = As.reverse ++ rest) (hcat : (rest.map fun v => v.category).sum ≤ 8) (hf : cells + rm.cells ≤ rm0.cells ∧ slots + rm.slots ≤ rm0.slots) (d : decode cc pc = .ok (.invokestatic index, 3)) (k : V E G M' (cells + rm.cells) (slots + rm.slots) nL (pc + 3) lv (v.toList ++ rest) Q) : V E G M cells slots nL pc lv st0 Q := by
  obtain ⟨p, e, R, s, m, args, below, meth, c⟩ := G
  obtain ⟨hx, hb, hml, hown, hts, hr, hlk, hRm, hK, hbs, hKs⟩ := hG
  intro H locs ls hR hS hl
  subst hRm
  exact V_after (va_runS (As := As) (rest := rest) ⟨hx, hb, hml, hown, hts⟩ hM (va_cwS n hts hW rfl rfl rfl hd hR9) ⟨KX.blind hE, fun U hU hW => ⟨rfl, by rw [hU]; exact hR, KX.at hE ⟨hK, hbs, hKs⟩ hS hU hW⟩⟩ rfl hn hl.1 hst (lv_room hcat) d hf) hS hl k
theorem V_callI (hE : EOk E) (hG : Cx E G cc nL ret own rm0) {y : MethodName} {bytes : ByteArray} {maxL n index : Nat} {rt : Option FieldType} {rm : Room} {As rest : List Value} {v : Option Value} {a : Nat} (hM : CM E y bytes maxL none rm (rf E a :: As) M v M') (hG9 : GoodIn lw_all (ws_ y bytes maxL none)) (hq1 : Cond.initialized y.cls ∈ lw_all) (hq2 : Cond.methodLink own index y ∈ lw_all) (hq3 : Cond.instanceMethod y ∈ lw_all) (hy1 : y.name = "<init>") (hd : y.cls ≠ "java/lang/invoke/MethodHandle" ∧ y.cls ≠ "java/lang/invoke/VarHandle" ∧ (parseMethodDescriptor y.desc).map (fun d => d.parameters.length) = some n) (hR9 : rm.frames + 1 ≤ rm0.frames ∧ 8 + (maxL + 11) + rm.locals ≤ rm0.locals) (hn : As.length = n) (hst : st0 = As.reverse ++ rf E a :: rest) (hcat : (rest.map fun v => v.category).sum ≤ 8) (hf : cells + rm.cells ≤ rm0.cells ∧ slots + rm.slots ≤ rm0.slots) (d : decode cc pc = .ok (.invokespecial index, 3)) (k : V E G M' (cells + rm.cells) (slots + rm.slots) nL (pc + 3) lv (v.toList ++ rest) Q) : V E G M cells slots nL pc lv st0 Q := by
  obtain ⟨p, e, R, s, m, args, below, meth, c⟩ := G
  obtain ⟨hx, hb, hml, hown, hts, hr, hlk, hRm, hK, hbs, hKs⟩ := hG
  intro H locs ls hR hS hl
  subst hRm
  exact V_after (va_runI (As := As) (rest := rest) ⟨hx, hb, hml, hown, hts⟩ hM (cwI n hts hG9 rfl rfl rfl (hts _ hq1) (hts _ hq2) (hts _ hq3) hy1 hd hR9) ⟨KX.blind hE, fun U hU hW => ⟨rfl, by rw [hU]; exact hR, KX.at hE ⟨hK, hbs, hKs⟩ hS hU hW⟩⟩ rfl hn hl.1 hst (lv_room hcat) d hf) hS hl k
end VR
