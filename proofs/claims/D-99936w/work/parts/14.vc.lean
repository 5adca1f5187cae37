set_option maxRecDepth 100000
/-! ===== words that don't ride in the lists: carried by the further knowledge ===== -/
def nwk (w : Cond) : Bool := match w with
  | .fieldLinkNest .. => true
  | .methodLinkNest .. => true
  | .castable .. => true
  | .declares .. => true
  | .arrayOver (.object _) => true
  | _ => false
def KN (U : State) : Prop := ∀ w ∈ lw_tbl, nwk w = true → va_Nw w U
theorem KN.warm {s U : State} (hW : s.WarmedH U.vm) (h : KN s) : KN U := by
  intro w hw hk
  have h1 := h w hw hk
  cases w with
  | fieldLinkNest a i b n d q => exact va_Nw.warmF hW h1
  | methodLinkNest a i x q => exact va_Nw.warmM hW h1
  | castable a b => exact va_Nw.warmC hW h1
  | declares x => exact va_Nw.warmD hW h1
  | arrayOver t =>
    cases t with
    | object C => exact va_AO.moved hW.alike h1
    | _ => simp [nwk] at hk
  | _ => simp [nwk] at hk
theorem KN.same {U U' : State} (h : U.vm = U'.vm) (hK : KN U) : KN U' := by
  intro w hw hk
  have h1 := hK w hw hk
  cases w with
  | fieldLinkNest a i b n d q => exact va_Nw.same rfl h h1
  | methodLinkNest a i x q => exact va_Nw.same rfl h h1
  | castable a b => exact va_Nw.same rfl h h1
  | declares x => exact va_Nw.same rfl h h1
  | arrayOver t =>
    cases t with
    | object C => exact va_AO.moved (by rw [← h]; exact Vm.Alike.refl U.vm) h1
    | _ => simp [nwk] at hk
  | _ => simp [nwk] at hk
/-- the static TROUBLE: an object of its class below the base -/
def KTr (E : En) (U : State) : Prop := ∃ (x : Nat) (cell : Cell), va_Z "TroughTreaty" "TROUBLE" "LTroughTreaty$Trouble;" (.ref x) (fun q => E.2.1 ≤ q) U U.heap ∧ U.heap[x]? = some cell ∧ cell.vm = .none ∧ U.vm.findClass "TroughTreaty$Trouble" = some cell.cls ∧ x < E.2.1
/-- Throwable's two statics -/
def KTh (E : En) (U : State) : Prop := vx_Zq Bundle.tN "UNASSIGNED_STACK" Bundle.steD (fun q => E.2.1 ≤ q) U U.heap ∧ vx_Zq Bundle.tN "SUPPRESSED_SENTINEL" Bundle.listD (fun q => E.2.1 ≤ q) U U.heap
/-- the literals: the 20 words, the signs -/
def stB : List (List Int32) := [[114, 111, 97, 100], [116, 114, 111, 117, 103, 104], [104, 111, 114, 115, 101], [108, 97, 112], [114, 97, 105, 110], [115, 101, 101, 100], [108, 97, 119], [100, 114, 121], [103, 117, 108, 112], [102, 105, 103, 104, 116], [111, 114], [97, 110, 100], [110, 111, 116], [116, 104, 105, 114, 115, 116], [112, 97, 99, 101], [115, 105, 100, 101], [119, 97, 116, 101, 114], [102, 97, 114], [104, 117, 114, 116], [104, 111, 117, 114], [59, 40, 41, 43, 45, 42, 47, 60, 61, 62]]
def stL : List Nat := [4, 6, 5, 3, 4, 4, 3, 3, 4, 5, 2, 3, 3, 6, 4, 4, 5, 3, 4, 4, 10]
def KStr (E : En) (adK adV : Nat → Nat) (ta : Nat) (U : State) : Prop :=
  vk_S 21 stL stB adK adV (fun q => E.2.1 ≤ q) U U.heap ∧ va_Z "TroughTreaty" "NAMES" "[Ljava/lang/String;" (.ref ta) (fun q => E.2.1 ≤ q) U U.heap ∧ va_T (.object "java/lang/String") ta 20 (fun j => .ref (adK j)) (fun q => E.2.1 ≤ q) U U.heap ∧ vk_R "TroughTreaty$Reader" 61 ";()+-*/<=>" (adK 20) U ∧ va_Z "java/lang/String" "COMPACT_STRINGS" "Z" (.int 1) (fun q => E.2.1 ≤ q) U U.heap ∧ va_Zq "jdk/internal/util/Preconditions" "SIOOBE_FORMATTER" "Ljava/util/function/BiFunction;" (fun q => E.2.1 ≤ q) U U.heap
def NOk (E : En) : Prop := (∀ U : State, E.2.2.2.2 U → KN U) ∧ (∀ U : State, E.2.2.2.2 U → KTr E U) ∧ (∀ U : State, E.2.2.2.2 U → KTh E U) ∧ ∃ (adK adV : Nat → Nat) (ta : Nat), ∀ U : State, E.2.2.2.2 U → KStr E adK adV ta U
section VC
variable {E : En} {G : Ctx} {M M' : Mem} {cells slots nL pc : Nat} {lv lv' : List (Nat × Value)} {st st0 : List Value} {Q : State → Prop} {cc : ByteArray} {ret : Option FieldType} {own : String} {rm0 : Room}
theorem W_getPI (hG : Cx E G cc nL ret own rm0) {a ci k idx N : Nat} {C ref : String} {T : u_T} (hT : mT M a = ci) (h99 : ci < 98) (hc : vwCl[ci]? = some (C, T, N)) (hin : ∀ w ∈ u_ws C T N, w ∈ lw_all) (hk : k < N) (hs : (T k).1 = ref ∨ Cond.sameField ref (T k).1 (T k).2.1 (T k).2.2.1 ∈ lw_all) (hkd : (kd ci)[k]? = some 0) (q : Cond.fieldLink own idx ref (T k).2.1 (T k).2.2.1 ∈ lw_all) (d : decode cc pc = .ok (.getfield idx, 3)) (kk : V E G M cells slots nL (pc + 3) lv (.int (mI M a k) :: st) Q) : V E G M cells slots nL pc lv (rf E a :: st) Q := by
  obtain ⟨p, e, R, s, m, args, below, meth, c⟩ := G
  obtain ⟨hx, hb, hml, hown, hts, hr, hlk, hRm, hK, hbs, hKs⟩ := hG
  intro H locs ls hR hS hl
  obtain ⟨fs, g1, g2, g3⟩ := hR.obj hT h99
  exact va_get (D := E.2.2.1) (ci := ci) (v := fv E M a k 0) (C := C) (T := T) (N := N) hx hb hts hin hown hK (oneP g1) 0 rfl hc k hk (hts _ q) (fun x h9 => hs.elim (fun e9 => e9 ▸ h9) (fun w9 => u_same (hts _ w9) x h9)) (g3 k 0 hkd (by decide)) d (kk H locs ls hR hS hl)
theorem W_getPL (hG : Cx E G cc nL ret own rm0) {a ci k idx N : Nat} {C ref : String} {T : u_T} (hT : mT M a = ci) (h99 : ci < 98) (hc : vwCl[ci]? = some (C, T, N)) (hin : ∀ w ∈ u_ws C T N, w ∈ lw_all) (hk : k < N) (hs : (T k).1 = ref ∨ Cond.sameField ref (T k).1 (T k).2.1 (T k).2.2.1 ∈ lw_all) (hkd : (kd ci)[k]? = some 1) (q : Cond.fieldLink own idx ref (T k).2.1 (T k).2.2.1 ∈ lw_all) (d : decode cc pc = .ok (.getfield idx, 3)) (kk : V E G M cells slots nL (pc + 3) lv (.long (mL M a k) :: st) Q) : V E G M cells slots nL pc lv (rf E a :: st) Q := by
  obtain ⟨p, e, R, s, m, args, below, meth, c⟩ := G
  obtain ⟨hx, hb, hml, hown, hts, hr, hlk, hRm, hK, hbs, hKs⟩ := hG
  intro H locs ls hR hS hl
  obtain ⟨fs, g1, g2, g3⟩ := hR.obj hT h99
  exact va_get (D := E.2.2.1) (ci := ci) (v := fv E M a k 1) (C := C) (T := T) (N := N) hx hb hts hin hown hK (oneP g1) 0 rfl hc k hk (hts _ q) (fun x h9 => hs.elim (fun e9 => e9 ▸ h9) (fun w9 => u_same (hts _ w9) x h9)) (g3 k 1 hkd (by decide)) d (kk H locs ls hR hS hl)
theorem W_getPQ (hG : Cx E G cc nL ret own rm0) {a ci k idx N : Nat} {C ref : String} {T : u_T} (hT : mT M a = ci) (h99 : ci < 98) (hc : vwCl[ci]? = some (C, T, N)) (hin : ∀ w ∈ u_ws C T N, w ∈ lw_all) (hk : k < N) (hs : (T k).1 = ref ∨ Cond.sameField ref (T k).1 (T k).2.1 (T k).2.2.1 ∈ lw_all) (hkd : (kd ci)[k]? = some 2) (q : Cond.fieldLink own idx ref (T k).2.1 (T k).2.2.1 ∈ lw_all) (d : decode cc pc = .ok (.getfield idx, 3)) (kk : V E G M cells slots nL (pc + 3) lv (rq E (mR M a k) :: st) Q) : V E G M cells slots nL pc lv (rf E a :: st) Q := by
  obtain ⟨p, e, R, s, m, args, below, meth, c⟩ := G
  obtain ⟨hx, hb, hml, hown, hts, hr, hlk, hRm, hK, hbs, hKs⟩ := hG
  intro H locs ls hR hS hl
  obtain ⟨fs, g1, g2, g3⟩ := hR.obj hT h99
  exact va_get (D := E.2.2.1) (ci := ci) (v := fv E M a k 2) (C := C) (T := T) (N := N) hx hb hts hin hown hK (oneP g1) 0 rfl hc k hk (hts _ q) (fun x h9 => hs.elim (fun e9 => e9 ▸ h9) (fun w9 => u_same (hts _ w9) x h9)) (g3 k 2 hkd (by decide)) d (kk H locs ls hR hS hl)
theorem W_getPR (hG : Cx E G cc nL ret own rm0) {a ci k idx N : Nat} {C ref : String} {T : u_T} (hT : mT M a = ci) (h99 : ci < 98) (hc : vwCl[ci]? = some (C, T, N)) (hin : ∀ w ∈ u_ws C T N, w ∈ lw_all) (hk : k < N) (hs : (T k).1 = ref ∨ Cond.sameField ref (T k).1 (T k).2.1 (T k).2.2.1 ∈ lw_all) {r : Nat} (hr9 : mR M a k = some r) (hkd : (kd ci)[k]? = some 2) (q : Cond.fieldLink own idx ref (T k).2.1 (T k).2.2.1 ∈ lw_all) (d : decode cc pc = .ok (.getfield idx, 3)) (kk : V E G M cells slots nL (pc + 3) lv (rf E r :: st) Q) : V E G M cells slots nL pc lv (rf E a :: st) Q := W_getPQ hG hT h99 hc hin hk hs hkd q d (by rw [hr9]; exact kk)
theorem W_putPI (hG : Cx E G cc nL ret own rm0) {a ci k idx N : Nat} {C ref : String} {T : u_T} (hT : mT M a = ci) (h99 : ci < 98) (hc : vwCl[ci]? = some (C, T, N)) (hin : ∀ w ∈ u_ws C T N, w ∈ lw_all) (hk : k < N) (hs : (T k).1 = ref ∨ Cond.sameField ref (T k).1 (T k).2.1 (T k).2.2.1 ∈ lw_all) (ty0 : Nat → FieldType) (hty : ∀ k, k < N → parseFieldDescriptor (T k).2.2.1 = some (ty0 k)) (hnm : ∀ a, a < N → ∀ b, b < N → a ≠ b → (T a).2.1 ≠ (T b).2.1) (hfin : (T k).2.2.2 = false) {x : Int32} (hd : parseFieldDescriptor (T k).2.2.1 = some .int) (hkd : (kd ci)[k]? = some 0) (q : Cond.fieldLink own idx ref (T k).2.1 (T k).2.2.1 ∈ lw_all) (M1 : Mem) (hM1 : M1 = sI M a k x) (d : decode cc pc = .ok (.putfield idx, 3)) (kk : V E G M1 cells slots nL (pc + 3) lv st Q) : V E G M cells slots nL pc lv (.int x :: rf E a :: st) Q := by
  subst hM1
  obtain ⟨p, e, R, s, m, args, below, meth, c⟩ := G
  obtain ⟨hx, hb, hml, hown, hts, hr, hlk, hRm, hK, hbs, hKs⟩ := hG
  intro H locs ls hR hS hl
  obtain ⟨fs, g1, g2, g3⟩ := hR.obj hT h99
  have hl9 : k < fs.length := by rw [g2]; exact (List.getElem?_eq_some_iff.mp hkd).1
  have hap := va_apart (own := own) hts hin ty0 hty hnm hK hc
  obtain ⟨r, h1, cell, q1, q2, q3, q4⟩ := g1
  have hr9 : r = (C, T, N) := Option.some.inj (h1.symm.trans hc)
  subst hr9
  obtain ⟨hSl, hfc, kC, hkC, hkind⟩ := hK.1 ci _ hc
  obtain ⟨cf, kf, fi, f, hi, hsl⟩ := hSl k hk
  have hlay := hts _ (hin _ (u_in_lay hk))
  unfold u_lay at hlay
  rw [if_neg (by rw [hfin]; decide)] at hlay
  have hst := (u_facts hfc hkC (u_lays hts hin hk) hi).1
  have hi2 : s.fieldFound? ref (T k).2.1 (T k).2.2.1 = some (cf, kf, fi, f) := (fun x h9 => hs.elim (fun e9 => e9 ▸ h9) (fun w9 => u_same (hts _ w9) x h9)) _ hi
  have h6 := u_store (v := .int x) hfc hkC hkind hlay hi hd rfl rfl
  refine W.putK hx hb (f := f) ⟨hown, hts _ q, ⟨_, _, _, hi2⟩, hst⟩ (by rw [q2]; exact h6) q1 q3 (by rw [hsl]; exact k2_hasslot (q4 k hk)) rfl rfl d fun H' e1 e2 e3 => ?_
  rw [hsl] at e1 ⊢
  have g4 := fv_set (E := E) (M := M) (M' := sI M a k x) (a := a) (ci := ci) (v := .int x) g2 g3 hkd (by show _ = Value.int _; rw [sI_self]) (fun j kk h => fvI_ne j kk h)
  refine kk H' _ ls (Rep_set (a := a) (e := .inr (ci, fs.set k (.int x))) hR e2 e3 rfl rfl rfl (fun b hb => u2_ne hb) (fun b hb => rfl) (fun b hb => rfl) ⟨_, hc, t_OB.to (V := updV (vp_V fs) k (.int x)) ⟨_, e1, q2, q3, t_set q4 hap hk _⟩ (fun j _ => vp_updV_set hl9 _ j)⟩ ?_ ⟨_, e1, by rw [setSlot_size]; exact hR.sz (hR.lt hT (by omega)) q1⟩) (hS.put e2 e3 (Nat.le_add_right _ _)) hl
  unfold CellM
  have hT2 : mT (sI M a k x) a = ci := hT
  rw [hT2, if_neg (by omega), if_pos (by omega)]
  exact ⟨_, rfl, g4.1, g4.2⟩
theorem W_putPZ (hG : Cx E G cc nL ret own rm0) {a ci k idx N : Nat} {C ref : String} {T : u_T} (hT : mT M a = ci) (h99 : ci < 98) (hc : vwCl[ci]? = some (C, T, N)) (hin : ∀ w ∈ u_ws C T N, w ∈ lw_all) (hk : k < N) (hs : (T k).1 = ref ∨ Cond.sameField ref (T k).1 (T k).2.1 (T k).2.2.1 ∈ lw_all) (ty0 : Nat → FieldType) (hty : ∀ k, k < N → parseFieldDescriptor (T k).2.2.1 = some (ty0 k)) (hnm : ∀ a, a < N → ∀ b, b < N → a ≠ b → (T a).2.1 ≠ (T b).2.1) (hfin : (T k).2.2.2 = false) {x : Int32} (hd : parseFieldDescriptor (T k).2.2.1 = some .boolean) (hx01 : x = 0 ∨ x = 1) (hkd : (kd ci)[k]? = some 0) (q : Cond.fieldLink own idx ref (T k).2.1 (T k).2.2.1 ∈ lw_all) (M1 : Mem) (hM1 : M1 = sI M a k x) (d : decode cc pc = .ok (.putfield idx, 3)) (kk : V E G M1 cells slots nL (pc + 3) lv st Q) : V E G M cells slots nL pc lv (.int x :: rf E a :: st) Q := by
  subst hM1
  obtain ⟨p, e, R, s, m, args, below, meth, c⟩ := G
  obtain ⟨hx, hb, hml, hown, hts, hr, hlk, hRm, hK, hbs, hKs⟩ := hG
  intro H locs ls hR hS hl
  obtain ⟨fs, g1, g2, g3⟩ := hR.obj hT h99
  have hl9 : k < fs.length := by rw [g2]; exact (List.getElem?_eq_some_iff.mp hkd).1
  have hap := va_apart (own := own) hts hin ty0 hty hnm hK hc
  obtain ⟨r, h1, cell, q1, q2, q3, q4⟩ := g1
  have hr9 : r = (C, T, N) := Option.some.inj (h1.symm.trans hc)
  subst hr9
  obtain ⟨hSl, hfc, kC, hkC, hkind⟩ := hK.1 ci _ hc
  obtain ⟨cf, kf, fi, f, hi, hsl⟩ := hSl k hk
  have hlay := hts _ (hin _ (u_in_lay hk))
  unfold u_lay at hlay
  rw [if_neg (by rw [hfin]; decide)] at hlay
  have hst := (u_facts hfc hkC (u_lays hts hin hk) hi).1
  have hi2 : s.fieldFound? ref (T k).2.1 (T k).2.2.1 = some (cf, kf, fi, f) := (fun x h9 => hs.elim (fun e9 => e9 ▸ h9) (fun w9 => u_same (hts _ w9) x h9)) _ hi
  have h6 := u_store (v := .int x) hfc hkC hkind hlay hi hd (by rcases hx01 with rfl | rfl <;> rfl) (by rcases hx01 with rfl | rfl <;> rfl)
  refine W.putK hx hb (f := f) ⟨hown, hts _ q, ⟨_, _, _, hi2⟩, hst⟩ (by rw [q2]; exact h6) q1 q3 (by rw [hsl]; exact k2_hasslot (q4 k hk)) rfl rfl d fun H' e1 e2 e3 => ?_
  rw [hsl] at e1 ⊢
  have g4 := fv_set (E := E) (M := M) (M' := sI M a k x) (a := a) (ci := ci) (v := .int x) g2 g3 hkd (by show _ = Value.int _; rw [sI_self]) (fun j kk h => fvI_ne j kk h)
  refine kk H' _ ls (Rep_set (a := a) (e := .inr (ci, fs.set k (.int x))) hR e2 e3 rfl rfl rfl (fun b hb => u2_ne hb) (fun b hb => rfl) (fun b hb => rfl) ⟨_, hc, t_OB.to (V := updV (vp_V fs) k (.int x)) ⟨_, e1, q2, q3, t_set q4 hap hk _⟩ (fun j _ => vp_updV_set hl9 _ j)⟩ ?_ ⟨_, e1, by rw [setSlot_size]; exact hR.sz (hR.lt hT (by omega)) q1⟩) (hS.put e2 e3 (Nat.le_add_right _ _)) hl
  unfold CellM
  have hT2 : mT (sI M a k x) a = ci := hT
  rw [hT2, if_neg (by omega), if_pos (by omega)]
  exact ⟨_, rfl, g4.1, g4.2⟩
theorem W_putPQ (hG : Cx E G cc nL ret own rm0) {a ci k idx N : Nat} {C ref : String} {T : u_T} (hT : mT M a = ci) (h99 : ci < 98) (hc : vwCl[ci]? = some (C, T, N)) (hin : ∀ w ∈ u_ws C T N, w ∈ lw_all) (hk : k < N) (hs : (T k).1 = ref ∨ Cond.sameField ref (T k).1 (T k).2.1 (T k).2.2.1 ∈ lw_all) (ty0 : Nat → FieldType) (hty : ∀ k, k < N → parseFieldDescriptor (T k).2.2.1 = some (ty0 k)) (hnm : ∀ a, a < N → ∀ b, b < N → a ≠ b → (T a).2.1 ≠ (T b).2.1) (hfin : (T k).2.2.2 = false) {x : Option Nat} {ty : FieldType} (hd : parseFieldDescriptor (T k).2.2.1 = some ty) (hty9 : (∃ c, ty = .object c) ∨ ∃ t, ty = .array t) (hkd : (kd ci)[k]? = some 2) (q : Cond.fieldLink own idx ref (T k).2.1 (T k).2.2.1 ∈ lw_all) (M1 : Mem) (hM1 : M1 = sR M a k x) (d : decode cc pc = .ok (.putfield idx, 3)) (kk : V E G M1 cells slots nL (pc + 3) lv st Q) : V E G M cells slots nL pc lv (rq E x :: rf E a :: st) Q := by
  subst hM1
  obtain ⟨p, e, R, s, m, args, below, meth, c⟩ := G
  obtain ⟨hx, hb, hml, hown, hts, hr, hlk, hRm, hK, hbs, hKs⟩ := hG
  intro H locs ls hR hS hl
  obtain ⟨fs, g1, g2, g3⟩ := hR.obj hT h99
  have hl9 : k < fs.length := by rw [g2]; exact (List.getElem?_eq_some_iff.mp hkd).1
  have hap := va_apart (own := own) hts hin ty0 hty hnm hK hc
  obtain ⟨r, h1, cell, q1, q2, q3, q4⟩ := g1
  have hr9 : r = (C, T, N) := Option.some.inj (h1.symm.trans hc)
  subst hr9
  obtain ⟨hSl, hfc, kC, hkC, hkind⟩ := hK.1 ci _ hc
  obtain ⟨cf, kf, fi, f, hi, hsl⟩ := hSl k hk
  have hlay := hts _ (hin _ (u_in_lay hk))
  unfold u_lay at hlay
  rw [if_neg (by rw [hfin]; decide)] at hlay
  have hst := (u_facts hfc hkC (u_lays hts hin hk) hi).1
  have hi2 : s.fieldFound? ref (T k).2.1 (T k).2.2.1 = some (cf, kf, fi, f) := (fun x h9 => hs.elim (fun e9 => e9 ▸ h9) (fun w9 => u_same (hts _ w9) x h9)) _ hi
  have h6 := u_store (v := rq E x) hfc hkC hkind hlay hi hd (by rcases hty9 with ⟨c, rfl⟩ | ⟨t, rfl⟩ <;> cases x <;> rfl) (by rcases hty9 with ⟨c, rfl⟩ | ⟨t, rfl⟩ <;> cases x <;> rfl)
  refine W.putK hx hb (f := f) ⟨hown, hts _ q, ⟨_, _, _, hi2⟩, hst⟩ (by rw [q2]; exact h6) q1 q3 (by rw [hsl]; exact k2_hasslot (q4 k hk)) rfl rfl d fun H' e1 e2 e3 => ?_
  rw [hsl] at e1 ⊢
  have g4 := fv_set (E := E) (M := M) (M' := sR M a k x) (a := a) (ci := ci) (v := rq E x) g2 g3 hkd (by show _ = rq E _; rw [sR_self]) (fun j kk h => fvR_ne j kk h)
  refine kk H' _ ls (Rep_set (a := a) (e := .inr (ci, fs.set k (rq E x))) hR e2 e3 rfl rfl rfl (fun b hb => rfl) (fun b hb => rfl) (fun b hb => u2_ne hb) ⟨_, hc, t_OB.to (V := updV (vp_V fs) k (rq E x)) ⟨_, e1, q2, q3, t_set q4 hap hk _⟩ (fun j _ => vp_updV_set hl9 _ j)⟩ ?_ ⟨_, e1, by rw [setSlot_size]; exact hR.sz (hR.lt hT (by omega)) q1⟩) (hS.put e2 e3 (Nat.le_add_right _ _)) hl
  unfold CellM
  have hT2 : mT (sR M a k x) a = ci := hT
  rw [hT2, if_neg (by omega), if_pos (by omega)]
  exact ⟨_, rfl, g4.1, g4.2⟩
theorem W_getNI (hG : Cx E G cc nL ret own rm0) {a ci k idx N : Nat} {C ref : String} {T : u_T} (hT : mT M a = ci) (h99 : ci < 98) (hc : vwCl[ci]? = some (C, T, N)) (hin : ∀ w ∈ u_ws C T N, w ∈ lw_all) (hk : k < N) (hs : (T k).1 = ref ∨ Cond.sameField ref (T k).1 (T k).2.1 (T k).2.2.1 ∈ lw_all) (hkd : (kd ci)[k]? = some 0) (hN : NOk E) {host : String} (q : Cond.fieldLinkNest own idx ref (T k).2.1 (T k).2.2.1 host ∈ lw_tbl) (d : decode cc pc = .ok (.getfield idx, 3)) (kk : V E G M cells slots nL (pc + 3) lv (.int (mI M a k) :: st) Q) : V E G M cells slots nL pc lv (rf E a :: st) Q := by
  obtain ⟨p, e, R, s, m, args, below, meth, c⟩ := G
  obtain ⟨hx, hb, hml, hown, hts, hr, hlk, hRm, hK, hbs, hKs⟩ := hG
  intro H locs ls hR hS hl
  obtain ⟨fs, g1, g2, g3⟩ := hR.obj hT h99
  exact va_getN (D := E.2.2.1) (ci := ci) (v := fv E M a k 0) (C := C) (T := T) (N := N) hx hb hts hin hown hK (oneP g1) 0 rfl hc k hk (va_Nw.use rfl (hN.1 s hKs _ q rfl)) (fun x h9 => hs.elim (fun e9 => e9 ▸ h9) (fun w9 => u_same (hts _ w9) x h9)) (g3 k 0 hkd (by decide)) d (kk H locs ls hR hS hl)
theorem W_getNL (hG : Cx E G cc nL ret own rm0) {a ci k idx N : Nat} {C ref : String} {T : u_T} (hT : mT M a = ci) (h99 : ci < 98) (hc : vwCl[ci]? = some (C, T, N)) (hin : ∀ w ∈ u_ws C T N, w ∈ lw_all) (hk : k < N) (hs : (T k).1 = ref ∨ Cond.sameField ref (T k).1 (T k).2.1 (T k).2.2.1 ∈ lw_all) (hkd : (kd ci)[k]? = some 1) (hN : NOk E) {host : String} (q : Cond.fieldLinkNest own idx ref (T k).2.1 (T k).2.2.1 host ∈ lw_tbl) (d : decode cc pc = .ok (.getfield idx, 3)) (kk : V E G M cells slots nL (pc + 3) lv (.long (mL M a k) :: st) Q) : V E G M cells slots nL pc lv (rf E a :: st) Q := by
  obtain ⟨p, e, R, s, m, args, below, meth, c⟩ := G
  obtain ⟨hx, hb, hml, hown, hts, hr, hlk, hRm, hK, hbs, hKs⟩ := hG
  intro H locs ls hR hS hl
  obtain ⟨fs, g1, g2, g3⟩ := hR.obj hT h99
  exact va_getN (D := E.2.2.1) (ci := ci) (v := fv E M a k 1) (C := C) (T := T) (N := N) hx hb hts hin hown hK (oneP g1) 0 rfl hc k hk (va_Nw.use rfl (hN.1 s hKs _ q rfl)) (fun x h9 => hs.elim (fun e9 => e9 ▸ h9) (fun w9 => u_same (hts _ w9) x h9)) (g3 k 1 hkd (by decide)) d (kk H locs ls hR hS hl)
theorem W_getNQ (hG : Cx E G cc nL ret own rm0) {a ci k idx N : Nat} {C ref : String} {T : u_T} (hT : mT M a = ci) (h99 : ci < 98) (hc : vwCl[ci]? = some (C, T, N)) (hin : ∀ w ∈ u_ws C T N, w ∈ lw_all) (hk : k < N) (hs : (T k).1 = ref ∨ Cond.sameField ref (T k).1 (T k).2.1 (T k).2.2.1 ∈ lw_all) (hkd : (kd ci)[k]? = some 2) (hN : NOk E) {host : String} (q : Cond.fieldLinkNest own idx ref (T k).2.1 (T k).2.2.1 host ∈ lw_tbl) (d : decode cc pc = .ok (.getfield idx, 3)) (kk : V E G M cells slots nL (pc + 3) lv (rq E (mR M a k) :: st) Q) : V E G M cells slots nL pc lv (rf E a :: st) Q := by
  obtain ⟨p, e, R, s, m, args, below, meth, c⟩ := G
  obtain ⟨hx, hb, hml, hown, hts, hr, hlk, hRm, hK, hbs, hKs⟩ := hG
  intro H locs ls hR hS hl
  obtain ⟨fs, g1, g2, g3⟩ := hR.obj hT h99
  exact va_getN (D := E.2.2.1) (ci := ci) (v := fv E M a k 2) (C := C) (T := T) (N := N) hx hb hts hin hown hK (oneP g1) 0 rfl hc k hk (va_Nw.use rfl (hN.1 s hKs _ q rfl)) (fun x h9 => hs.elim (fun e9 => e9 ▸ h9) (fun w9 => u_same (hts _ w9) x h9)) (g3 k 2 hkd (by decide)) d (kk H locs ls hR hS hl)
theorem W_getNR (hG : Cx E G cc nL ret own rm0) {a ci k idx N : Nat} {C ref : String} {T : u_T} (hT : mT M a = ci) (h99 : ci < 98) (hc : vwCl[ci]? = some (C, T, N)) (hin : ∀ w ∈ u_ws C T N, w ∈ lw_all) (hk : k < N) (hs : (T k).1 = ref ∨ Cond.sameField ref (T k).1 (T k).2.1 (T k).2.2.1 ∈ lw_all) {r : Nat} (hr9 : mR M a k = some r) (hkd : (kd ci)[k]? = some 2) (hN : NOk E) {host : String} (q : Cond.fieldLinkNest own idx ref (T k).2.1 (T k).2.2.1 host ∈ lw_tbl) (d : decode cc pc = .ok (.getfield idx, 3)) (kk : V E G M cells slots nL (pc + 3) lv (rf E r :: st) Q) : V E G M cells slots nL pc lv (rf E a :: st) Q := W_getNQ hG hT h99 hc hin hk hs hkd hN q d (by rw [hr9]; exact kk)
theorem W_putNI (hG : Cx E G cc nL ret own rm0) {a ci k idx N : Nat} {C ref : String} {T : u_T} (hT : mT M a = ci) (h99 : ci < 98) (hc : vwCl[ci]? = some (C, T, N)) (hin : ∀ w ∈ u_ws C T N, w ∈ lw_all) (hk : k < N) (hs : (T k).1 = ref ∨ Cond.sameField ref (T k).1 (T k).2.1 (T k).2.2.1 ∈ lw_all) (ty0 : Nat → FieldType) (hty : ∀ k, k < N → parseFieldDescriptor (T k).2.2.1 = some (ty0 k)) (hnm : ∀ a, a < N → ∀ b, b < N → a ≠ b → (T a).2.1 ≠ (T b).2.1) (hfin : (T k).2.2.2 = false) {x : Int32} (hd : parseFieldDescriptor (T k).2.2.1 = some .int) (hkd : (kd ci)[k]? = some 0) (hN : NOk E) {host : String} (q : Cond.fieldLinkNest own idx ref (T k).2.1 (T k).2.2.1 host ∈ lw_tbl) (M1 : Mem) (hM1 : M1 = sI M a k x) (d : decode cc pc = .ok (.putfield idx, 3)) (kk : V E G M1 cells slots nL (pc + 3) lv st Q) : V E G M cells slots nL pc lv (.int x :: rf E a :: st) Q := by
  subst hM1
  obtain ⟨p, e, R, s, m, args, below, meth, c⟩ := G
  obtain ⟨hx, hb, hml, hown, hts, hr, hlk, hRm, hK, hbs, hKs⟩ := hG
  intro H locs ls hR hS hl
  obtain ⟨fs, g1, g2, g3⟩ := hR.obj hT h99
  have hl9 : k < fs.length := by rw [g2]; exact (List.getElem?_eq_some_iff.mp hkd).1
  have hap := va_apart (own := own) hts hin ty0 hty hnm hK hc
  obtain ⟨r, h1, cell, q1, q2, q3, q4⟩ := g1
  have hr9 : r = (C, T, N) := Option.some.inj (h1.symm.trans hc)
  subst hr9
  obtain ⟨hSl, hfc, kC, hkC, hkind⟩ := hK.1 ci _ hc
  obtain ⟨cf, kf, fi, f, hi, hsl⟩ := hSl k hk
  have hlay := hts _ (hin _ (u_in_lay hk))
  unfold u_lay at hlay
  rw [if_neg (by rw [hfin]; decide)] at hlay
  have hst := (u_facts hfc hkC (u_lays hts hin hk) hi).1
  have hi2 : s.fieldFound? ref (T k).2.1 (T k).2.2.1 = some (cf, kf, fi, f) := (fun x h9 => hs.elim (fun e9 => e9 ▸ h9) (fun w9 => u_same (hts _ w9) x h9)) _ hi
  have h6 := u_store (v := .int x) hfc hkC hkind hlay hi hd rfl rfl
  refine va_WputK hx hb (f := f) hown (va_Nw.use rfl (hN.1 s hKs _ q rfl)) hi2 hst (by rw [q2]; exact h6) q1 q3 (by rw [hsl]; exact k2_hasslot (q4 k hk)) rfl rfl d fun H' e1 e2 e3 => ?_
  rw [hsl] at e1 ⊢
  have g4 := fv_set (E := E) (M := M) (M' := sI M a k x) (a := a) (ci := ci) (v := .int x) g2 g3 hkd (by show _ = Value.int _; rw [sI_self]) (fun j kk h => fvI_ne j kk h)
  refine kk H' _ ls (Rep_set (a := a) (e := .inr (ci, fs.set k (.int x))) hR e2 e3 rfl rfl rfl (fun b hb => u2_ne hb) (fun b hb => rfl) (fun b hb => rfl) ⟨_, hc, t_OB.to (V := updV (vp_V fs) k (.int x)) ⟨_, e1, q2, q3, t_set q4 hap hk _⟩ (fun j _ => vp_updV_set hl9 _ j)⟩ ?_ ⟨_, e1, by rw [setSlot_size]; exact hR.sz (hR.lt hT (by omega)) q1⟩) (hS.put e2 e3 (Nat.le_add_right _ _)) hl
  unfold CellM
  have hT2 : mT (sI M a k x) a = ci := hT
  rw [hT2, if_neg (by omega), if_pos (by omega)]
  exact ⟨_, rfl, g4.1, g4.2⟩
theorem W_putNZ (hG : Cx E G cc nL ret own rm0) {a ci k idx N : Nat} {C ref : String} {T : u_T} (hT : mT M a = ci) (h99 : ci < 98) (hc : vwCl[ci]? = some (C, T, N)) (hin : ∀ w ∈ u_ws C T N, w ∈ lw_all) (hk : k < N) (hs : (T k).1 = ref ∨ Cond.sameField ref (T k).1 (T k).2.1 (T k).2.2.1 ∈ lw_all) (ty0 : Nat → FieldType) (hty : ∀ k, k < N → parseFieldDescriptor (T k).2.2.1 = some (ty0 k)) (hnm : ∀ a, a < N → ∀ b, b < N → a ≠ b → (T a).2.1 ≠ (T b).2.1) (hfin : (T k).2.2.2 = false) {x : Int32} (hd : parseFieldDescriptor (T k).2.2.1 = some .boolean) (hx01 : x = 0 ∨ x = 1) (hkd : (kd ci)[k]? = some 0) (hN : NOk E) {host : String} (q : Cond.fieldLinkNest own idx ref (T k).2.1 (T k).2.2.1 host ∈ lw_tbl) (M1 : Mem) (hM1 : M1 = sI M a k x) (d : decode cc pc = .ok (.putfield idx, 3)) (kk : V E G M1 cells slots nL (pc + 3) lv st Q) : V E G M cells slots nL pc lv (.int x :: rf E a :: st) Q := by
  subst hM1
  obtain ⟨p, e, R, s, m, args, below, meth, c⟩ := G
  obtain ⟨hx, hb, hml, hown, hts, hr, hlk, hRm, hK, hbs, hKs⟩ := hG
  intro H locs ls hR hS hl
  obtain ⟨fs, g1, g2, g3⟩ := hR.obj hT h99
  have hl9 : k < fs.length := by rw [g2]; exact (List.getElem?_eq_some_iff.mp hkd).1
  have hap := va_apart (own := own) hts hin ty0 hty hnm hK hc
  obtain ⟨r, h1, cell, q1, q2, q3, q4⟩ := g1
  have hr9 : r = (C, T, N) := Option.some.inj (h1.symm.trans hc)
  subst hr9
  obtain ⟨hSl, hfc, kC, hkC, hkind⟩ := hK.1 ci _ hc
  obtain ⟨cf, kf, fi, f, hi, hsl⟩ := hSl k hk
  have hlay := hts _ (hin _ (u_in_lay hk))
  unfold u_lay at hlay
  rw [if_neg (by rw [hfin]; decide)] at hlay
  have hst := (u_facts hfc hkC (u_lays hts hin hk) hi).1
  have hi2 : s.fieldFound? ref (T k).2.1 (T k).2.2.1 = some (cf, kf, fi, f) := (fun x h9 => hs.elim (fun e9 => e9 ▸ h9) (fun w9 => u_same (hts _ w9) x h9)) _ hi
  have h6 := u_store (v := .int x) hfc hkC hkind hlay hi hd (by rcases hx01 with rfl | rfl <;> rfl) (by rcases hx01 with rfl | rfl <;> rfl)
  refine va_WputK hx hb (f := f) hown (va_Nw.use rfl (hN.1 s hKs _ q rfl)) hi2 hst (by rw [q2]; exact h6) q1 q3 (by rw [hsl]; exact k2_hasslot (q4 k hk)) rfl rfl d fun H' e1 e2 e3 => ?_
  rw [hsl] at e1 ⊢
  have g4 := fv_set (E := E) (M := M) (M' := sI M a k x) (a := a) (ci := ci) (v := .int x) g2 g3 hkd (by show _ = Value.int _; rw [sI_self]) (fun j kk h => fvI_ne j kk h)
  refine kk H' _ ls (Rep_set (a := a) (e := .inr (ci, fs.set k (.int x))) hR e2 e3 rfl rfl rfl (fun b hb => u2_ne hb) (fun b hb => rfl) (fun b hb => rfl) ⟨_, hc, t_OB.to (V := updV (vp_V fs) k (.int x)) ⟨_, e1, q2, q3, t_set q4 hap hk _⟩ (fun j _ => vp_updV_set hl9 _ j)⟩ ?_ ⟨_, e1, by rw [setSlot_size]; exact hR.sz (hR.lt hT (by omega)) q1⟩) (hS.put e2 e3 (Nat.le_add_right _ _)) hl
  unfold CellM
  have hT2 : mT (sI M a k x) a = ci := hT
  rw [hT2, if_neg (by omega), if_pos (by omega)]
  exact ⟨_, rfl, g4.1, g4.2⟩
theorem W_putNQ (hG : Cx E G cc nL ret own rm0) {a ci k idx N : Nat} {C ref : String} {T : u_T} (hT : mT M a = ci) (h99 : ci < 98) (hc : vwCl[ci]? = some (C, T, N)) (hin : ∀ w ∈ u_ws C T N, w ∈ lw_all) (hk : k < N) (hs : (T k).1 = ref ∨ Cond.sameField ref (T k).1 (T k).2.1 (T k).2.2.1 ∈ lw_all) (ty0 : Nat → FieldType) (hty : ∀ k, k < N → parseFieldDescriptor (T k).2.2.1 = some (ty0 k)) (hnm : ∀ a, a < N → ∀ b, b < N → a ≠ b → (T a).2.1 ≠ (T b).2.1) (hfin : (T k).2.2.2 = false) {x : Option Nat} {ty : FieldType} (hd : parseFieldDescriptor (T k).2.2.1 = some ty) (hty9 : (∃ c, ty = .object c) ∨ ∃ t, ty = .array t) (hkd : (kd ci)[k]? = some 2) (hN : NOk E) {host : String} (q : Cond.fieldLinkNest own idx ref (T k).2.1 (T k).2.2.1 host ∈ lw_tbl) (M1 : Mem) (hM1 : M1 = sR M a k x) (d : decode cc pc = .ok (.putfield idx, 3)) (kk : V E G M1 cells slots nL (pc + 3) lv st Q) : V E G M cells slots nL pc lv (rq E x :: rf E a :: st) Q := by
  subst hM1
  obtain ⟨p, e, R, s, m, args, below, meth, c⟩ := G
  obtain ⟨hx, hb, hml, hown, hts, hr, hlk, hRm, hK, hbs, hKs⟩ := hG
  intro H locs ls hR hS hl
  obtain ⟨fs, g1, g2, g3⟩ := hR.obj hT h99
  have hl9 : k < fs.length := by rw [g2]; exact (List.getElem?_eq_some_iff.mp hkd).1
  have hap := va_apart (own := own) hts hin ty0 hty hnm hK hc
  obtain ⟨r, h1, cell, q1, q2, q3, q4⟩ := g1
  have hr9 : r = (C, T, N) := Option.some.inj (h1.symm.trans hc)
  subst hr9
  obtain ⟨hSl, hfc, kC, hkC, hkind⟩ := hK.1 ci _ hc
  obtain ⟨cf, kf, fi, f, hi, hsl⟩ := hSl k hk
  have hlay := hts _ (hin _ (u_in_lay hk))
  unfold u_lay at hlay
  rw [if_neg (by rw [hfin]; decide)] at hlay
  have hst := (u_facts hfc hkC (u_lays hts hin hk) hi).1
  have hi2 : s.fieldFound? ref (T k).2.1 (T k).2.2.1 = some (cf, kf, fi, f) := (fun x h9 => hs.elim (fun e9 => e9 ▸ h9) (fun w9 => u_same (hts _ w9) x h9)) _ hi
  have h6 := u_store (v := rq E x) hfc hkC hkind hlay hi hd (by rcases hty9 with ⟨c, rfl⟩ | ⟨t, rfl⟩ <;> cases x <;> rfl) (by rcases hty9 with ⟨c, rfl⟩ | ⟨t, rfl⟩ <;> cases x <;> rfl)
  refine va_WputK hx hb (f := f) hown (va_Nw.use rfl (hN.1 s hKs _ q rfl)) hi2 hst (by rw [q2]; exact h6) q1 q3 (by rw [hsl]; exact k2_hasslot (q4 k hk)) rfl rfl d fun H' e1 e2 e3 => ?_
  rw [hsl] at e1 ⊢
  have g4 := fv_set (E := E) (M := M) (M' := sR M a k x) (a := a) (ci := ci) (v := rq E x) g2 g3 hkd (by show _ = rq E _; rw [sR_self]) (fun j kk h => fvR_ne j kk h)
  refine kk H' _ ls (Rep_set (a := a) (e := .inr (ci, fs.set k (rq E x))) hR e2 e3 rfl rfl rfl (fun b hb => rfl) (fun b hb => rfl) (fun b hb => u2_ne hb) ⟨_, hc, t_OB.to (V := updV (vp_V fs) k (rq E x)) ⟨_, e1, q2, q3, t_set q4 hap hk _⟩ (fun j _ => vp_updV_set hl9 _ j)⟩ ?_ ⟨_, e1, by rw [setSlot_size]; exact hR.sz (hR.lt hT (by omega)) q1⟩) (hS.put e2 e3 (Nat.le_add_right _ _)) hl
  unfold CellM
  have hT2 : mT (sR M a k x) a = ci := hT
  rw [hT2, if_neg (by omega), if_pos (by omega)]
  exact ⟨_, rfl, g4.1, g4.2⟩
theorem W_iastore (hG : Cx E G cc nL ret own rm0) {a : Nat} {i : Int32} (hT : mT M a = 100) (hi : inb i (mLn M a)) {x : Int32}  (M1 : Mem) (hM1 : M1 = sI M a i.toNatClampNeg (x)) (d : decode cc pc = .ok (.iastore, 1)) (k : V E G M1 cells slots nL (pc + 1) lv st Q) : V E G M cells slots nL pc lv (.int x :: .int i :: rf E a :: st) Q := V_iastore hG hT hi d (by rw [← hM1]; exact k)
theorem W_zastore (hG : Cx E G cc nL ret own rm0) {a : Nat} {i : Int32} (hT : mT M a = 102) (hi : inb i (mLn M a)) {x : Int32} (hx01 : x = 0 ∨ x = 1) (M1 : Mem) (hM1 : M1 = sI M a i.toNatClampNeg (x)) (d : decode cc pc = .ok (.bastore, 1)) (k : V E G M1 cells slots nL (pc + 1) lv st Q) : V E G M cells slots nL pc lv (.int x :: .int i :: rf E a :: st) Q := V_zastore hG hT hi hx01 d (by rw [← hM1]; exact k)
theorem W_bastore (hG : Cx E G cc nL ret own rm0) {a : Nat} {i : Int32} (hT : mT M a = 101) (hi : inb i (mLn M a)) {x : Int32}  (M1 : Mem) (hM1 : M1 = sI M a i.toNatClampNeg (x.toInt8.toInt32)) (d : decode cc pc = .ok (.bastore, 1)) (k : V E G M1 cells slots nL (pc + 1) lv st Q) : V E G M cells slots nL pc lv (.int x :: .int i :: rf E a :: st) Q := V_bastore hG hT hi d (by rw [← hM1]; exact k)
theorem W_lastore (hG : Cx E G cc nL ret own rm0) {a : Nat} {i : Int32} (hT : mT M a = 103) (hi : inb i (mLn M a)) {x : Int64}  (M1 : Mem) (hM1 : M1 = sL M a i.toNatClampNeg (x)) (d : decode cc pc = .ok (.lastore, 1)) (k : V E G M1 cells slots nL (pc + 1) lv st Q) : V E G M cells slots nL pc lv (.long x :: .int i :: rf E a :: st) Q := V_lastore hG hT hi d (by rw [← hM1]; exact k)
theorem va_rf_map (E : En) (r : Option Nat) : va_rf (r.map (fun r => E.2.1 + r)) = rq E r := by
  cases r <;> rfl
theorem W_aaloadQ4 (hG : Cx E G cc nL ret own rm0) {a : Nat} {i : Int32} (hT : mT M a = 104) (hi : inb i (mLn M a)) (d : decode cc pc = .ok (.aaload, 1)) (k : V E G M cells slots nL (pc + 1) lv (rq E (mR M a i.toNatClampNeg) :: st) Q) : V E G M cells slots nL pc lv (.int i :: rf E a :: st) Q := by
  obtain ⟨p, e, R, s, m, args, below, meth, c⟩ := G
  obtain ⟨hx, hb, hml, hown, hts, hr, hlk, hRm, hK, hbs, hKs⟩ := hG
  intro H locs ls hR hS hl
  have g := hR.arr (t := 4) hT
  refine va_aldq hx hb hK (oneP (q := (E.2.1 + a, .inl (E.2.2.2.1 4, aC E M a 4))) g) 0 4 rfl rfl hi d ?_
  rw [va_rf_map]
  exact k H locs ls hR hS hl
theorem W_aaload4 (hG : Cx E G cc nL ret own rm0) {a : Nat} {i : Int32} (hT : mT M a = 104) (hi : inb i (mLn M a)) {r : Nat} (hr9 : mR M a i.toNatClampNeg = some r) (d : decode cc pc = .ok (.aaload, 1)) (k : V E G M cells slots nL (pc + 1) lv (rf E r :: st) Q) : V E G M cells slots nL pc lv (.int i :: rf E a :: st) Q := W_aaloadQ4 hG hT hi d (by rw [hr9]; exact k)
theorem W_aastore4 (hG : Cx E G cc nL ret own rm0) (hN : NOk E) {a r ci N : Nat} {C : String} {T : u_T} {i : Int32} (hT : mT M a = 104) (hi : inb i (mLn M a)) (hTr : mT M r = ci) (h99 : ci < 98) (hc : vwCl[ci]? = some (C, T, N)) (q : Cond.castable C "java/lang/Object" ∈ lw_tbl) (M1 : Mem) (hM1 : M1 = sR M a i.toNatClampNeg (some r)) (d : decode cc pc = .ok (.aastore, 1)) (k : V E G M1 cells slots nL (pc + 1) lv st Q) : V E G M cells slots nL pc lv (rf E r :: .int i :: rf E a :: st) Q := by
  subst hM1
  obtain ⟨p, e, R, s, m, args, below, meth, c⟩ := G
  obtain ⟨hx, hb, hml, hown, hts, hr, hlk, hRm, hK, hbs, hKs⟩ := hG
  intro H locs ls hR hS hl
  have g := hR.arr (t := 4) hT
  obtain ⟨fs, g1, -, -⟩ := hR.obj hTr h99
  obtain ⟨r', hr', cellV, q1, q2, q3, -⟩ := g1
  have hcls := (hK.1 ci _ hc).2
  obtain ⟨kA, comp, k1, k2, k3, -⟩ := (hK.2 4 _ rfl).2
  obtain ⟨kE, hkE, -⟩ := Vm.findClass_spec k3
  obtain ⟨c0, t1, f1, f2, f3⟩ := Cond.castable_spec (va_Nw.use (A := args) rfl (hN.1 s hKs _ q rfl))
  cases hcls.1.symm.trans f1
  cases k3.symm.trans f2
  obtain ⟨kC, hkC, -⟩ := hcls.2
  refine W.aast hx hb g (fun q h => by cases h) (fun h => by cases h) k1 k2 rfl hkE ⟨fun h => hi (Or.inl h), by show _ < (arrV _ _ _).slots.size; rw [arrV_size]; exact Nat.not_le.mp fun h => hi (Or.inr h)⟩ q1 (fun q h => by rw [q3] at h; cases h) (by rw [q2]; exact hkC) (by rw [q2]; exact f3) rfl rfl d fun H1 e z oq => ?_
  refine k H1 _ ls (Rep_set (a := a) (e := .inl (E.2.2.2.1 4, aC E (sR M a i.toNatClampNeg (some r)) a 4)) hR z oq rfl rfl rfl (fun b hb => rfl) (fun b hb => rfl) (fun b hb => u2_ne hb) ?_ ?_ ⟨_, e, by rw [setSlot_size]; exact hR.sz (hR.lt hT (by omega)) g⟩) (hS.put z oq (Nat.le_add_right _ _)) hl
  · show H1[E.2.1 + a]? = some (vp_cell _ _)
    rw [e]
    rw [show vp_cell (E.2.2.2.1 4) (aC E M a 4) = arrV (E.2.2.2.1 4) (mLn M a) (fun j => va_rf ((mR M a j).map (fun r => E.2.1 + r))) from rfl, arrV_store]
    show some _ = some (arrV (E.2.2.2.1 4) (mLn M a) (fun j => va_rf ((u2 (mR M) a i.toNatClampNeg (some r) a j).map (fun r => E.2.1 + r))))
    congr 2
    funext q
    by_cases hq : q = i.toNatClampNeg
    · subst hq
      simp [updV, u2, va_rf]
    · simp [updV, u2, hq]
  · unfold CellM
    have hT2 : mT (sR M a i.toNatClampNeg (some r)) a = 104 := hT
    rw [hT2, if_neg (by omega), if_neg (by omega)]
theorem W_aastoreN4 (hG : Cx E G cc nL ret own rm0) {a : Nat} {i : Int32} (hT : mT M a = 104) (hi : inb i (mLn M a)) (M1 : Mem) (hM1 : M1 = sR M a i.toNatClampNeg none) (d : decode cc pc = .ok (.aastore, 1)) (k : V E G M1 cells slots nL (pc + 1) lv st Q) : V E G M cells slots nL pc lv (.null :: .int i :: rf E a :: st) Q := by
  subst hM1
  obtain ⟨p, e, R, s, m, args, below, meth, c⟩ := G
  obtain ⟨hx, hb, hml, hown, hts, hr, hlk, hRm, hK, hbs, hKs⟩ := hG
  intro H locs ls hR hS hl
  have g := hR.arr (t := 4) hT
  refine va_WaastN (C := "java/lang/Object") hx hb g ((hK.2 4 _ rfl).1 _ _) (fun h => by cases h) (by show ¬ (i < 0 ∨ (arrV _ _ _).slots.size ≤ _); rw [arrV_size]; exact hi) rfl rfl d fun H1 e z oq => ?_
  refine k H1 _ ls (Rep_set (a := a) (e := .inl (E.2.2.2.1 4, aC E (sR M a i.toNatClampNeg none) a 4)) hR z oq rfl rfl rfl (fun b hb => rfl) (fun b hb => rfl) (fun b hb => u2_ne hb) ?_ ?_ ⟨_, e, by rw [setSlot_size]; exact hR.sz (hR.lt hT (by omega)) g⟩) (hS.put z oq (Nat.le_add_right _ _)) hl
  · show H1[E.2.1 + a]? = some (vp_cell _ _)
    rw [e]
    rw [show vp_cell (E.2.2.2.1 4) (aC E M a 4) = arrV (E.2.2.2.1 4) (mLn M a) (fun j => va_rf ((mR M a j).map (fun r => E.2.1 + r))) from rfl, arrV_store]
    show some _ = some (arrV (E.2.2.2.1 4) (mLn M a) (fun j => va_rf ((u2 (mR M) a i.toNatClampNeg none a j).map (fun r => E.2.1 + r))))
    congr 2
    funext q
    by_cases hq : q = i.toNatClampNeg
    · subst hq
      simp [updV, u2, va_rf]
    · simp [updV, u2, hq]
  · unfold CellM
    have hT2 : mT (sR M a i.toNatClampNeg none) a = 104 := hT
    rw [hT2, if_neg (by omega), if_neg (by omega)]
theorem W_anew4 (hG : Cx E G cc nL ret own rm0) (hN : NOk E) {idx : Nat} {n : Int32} {N' : Nat} (q1 : Cond.classLink own idx "java/lang/Object" ∈ lw_all) (q2 : Cond.arrayOver (.object "java/lang/Object") ∈ lw_tbl) (hn : ¬ n < 0) (hN' : n.toNatClampNeg = N') (hbig : N' ≤ 60000) (hcells : cells + 1 ≤ rm0.cells) (hslots : slots + N' ≤ rm0.slots) (d : decode cc pc = .ok (.anewarray idx, 3)) (k : V E G (nw M 104 N') (cells + 1) (slots + N') nL (pc + 3) lv (rf E (mN M) :: st) Q) : V E G M cells slots nL pc lv (.int n :: st) Q := by
  obtain ⟨p, e, R, s, m, args, below, meth, c⟩ := G
  obtain ⟨hx, hb, hml, hown, hts, hr, hlk, hRm, hK, hbs, hKs⟩ := hG
  intro H locs ls hR hS hl
  subst hRm
  subst hN'
  refine W.anew hx hb hown (hts _ q1) (hN.1 s hKs _ q2 rfl) rfl d rfl hn (by omega) hcells hslots fun cA kA comp h1 h2 h3 h4 => ?_
  have hcA : cA = E.2.2.2.1 4 := by
    obtain ⟨kA2, comp2, -, -, -, k4⟩ := (hK.2 4 _ rfl).2
    exact Option.some.inj (h1.symm.trans k4)
  subst hcA
  generalize hH1 : H.push { cls := E.2.2.2.1 4, slots := Array.replicate n.toNatClampNeg .null, vm := .none } = H1
  have e1 : H1[E.2.1 + mN M]? = some { cls := E.2.2.2.1 4, slots := Array.replicate n.toNatClampNeg .null, vm := .none } := by rw [← hH1, ← hR.1]; simp
  have z1 : H1.size = H.size + 1 := by rw [← hH1]; simp
  have o1 : ∀ q : Nat, q < H.size → H1[q]? = H[q]? := fun q hq => by rw [← hH1, Array.getElem?_push, if_neg (Nat.ne_of_lt hq)]
  have hgoal : ({ F0 m pc ls (.int n :: st) with pc := (F0 m pc ls (.int n :: st)).pc + 3, stack := .ref H.size :: st } : JFrame) = F0 m (pc + 3) ls (rf E (mN M) :: st) := by rw [hR.1]; rfl
  rw [hgoal]
  refine k H1 locs ls (Rep_new (e := .inl (E.2.2.2.1 4, aC E (nw M 104 n.toNatClampNeg) (mN M) 4)) hR z1 o1 ?_ ?_ ⟨_, e1, by simp⟩) (va_S_new hS z1 o1) hl
  · show H1[E.2.1 + mN M]? = some (vp_cell _ _)
    rw [e1]
    have a1 : mLn (nw M 104 n.toNatClampNeg) (mN M) = n.toNatClampNeg := by simp [nw, mLn, mN, u1]
    have a2 : mR (nw M 104 n.toNatClampNeg) (mN M) = fun _ => none := by funext y; simp [nw, mR, mN]
    show some _ = some (vp_cell _ (mLn (nw M 104 n.toNatClampNeg) (mN M), .inr (.inr (.inr (.inr (fun i => (mR (nw M 104 n.toNatClampNeg) (mN M) i).map (fun r => E.2.1 + r)))))))
    rw [a1, a2, vp_cell_q]
    unfold arrV
    congr 2
    apply Array.ext
    · simp
    · intro i h1 h2
      simp [va_rf]
  · have hT2 : mT (nw M 104 n.toNatClampNeg) (mN M) = 104 := by simp [nw, mT, u1]
    unfold CellM
    rw [hT2, if_neg (by omega), if_neg (by omega)]
theorem W_aaloadQ5 (hG : Cx E G cc nL ret own rm0) {a : Nat} {i : Int32} (hT : mT M a = 105) (hi : inb i (mLn M a)) (d : decode cc pc = .ok (.aaload, 1)) (k : V E G M cells slots nL (pc + 1) lv (rq E (mR M a i.toNatClampNeg) :: st) Q) : V E G M cells slots nL pc lv (.int i :: rf E a :: st) Q := by
  obtain ⟨p, e, R, s, m, args, below, meth, c⟩ := G
  obtain ⟨hx, hb, hml, hown, hts, hr, hlk, hRm, hK, hbs, hKs⟩ := hG
  intro H locs ls hR hS hl
  have g := hR.arr (t := 5) hT
  refine va_aldq hx hb hK (oneP (q := (E.2.1 + a, .inl (E.2.2.2.1 5, aC E M a 5))) g) 0 5 rfl rfl hi d ?_
  rw [va_rf_map]
  exact k H locs ls hR hS hl
theorem W_aaload5 (hG : Cx E G cc nL ret own rm0) {a : Nat} {i : Int32} (hT : mT M a = 105) (hi : inb i (mLn M a)) {r : Nat} (hr9 : mR M a i.toNatClampNeg = some r) (d : decode cc pc = .ok (.aaload, 1)) (k : V E G M cells slots nL (pc + 1) lv (rf E r :: st) Q) : V E G M cells slots nL pc lv (.int i :: rf E a :: st) Q := W_aaloadQ5 hG hT hi d (by rw [hr9]; exact k)
theorem W_aastore5 (hG : Cx E G cc nL ret own rm0) (hN : NOk E) {a r ci N : Nat} {C : String} {T : u_T} {i : Int32} (hT : mT M a = 105) (hi : inb i (mLn M a)) (hTr : mT M r = ci) (h99 : ci < 98) (hc : vwCl[ci]? = some (C, T, N)) (q : Cond.castable C "TroughTreaty$Part" ∈ lw_tbl) (M1 : Mem) (hM1 : M1 = sR M a i.toNatClampNeg (some r)) (d : decode cc pc = .ok (.aastore, 1)) (k : V E G M1 cells slots nL (pc + 1) lv st Q) : V E G M cells slots nL pc lv (rf E r :: .int i :: rf E a :: st) Q := by
  subst hM1
  obtain ⟨p, e, R, s, m, args, below, meth, c⟩ := G
  obtain ⟨hx, hb, hml, hown, hts, hr, hlk, hRm, hK, hbs, hKs⟩ := hG
  intro H locs ls hR hS hl
  have g := hR.arr (t := 5) hT
  obtain ⟨fs, g1, -, -⟩ := hR.obj hTr h99
  obtain ⟨r', hr', cellV, q1, q2, q3, -⟩ := g1
  have hcls := (hK.1 ci _ hc).2
  obtain ⟨kA, comp, k1, k2, k3, -⟩ := (hK.2 5 _ rfl).2
  obtain ⟨kE, hkE, -⟩ := Vm.findClass_spec k3
  obtain ⟨c0, t1, f1, f2, f3⟩ := Cond.castable_spec (va_Nw.use (A := args) rfl (hN.1 s hKs _ q rfl))
  cases hcls.1.symm.trans f1
  cases k3.symm.trans f2
  obtain ⟨kC, hkC, -⟩ := hcls.2
  refine W.aast hx hb g (fun q h => by cases h) (fun h => by cases h) k1 k2 rfl hkE ⟨fun h => hi (Or.inl h), by show _ < (arrV _ _ _).slots.size; rw [arrV_size]; exact Nat.not_le.mp fun h => hi (Or.inr h)⟩ q1 (fun q h => by rw [q3] at h; cases h) (by rw [q2]; exact hkC) (by rw [q2]; exact f3) rfl rfl d fun H1 e z oq => ?_
  refine k H1 _ ls (Rep_set (a := a) (e := .inl (E.2.2.2.1 5, aC E (sR M a i.toNatClampNeg (some r)) a 5)) hR z oq rfl rfl rfl (fun b hb => rfl) (fun b hb => rfl) (fun b hb => u2_ne hb) ?_ ?_ ⟨_, e, by rw [setSlot_size]; exact hR.sz (hR.lt hT (by omega)) g⟩) (hS.put z oq (Nat.le_add_right _ _)) hl
  · show H1[E.2.1 + a]? = some (vp_cell _ _)
    rw [e]
    rw [show vp_cell (E.2.2.2.1 5) (aC E M a 5) = arrV (E.2.2.2.1 5) (mLn M a) (fun j => va_rf ((mR M a j).map (fun r => E.2.1 + r))) from rfl, arrV_store]
    show some _ = some (arrV (E.2.2.2.1 5) (mLn M a) (fun j => va_rf ((u2 (mR M) a i.toNatClampNeg (some r) a j).map (fun r => E.2.1 + r))))
    congr 2
    funext q
    by_cases hq : q = i.toNatClampNeg
    · subst hq
      simp [updV, u2, va_rf]
    · simp [updV, u2, hq]
  · unfold CellM
    have hT2 : mT (sR M a i.toNatClampNeg (some r)) a = 105 := hT
    rw [hT2, if_neg (by omega), if_neg (by omega)]
theorem W_aastoreN5 (hG : Cx E G cc nL ret own rm0) {a : Nat} {i : Int32} (hT : mT M a = 105) (hi : inb i (mLn M a)) (M1 : Mem) (hM1 : M1 = sR M a i.toNatClampNeg none) (d : decode cc pc = .ok (.aastore, 1)) (k : V E G M1 cells slots nL (pc + 1) lv st Q) : V E G M cells slots nL pc lv (.null :: .int i :: rf E a :: st) Q := by
  subst hM1
  obtain ⟨p, e, R, s, m, args, below, meth, c⟩ := G
  obtain ⟨hx, hb, hml, hown, hts, hr, hlk, hRm, hK, hbs, hKs⟩ := hG
  intro H locs ls hR hS hl
  have g := hR.arr (t := 5) hT
  refine va_WaastN (C := "TroughTreaty$Part") hx hb g ((hK.2 5 _ rfl).1 _ _) (fun h => by cases h) (by show ¬ (i < 0 ∨ (arrV _ _ _).slots.size ≤ _); rw [arrV_size]; exact hi) rfl rfl d fun H1 e z oq => ?_
  refine k H1 _ ls (Rep_set (a := a) (e := .inl (E.2.2.2.1 5, aC E (sR M a i.toNatClampNeg none) a 5)) hR z oq rfl rfl rfl (fun b hb => rfl) (fun b hb => rfl) (fun b hb => u2_ne hb) ?_ ?_ ⟨_, e, by rw [setSlot_size]; exact hR.sz (hR.lt hT (by omega)) g⟩) (hS.put z oq (Nat.le_add_right _ _)) hl
  · show H1[E.2.1 + a]? = some (vp_cell _ _)
    rw [e]
    rw [show vp_cell (E.2.2.2.1 5) (aC E M a 5) = arrV (E.2.2.2.1 5) (mLn M a) (fun j => va_rf ((mR M a j).map (fun r => E.2.1 + r))) from rfl, arrV_store]
    show some _ = some (arrV (E.2.2.2.1 5) (mLn M a) (fun j => va_rf ((u2 (mR M) a i.toNatClampNeg none a j).map (fun r => E.2.1 + r))))
    congr 2
    funext q
    by_cases hq : q = i.toNatClampNeg
    · subst hq
      simp [updV, u2, va_rf]
    · simp [updV, u2, hq]
  · unfold CellM
    have hT2 : mT (sR M a i.toNatClampNeg none) a = 105 := hT
    rw [hT2, if_neg (by omega), if_neg (by omega)]
theorem W_anew5 (hG : Cx E G cc nL ret own rm0) (hN : NOk E) {idx : Nat} {n : Int32} {N' : Nat} (q1 : Cond.classLink own idx "TroughTreaty$Part" ∈ lw_all) (q2 : Cond.arrayOver (.object "TroughTreaty$Part") ∈ lw_tbl) (hn : ¬ n < 0) (hN' : n.toNatClampNeg = N') (hbig : N' ≤ 60000) (hcells : cells + 1 ≤ rm0.cells) (hslots : slots + N' ≤ rm0.slots) (d : decode cc pc = .ok (.anewarray idx, 3)) (k : V E G (nw M 105 N') (cells + 1) (slots + N') nL (pc + 3) lv (rf E (mN M) :: st) Q) : V E G M cells slots nL pc lv (.int n :: st) Q := by
  obtain ⟨p, e, R, s, m, args, below, meth, c⟩ := G
  obtain ⟨hx, hb, hml, hown, hts, hr, hlk, hRm, hK, hbs, hKs⟩ := hG
  intro H locs ls hR hS hl
  subst hRm
  subst hN'
  refine W.anew hx hb hown (hts _ q1) (hN.1 s hKs _ q2 rfl) rfl d rfl hn (by omega) hcells hslots fun cA kA comp h1 h2 h3 h4 => ?_
  have hcA : cA = E.2.2.2.1 5 := by
    obtain ⟨kA2, comp2, -, -, -, k4⟩ := (hK.2 5 _ rfl).2
    exact Option.some.inj (h1.symm.trans k4)
  subst hcA
  generalize hH1 : H.push { cls := E.2.2.2.1 5, slots := Array.replicate n.toNatClampNeg .null, vm := .none } = H1
  have e1 : H1[E.2.1 + mN M]? = some { cls := E.2.2.2.1 5, slots := Array.replicate n.toNatClampNeg .null, vm := .none } := by rw [← hH1, ← hR.1]; simp
  have z1 : H1.size = H.size + 1 := by rw [← hH1]; simp
  have o1 : ∀ q : Nat, q < H.size → H1[q]? = H[q]? := fun q hq => by rw [← hH1, Array.getElem?_push, if_neg (Nat.ne_of_lt hq)]
  have hgoal : ({ F0 m pc ls (.int n :: st) with pc := (F0 m pc ls (.int n :: st)).pc + 3, stack := .ref H.size :: st } : JFrame) = F0 m (pc + 3) ls (rf E (mN M) :: st) := by rw [hR.1]; rfl
  rw [hgoal]
  refine k H1 locs ls (Rep_new (e := .inl (E.2.2.2.1 5, aC E (nw M 105 n.toNatClampNeg) (mN M) 5)) hR z1 o1 ?_ ?_ ⟨_, e1, by simp⟩) (va_S_new hS z1 o1) hl
  · show H1[E.2.1 + mN M]? = some (vp_cell _ _)
    rw [e1]
    have a1 : mLn (nw M 105 n.toNatClampNeg) (mN M) = n.toNatClampNeg := by simp [nw, mLn, mN, u1]
    have a2 : mR (nw M 105 n.toNatClampNeg) (mN M) = fun _ => none := by funext y; simp [nw, mR, mN]
    show some _ = some (vp_cell _ (mLn (nw M 105 n.toNatClampNeg) (mN M), .inr (.inr (.inr (.inr (fun i => (mR (nw M 105 n.toNatClampNeg) (mN M) i).map (fun r => E.2.1 + r)))))))
    rw [a1, a2, vp_cell_q]
    unfold arrV
    congr 2
    apply Array.ext
    · simp
    · intro i h1 h2
      simp [va_rf]
  · have hT2 : mT (nw M 105 n.toNatClampNeg) (mN M) = 105 := by simp [nw, mT, u1]
    unfold CellM
    rw [hT2, if_neg (by omega), if_neg (by omega)]
theorem W_aaloadQ6 (hG : Cx E G cc nL ret own rm0) {a : Nat} {i : Int32} (hT : mT M a = 106) (hi : inb i (mLn M a)) (d : decode cc pc = .ok (.aaload, 1)) (k : V E G M cells slots nL (pc + 1) lv (rq E (mR M a i.toNatClampNeg) :: st) Q) : V E G M cells slots nL pc lv (.int i :: rf E a :: st) Q := by
  obtain ⟨p, e, R, s, m, args, below, meth, c⟩ := G
  obtain ⟨hx, hb, hml, hown, hts, hr, hlk, hRm, hK, hbs, hKs⟩ := hG
  intro H locs ls hR hS hl
  have g := hR.arr (t := 6) hT
  refine va_aldq hx hb hK (oneP (q := (E.2.1 + a, .inl (E.2.2.2.1 6, aC E M a 6))) g) 0 6 rfl rfl hi d ?_
  rw [va_rf_map]
  exact k H locs ls hR hS hl
theorem W_aaload6 (hG : Cx E G cc nL ret own rm0) {a : Nat} {i : Int32} (hT : mT M a = 106) (hi : inb i (mLn M a)) {r : Nat} (hr9 : mR M a i.toNatClampNeg = some r) (d : decode cc pc = .ok (.aaload, 1)) (k : V E G M cells slots nL (pc + 1) lv (rf E r :: st) Q) : V E G M cells slots nL pc lv (.int i :: rf E a :: st) Q := W_aaloadQ6 hG hT hi d (by rw [hr9]; exact k)
theorem W_aastore6 (hG : Cx E G cc nL ret own rm0) (hN : NOk E) {a r ci N : Nat} {C : String} {T : u_T} {i : Int32} (hT : mT M a = 106) (hi : inb i (mLn M a)) (hTr : mT M r = ci) (h99 : ci < 98) (hc : vwCl[ci]? = some (C, T, N)) (q : Cond.castable C "TroughTreaty$State" ∈ lw_tbl) (M1 : Mem) (hM1 : M1 = sR M a i.toNatClampNeg (some r)) (d : decode cc pc = .ok (.aastore, 1)) (k : V E G M1 cells slots nL (pc + 1) lv st Q) : V E G M cells slots nL pc lv (rf E r :: .int i :: rf E a :: st) Q := by
  subst hM1
  obtain ⟨p, e, R, s, m, args, below, meth, c⟩ := G
  obtain ⟨hx, hb, hml, hown, hts, hr, hlk, hRm, hK, hbs, hKs⟩ := hG
  intro H locs ls hR hS hl
  have g := hR.arr (t := 6) hT
  obtain ⟨fs, g1, -, -⟩ := hR.obj hTr h99
  obtain ⟨r', hr', cellV, q1, q2, q3, -⟩ := g1
  have hcls := (hK.1 ci _ hc).2
  obtain ⟨kA, comp, k1, k2, k3, -⟩ := (hK.2 6 _ rfl).2
  obtain ⟨kE, hkE, -⟩ := Vm.findClass_spec k3
  obtain ⟨c0, t1, f1, f2, f3⟩ := Cond.castable_spec (va_Nw.use (A := args) rfl (hN.1 s hKs _ q rfl))
  cases hcls.1.symm.trans f1
  cases k3.symm.trans f2
  obtain ⟨kC, hkC, -⟩ := hcls.2
  refine W.aast hx hb g (fun q h => by cases h) (fun h => by cases h) k1 k2 rfl hkE ⟨fun h => hi (Or.inl h), by show _ < (arrV _ _ _).slots.size; rw [arrV_size]; exact Nat.not_le.mp fun h => hi (Or.inr h)⟩ q1 (fun q h => by rw [q3] at h; cases h) (by rw [q2]; exact hkC) (by rw [q2]; exact f3) rfl rfl d fun H1 e z oq => ?_
  refine k H1 _ ls (Rep_set (a := a) (e := .inl (E.2.2.2.1 6, aC E (sR M a i.toNatClampNeg (some r)) a 6)) hR z oq rfl rfl rfl (fun b hb => rfl) (fun b hb => rfl) (fun b hb => u2_ne hb) ?_ ?_ ⟨_, e, by rw [setSlot_size]; exact hR.sz (hR.lt hT (by omega)) g⟩) (hS.put z oq (Nat.le_add_right _ _)) hl
  · show H1[E.2.1 + a]? = some (vp_cell _ _)
    rw [e]
    rw [show vp_cell (E.2.2.2.1 6) (aC E M a 6) = arrV (E.2.2.2.1 6) (mLn M a) (fun j => va_rf ((mR M a j).map (fun r => E.2.1 + r))) from rfl, arrV_store]
    show some _ = some (arrV (E.2.2.2.1 6) (mLn M a) (fun j => va_rf ((u2 (mR M) a i.toNatClampNeg (some r) a j).map (fun r => E.2.1 + r))))
    congr 2
    funext q
    by_cases hq : q = i.toNatClampNeg
    · subst hq
      simp [updV, u2, va_rf]
    · simp [updV, u2, hq]
  · unfold CellM
    have hT2 : mT (sR M a i.toNatClampNeg (some r)) a = 106 := hT
    rw [hT2, if_neg (by omega), if_neg (by omega)]
theorem W_aastoreN6 (hG : Cx E G cc nL ret own rm0) {a : Nat} {i : Int32} (hT : mT M a = 106) (hi : inb i (mLn M a)) (M1 : Mem) (hM1 : M1 = sR M a i.toNatClampNeg none) (d : decode cc pc = .ok (.aastore, 1)) (k : V E G M1 cells slots nL (pc + 1) lv st Q) : V E G M cells slots nL pc lv (.null :: .int i :: rf E a :: st) Q := by
  subst hM1
  obtain ⟨p, e, R, s, m, args, below, meth, c⟩ := G
  obtain ⟨hx, hb, hml, hown, hts, hr, hlk, hRm, hK, hbs, hKs⟩ := hG
  intro H locs ls hR hS hl
  have g := hR.arr (t := 6) hT
  refine va_WaastN (C := "TroughTreaty$State") hx hb g ((hK.2 6 _ rfl).1 _ _) (fun h => by cases h) (by show ¬ (i < 0 ∨ (arrV _ _ _).slots.size ≤ _); rw [arrV_size]; exact hi) rfl rfl d fun H1 e z oq => ?_
  refine k H1 _ ls (Rep_set (a := a) (e := .inl (E.2.2.2.1 6, aC E (sR M a i.toNatClampNeg none) a 6)) hR z oq rfl rfl rfl (fun b hb => rfl) (fun b hb => rfl) (fun b hb => u2_ne hb) ?_ ?_ ⟨_, e, by rw [setSlot_size]; exact hR.sz (hR.lt hT (by omega)) g⟩) (hS.put z oq (Nat.le_add_right _ _)) hl
  · show H1[E.2.1 + a]? = some (vp_cell _ _)
    rw [e]
    rw [show vp_cell (E.2.2.2.1 6) (aC E M a 6) = arrV (E.2.2.2.1 6) (mLn M a) (fun j => va_rf ((mR M a j).map (fun r => E.2.1 + r))) from rfl, arrV_store]
    show some _ = some (arrV (E.2.2.2.1 6) (mLn M a) (fun j => va_rf ((u2 (mR M) a i.toNatClampNeg none a j).map (fun r => E.2.1 + r))))
    congr 2
    funext q
    by_cases hq : q = i.toNatClampNeg
    · subst hq
      simp [updV, u2, va_rf]
    · simp [updV, u2, hq]
  · unfold CellM
    have hT2 : mT (sR M a i.toNatClampNeg none) a = 106 := hT
    rw [hT2, if_neg (by omega), if_neg (by omega)]
theorem W_anew6 (hG : Cx E G cc nL ret own rm0) (hN : NOk E) {idx : Nat} {n : Int32} {N' : Nat} (q1 : Cond.classLink own idx "TroughTreaty$State" ∈ lw_all) (q2 : Cond.arrayOver (.object "TroughTreaty$State") ∈ lw_tbl) (hn : ¬ n < 0) (hN' : n.toNatClampNeg = N') (hbig : N' ≤ 60000) (hcells : cells + 1 ≤ rm0.cells) (hslots : slots + N' ≤ rm0.slots) (d : decode cc pc = .ok (.anewarray idx, 3)) (k : V E G (nw M 106 N') (cells + 1) (slots + N') nL (pc + 3) lv (rf E (mN M) :: st) Q) : V E G M cells slots nL pc lv (.int n :: st) Q := by
  obtain ⟨p, e, R, s, m, args, below, meth, c⟩ := G
  obtain ⟨hx, hb, hml, hown, hts, hr, hlk, hRm, hK, hbs, hKs⟩ := hG
  intro H locs ls hR hS hl
  subst hRm
  subst hN'
  refine W.anew hx hb hown (hts _ q1) (hN.1 s hKs _ q2 rfl) rfl d rfl hn (by omega) hcells hslots fun cA kA comp h1 h2 h3 h4 => ?_
  have hcA : cA = E.2.2.2.1 6 := by
    obtain ⟨kA2, comp2, -, -, -, k4⟩ := (hK.2 6 _ rfl).2
    exact Option.some.inj (h1.symm.trans k4)
  subst hcA
  generalize hH1 : H.push { cls := E.2.2.2.1 6, slots := Array.replicate n.toNatClampNeg .null, vm := .none } = H1
  have e1 : H1[E.2.1 + mN M]? = some { cls := E.2.2.2.1 6, slots := Array.replicate n.toNatClampNeg .null, vm := .none } := by rw [← hH1, ← hR.1]; simp
  have z1 : H1.size = H.size + 1 := by rw [← hH1]; simp
  have o1 : ∀ q : Nat, q < H.size → H1[q]? = H[q]? := fun q hq => by rw [← hH1, Array.getElem?_push, if_neg (Nat.ne_of_lt hq)]
  have hgoal : ({ F0 m pc ls (.int n :: st) with pc := (F0 m pc ls (.int n :: st)).pc + 3, stack := .ref H.size :: st } : JFrame) = F0 m (pc + 3) ls (rf E (mN M) :: st) := by rw [hR.1]; rfl
  rw [hgoal]
  refine k H1 locs ls (Rep_new (e := .inl (E.2.2.2.1 6, aC E (nw M 106 n.toNatClampNeg) (mN M) 6)) hR z1 o1 ?_ ?_ ⟨_, e1, by simp⟩) (va_S_new hS z1 o1) hl
  · show H1[E.2.1 + mN M]? = some (vp_cell _ _)
    rw [e1]
    have a1 : mLn (nw M 106 n.toNatClampNeg) (mN M) = n.toNatClampNeg := by simp [nw, mLn, mN, u1]
    have a2 : mR (nw M 106 n.toNatClampNeg) (mN M) = fun _ => none := by funext y; simp [nw, mR, mN]
    show some _ = some (vp_cell _ (mLn (nw M 106 n.toNatClampNeg) (mN M), .inr (.inr (.inr (.inr (fun i => (mR (nw M 106 n.toNatClampNeg) (mN M) i).map (fun r => E.2.1 + r)))))))
    rw [a1, a2, vp_cell_q]
    unfold arrV
    congr 2
    apply Array.ext
    · simp
    · intro i h1 h2
      simp [va_rf]
  · have hT2 : mT (nw M 106 n.toNatClampNeg) (mN M) = 106 := by simp [nw, mT, u1]
    unfold CellM
    rw [hT2, if_neg (by omega), if_neg (by omega)]
theorem W_cast (hG : Cx E G cc nL ret own rm0) (hN : NOk E) {a ci N idx : Nat} {C nm : String} {T : u_T} (hT : mT M a = ci) (h99 : ci < 98) (hc : vwCl[ci]? = some (C, T, N)) (q1 : Cond.classLink own idx nm ∈ lw_all) (q2 : Cond.castable C nm ∈ lw_tbl) (d : decode cc pc = .ok (.checkcast idx, 3)) (k : V E G M cells slots nL (pc + 3) lv (rf E a :: st) Q) : V E G M cells slots nL pc lv (rf E a :: st) Q := by
  obtain ⟨p, e, R, s, m, args, below, meth, c⟩ := G
  obtain ⟨hx, hb, hml, hown, hts, hr, hlk, hRm, hK, hbs, hKs⟩ := hG
  intro H locs ls hR hS hl
  obtain ⟨fs, g1, -, -⟩ := hR.obj hT h99
  exact va_castY hx hb hown (hts _ q1) (hN.1 s hKs _ q2 rfl) (va_recv hK (oneP g1) hc (q0 := 0) rfl) d (k H locs ls hR hS hl)
theorem W_castS (hG : Cx E G cc nL ret own rm0) {a ci N idx : Nat} {C : String} {T : u_T} (hT : mT M a = ci) (h99 : ci < 98) (hc : vwCl[ci]? = some (C, T, N)) (q1 : Cond.classLink own idx C ∈ lw_all) (d : decode cc pc = .ok (.checkcast idx, 3)) (k : V E G M cells slots nL (pc + 3) lv (rf E a :: st) Q) : V E G M cells slots nL pc lv (rf E a :: st) Q := by
  obtain ⟨p, e, R, s, m, args, below, meth, c⟩ := G
  obtain ⟨hx, hb, hml, hown, hts, hr, hlk, hRm, hK, hbs, hKs⟩ := hG
  intro H locs ls hR hS hl
  obtain ⟨fs, g1, -, -⟩ := hR.obj hT h99
  exact va_castS hx hb hown (hts _ q1) (hK.1 ci _ hc).2 (va_recv hK (oneP g1) hc (q0 := 0) rfl) d (k H locs ls hR hS hl)
theorem W_ifnull (hG : Cx E G cc nL ret own rm0) {r : Option Nat} {off : Int} (tgt : Nat) (d : decode cc pc = .ok (.ifnull off, 3)) (ht : (pc : Int) + off = (tgt : Int)) (kn : r = none → V E G M cells slots nL tgt lv st Q) (ks : ¬ r = none → V E G M cells slots nL (pc + 3) lv st Q) : V E G M cells slots nL pc lv (rq E r :: st) Q := by
  obtain ⟨p, e, R, s, m, args, below, meth, c⟩ := G
  obtain ⟨hx, hb, hml, hown, hts, hr, hlk, hRm, hK, hbs, hKs⟩ := hG
  intro H locs ls hR hS hl
  cases r with
  | none => exact lv_ifnullN hx hb d ht (kn rfl H locs ls hR hS hl)
  | some r => exact lv_ifnull hx hb d (ks (fun h => by cases h) H locs ls hR hS hl)
theorem W_ifnonnull (hG : Cx E G cc nL ret own rm0) {r : Option Nat} {off : Int} (tgt : Nat) (d : decode cc pc = .ok (.ifnonnull off, 3)) (ht : (pc : Int) + off = (tgt : Int)) (kn : r = none → V E G M cells slots nL (pc + 3) lv st Q) (ks : ¬ r = none → V E G M cells slots nL tgt lv st Q) : V E G M cells slots nL pc lv (rq E r :: st) Q := by
  obtain ⟨p, e, R, s, m, args, below, meth, c⟩ := G
  obtain ⟨hx, hb, hml, hown, hts, hr, hlk, hRm, hK, hbs, hKs⟩ := hG
  intro H locs ls hR hS hl
  cases r with
  | none => exact lv_ifnonnullN hx hb d (kn rfl H locs ls hR hS hl)
  | some r => exact lv_ifnonnull hx hb d ht (ks (fun h => by cases h) H locs ls hR hS hl)
theorem W_callVN (hE : EOk E) (hG : Cx E G cc nL ret own rm0) (hN : NOk E) {y : MethodName} {bytes : ByteArray} {maxL n index : Nat} {rt : Option FieldType} {rm : Room} {As rest : List Value} {v : Option Value} {a ci N : Nat} {C : String} {T : u_T} (hM : CM E y bytes maxL rt rm (rf E a :: As) M v M') (hT : mT M a = ci) (h99 : ci < 98) (hc : vwCl[ci]? = some (C, T, N)) {host : String} (q1 : Cond.methodLinkNest own index y host ∈ lw_tbl) (hW : GoodIn lw_all (ws_ y bytes maxL rt)) (q2 : Cond.initialized y.cls ∈ lw_all) (q3 : Cond.instanceMethod y ∈ lw_all) (q4 : Cond.selects C y y ∈ lw_all) (hd : y.cls ≠ "java/lang/invoke/MethodHandle" ∧ y.cls ≠ "java/lang/invoke/VarHandle" ∧ (parseMethodDescriptor y.desc).map (fun d => d.parameters.length) = some n) (hR9 : rm.frames + 1 ≤ rm0.frames ∧ 8 + (maxL + 11) + rm.locals ≤ rm0.locals) (hn : As.length = n) (hst : st0 = As.reverse ++ rf E a :: rest) (hcat : (rest.map fun v => v.category).sum ≤ 8) (hf : cells + rm.cells ≤ rm0.cells ∧ slots + rm.slots ≤ rm0.slots) (d : decode cc pc = .ok (.invokevirtual index, 3)) (k : V E G M' (cells + rm.cells) (slots + rm.slots) nL (pc + 3) lv (v.toList ++ rest) Q) : V E G M cells slots nL pc lv st0 Q := by
  obtain ⟨p, e, R, s, m, args, below, meth, c⟩ := G
  obtain ⟨hx, hb, hml, hown, hts, hr, hlk, hRm, hK, hbs, hKs⟩ := hG
  intro H locs ls hR hS hl
  subst hRm
  obtain ⟨fs, g1, -, -⟩ := hR.obj hT h99
  exact V_after (va_runVN (As := As) (rest := rest) ⟨hx, hb, hml, hown, hts⟩ hM ⟨va_cnB n hts hW rfl rfl rfl (hN.1 s hKs _ q1 rfl) (hts _ q2) hd hR9, hts _ q3, hts _ q4⟩ ⟨KX.blind hE, va_recv hK (oneP g1) hc (q0 := 0) rfl, fun U hU hW => ⟨rfl, by rw [hU]; exact hR, KX.at hE ⟨hK, hbs, hKs⟩ hS hU hW⟩⟩ rfl hn hl.1 hst (lv_room hcat) d hf) hS hl k
theorem W_callSN (hE : EOk E) (hG : Cx E G cc nL ret own rm0) (hN : NOk E) {y : MethodName} {bytes : ByteArray} {maxL n index : Nat} {rt : Option FieldType} {rm : Room} {As rest : List Value} {v : Option Value} (hM : CM E y bytes maxL rt rm As M v M') {host : String} (q1 : Cond.methodLinkNest own index y host ∈ lw_tbl) (hW : GoodIn lw_all (ws_ y bytes maxL rt)) (q2 : Cond.initialized y.cls ∈ lw_all) (q3 : Cond.static y ∈ lw_all) (hd : y.cls ≠ "java/lang/invoke/MethodHandle" ∧ y.cls ≠ "java/lang/invoke/VarHandle" ∧ (parseMethodDescriptor y.desc).map (fun d => d.parameters.length) = some n) (hR9 : rm.frames + 1 ≤ rm0.frames ∧ 8 + (maxL + 11) + rm.locals ≤ rm0.locals) (hn : As.length = n) (hst : st0 = As.reverse ++ rest) (hcat : (rest.map fun v => v.category).sum ≤ 8) (hf : cells + rm.cells ≤ rm0.cells ∧ slots + rm.slots ≤ rm0.slots) (d : decode cc pc = .ok (.invokestatic index, 3)) (k : V E G M' (cells + rm.cells) (slots + rm.slots) nL (pc + 3) lv (v.toList ++ rest) Q) : V E G M cells slots nL pc lv st0 Q := by
  obtain ⟨p, e, R, s, m, args, below, meth, c⟩ := G
  obtain ⟨hx, hb, hml, hown, hts, hr, hlk, hRm, hK, hbs, hKs⟩ := hG
  intro H locs ls hR hS hl
  subst hRm
  exact V_after (va_runSN (As := As) (rest := rest) ⟨hx, hb, hml, hown, hts⟩ hM ⟨va_cnB n hts hW rfl rfl rfl (hN.1 s hKs _ q1 rfl) (hts _ q2) hd hR9, hts _ q3, trivial⟩ ⟨KX.blind hE, fun U hU hW => ⟨rfl, by rw [hU]; exact hR, KX.at hE ⟨hK, hbs, hKs⟩ hS hU hW⟩⟩ rfl hn hl.1 hst (lv_room hcat) d hf) hS hl k
theorem W_callIN (hE : EOk E) (hG : Cx E G cc nL ret own rm0) (hN : NOk E) {y : MethodName} {bytes : ByteArray} {maxL n index : Nat} {rt : Option FieldType} {rm : Room} {As rest : List Value} {v : Option Value} {a : Nat} (hM : CM E y bytes maxL none rm (rf E a :: As) M v M') {host : String} (q1 : Cond.methodLinkNest own index y host ∈ lw_tbl) (hW : GoodIn lw_all (ws_ y bytes maxL none)) (q2 : Cond.initialized y.cls ∈ lw_all) (q3 : Cond.instanceMethod y ∈ lw_all) (hy1 : y.name = "<init>") (hd : y.cls ≠ "java/lang/invoke/MethodHandle" ∧ y.cls ≠ "java/lang/invoke/VarHandle" ∧ (parseMethodDescriptor y.desc).map (fun d => d.parameters.length) = some n) (hR9 : rm.frames + 1 ≤ rm0.frames ∧ 8 + (maxL + 11) + rm.locals ≤ rm0.locals) (hn : As.length = n) (hst : st0 = As.reverse ++ rf E a :: rest) (hcat : (rest.map fun v => v.category).sum ≤ 8) (hf : cells + rm.cells ≤ rm0.cells ∧ slots + rm.slots ≤ rm0.slots) (d : decode cc pc = .ok (.invokespecial index, 3)) (k : V E G M' (cells + rm.cells) (slots + rm.slots) nL (pc + 3) lv (v.toList ++ rest) Q) : V E G M cells slots nL pc lv st0 Q := by
  obtain ⟨p, e, R, s, m, args, below, meth, c⟩ := G
  obtain ⟨hx, hb, hml, hown, hts, hr, hlk, hRm, hK, hbs, hKs⟩ := hG
  intro H locs ls hR hS hl
  subst hRm
  exact V_after (va_runIN (As := As) (rest := rest) ⟨hx, hb, hml, hown, hts⟩ hM ⟨va_cnB n hts hW rfl rfl rfl (hN.1 s hKs _ q1 rfl) (hts _ q2) hd hR9, hy1, hts _ q3⟩ ⟨KX.blind hE, fun U hU hW => ⟨rfl, by rw [hU]; exact hR, KX.at hE ⟨hK, hbs, hKs⟩ hS hU hW⟩⟩ rfl hn hl.1 hst (lv_room hcat) d hf) hS hl k
theorem W_callU (hE : EOk E) (hG : Cx E G cc nL ret own rm0) {y : MethodName} {bytes : ByteArray} {maxL n index : Nat} {rt : Option FieldType} {rm : Room} {As rest : List Value} {v : Option Value} {a ci N : Nat} {C : String} {T : u_T} (hM : CM E y bytes maxL rt rm (rf E a :: As) M v M') (hT : mT M a = ci) (h99 : ci < 98) (hc : vwCl[ci]? = some (C, T, N)) {x : MethodName} {owner : String} (cw : ∀ (R : Room) (s : State) (args : Array Value), (∀ w ∈ lw_all, w.before args s = true) → E.2.2.2.2 s → R = rm0 → va_CU R s args own C owner index x y bytes maxL rt (ws_ y bytes maxL rt) rm rm.cells rm.slots n) (hn : As.length = n) (hst : st0 = As.reverse ++ rf E a :: rest) (hcat : (rest.map fun v => v.category).sum ≤ 8) (hf : cells + rm.cells ≤ rm0.cells ∧ slots + rm.slots ≤ rm0.slots) (d : decode cc pc = .ok (.invokevirtual index, 3)) (k : V E G M' (cells + rm.cells) (slots + rm.slots) nL (pc + 3) lv (v.toList ++ rest) Q) : V E G M cells slots nL pc lv st0 Q := by
  obtain ⟨p, e, R, s, m, args, below, meth, c⟩ := G
  obtain ⟨hx, hb, hml, hown, hts, hr, hlk, hRm, hK, hbs, hKs⟩ := hG
  intro H locs ls hR hS hl
  obtain ⟨fs, g1, -, -⟩ := hR.obj hT h99
  exact V_after (va_runU (As := As) (rest := rest) ⟨hx, hb, hml, hown, hts⟩ hM (cw R s args hts hKs hRm) ⟨KX.blind hE, va_recv hK (oneP g1) hc (q0 := 0) rfl, fun U hU hW => ⟨rfl, by rw [hU]; exact hR, KX.at hE ⟨hK, hbs, hKs⟩ hS hU hW⟩⟩ rfl hn hl.1 hst (lv_room hcat) d (by rw [hRm]; exact hf)) hS hl k
theorem W_callSU (hE : EOk E) (hG : Cx E G cc nL ret own rm0) {y : MethodName} {bytes : ByteArray} {maxL n index : Nat} {rt : Option FieldType} {rm : Room} {As rest : List Value} {v : Option Value} {a ci N : Nat} {C : String} {T : u_T} (hM : CM E y bytes maxL rt rm (rf E a :: As) M v M') (hT : mT M a = ci) (h99 : ci < 98) (hc : vwCl[ci]? = some (C, T, N)) (hW : GoodIn lw_all (va_wsSU own index y (ws_ y bytes maxL rt))) (hd : y.name ≠ "<init>" ∧ (parseMethodDescriptor y.desc).map (fun d => d.parameters.length) = some n) (hR9 : rm.frames + 1 ≤ rm0.frames ∧ 8 + (maxL + 11) + rm.locals ≤ rm0.locals) (hn : As.length = n) (hst : st0 = As.reverse ++ rf E a :: rest) (hcat : (rest.map fun v => v.category).sum ≤ 8) (hf : cells + rm.cells ≤ rm0.cells ∧ slots + rm.slots ≤ rm0.slots) (d : decode cc pc = .ok (.invokespecial index, 3)) (k : V E G M' (cells + rm.cells) (slots + rm.slots) nL (pc + 3) lv (v.toList ++ rest) Q) : V E G M cells slots nL pc lv st0 Q := by
  obtain ⟨p, e, R, s, m, args, below, meth, c⟩ := G
  obtain ⟨hx, hb, hml, hown, hts, hr, hlk, hRm, hK, hbs, hKs⟩ := hG
  intro H locs ls hR hS hl
  subst hRm
  obtain ⟨fs, g1, -, -⟩ := hR.obj hT h99
  exact V_after (va_runSU (As := As) (rest := rest) (hK.1 ci _ hc).2 ⟨hx, hb, hml, hown, hts⟩ hM (va_cwSU n hts hW rfl rfl rfl hd hR9) ⟨KX.blind hE, va_recv hK (oneP g1) hc (q0 := 0) rfl, fun U hU hW => ⟨rfl, by rw [hU]; exact hR, KX.at hE ⟨hK, hbs, hKs⟩ hS hU hW⟩⟩ rfl hn hl.1 hst (lv_room hcat) d hf) hS hl k
end VC
