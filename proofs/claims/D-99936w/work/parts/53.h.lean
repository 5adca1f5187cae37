set_option maxRecDepth 100000
set_option maxHeartbeats 4000000
/-- M' is M with cells of junk behind it -/
def Jk (M M' : Mem) : Prop := mN M ≤ mN M' ∧ (∀ a, a < mN M → mT M' a = mT M a ∧ mLn M' a = mLn M a) ∧ (∀ a, mN M ≤ a → a < mN M' → mT M' a = 98) ∧ (∀ a, mN M' ≤ a → mT M' a = 99) ∧ mI M' = mI M ∧ mL M' = mL M ∧ mR M' = mR M
theorem Rep_junk {E : En} {M : Mem} {H H1 : Heap} (hR : Rep E M H) (z : H.size ≤ H1.size) (oq : ∀ q : Nat, q < H.size → H1[q]? = H[q]?) : ∃ M', Jk M M' ∧ Rep E M' H1 := by
  obtain ⟨h1, h2, h3⟩ := hR
  let M' : Mem := (H1.size - E.2.1, fun a => if a < mN M then mT M a else if a < H1.size - E.2.1 then 98 else 99, fun a => if a < mN M then mLn M a else ((H1[E.2.1 + a]?).map fun c => c.slots.size).getD 0, mI M, mL M, mR M)
  have hn : mN M' = H1.size - E.2.1 := rfl
  have hT : ∀ a, mT M' a = if a < mN M then mT M a else if a < H1.size - E.2.1 then 98 else 99 := fun a => rfl
  have hL : ∀ a, mLn M' a = if a < mN M then mLn M a else ((H1[E.2.1 + a]?).map fun c => c.slots.size).getD 0 := fun a => rfl
  refine ⟨M', ⟨by rw [hn]; omega, fun a ha => ⟨by rw [hT, if_pos ha], by rw [hL, if_pos ha]⟩, fun a ha hb => by rw [hT, if_neg (by omega), if_pos (by rw [hn] at hb; exact hb)], fun a ha => ?_, rfl, rfl, rfl⟩, by rw [hn]; omega, fun a ha => ?_, fun a ha => ?_⟩
  · rw [hn] at ha
    rw [hT, if_neg (by omega), if_neg (by omega)]
  · rw [hn] at ha
    rw [hT, if_neg (by omega), if_neg (by omega)]
  · rw [hn] at ha
    by_cases hb : a < mN M
    · obtain ⟨e, g1, g2, cell, g3, g4⟩ := h3 a hb
      have g5 := oq (E.2.1 + a) (by rw [h1]; omega)
      refine ⟨e, g1.imp (fun h => by rw [hT, if_pos hb]; exact h) (fun h => h.kept g5), CellM_congr (M := M) (M' := M') (by rw [hT, if_pos hb]) (by rw [hL, if_pos hb]) rfl rfl rfl g2, cell, by rw [g5]; exact g3, by rw [hL, if_pos hb]; exact g4⟩
    · have hlt : E.2.1 + a < H1.size := by omega
      have hx : mT M' a = 98 := by rw [hT, if_neg hb, if_pos ha]
      refine ⟨.inr (0, []), Or.inl hx, ?_, H1[E.2.1 + a], Array.getElem?_eq_getElem hlt, ?_⟩
      · unfold CellM
        rw [if_pos hx]
        trivial
      · rw [hL, if_neg hb, Array.getElem?_eq_getElem hlt]
        rfl
def XTe (E : En) (cl : String) (PM : Mem → Prop) : Addr → String → State → State → Prop := fun _ Ec st t => Ec = cl ∧ (∃ M', PM M' ∧ Rep E M' t.heap) ∧ va_F (fun q => E.2.1 ≤ q) st t
def TMe (E : En) (y : MethodName) (cc : ByteArray) (nL : Nat) (ret : Option FieldType) (rm : Room) (args : List Value) (M : Mem) (cl : String) (PM : Mem → Prop) : Prop :=
  vx_Met E.1 y (ws_ y cc nL ret) rm (va_Pc args (fun U => Rep E M U.heap ∧ KX E U)) (fun _ _ _ _ => False) (XTe E cl PM) rm.cells rm.slots (fun q => E.2.1 ≤ q)
def QTe (E : En) (G : Ctx) (cl : String) (PM : Mem → Prop) (mc ms : Nat) : State → Prop := match G with
  | (p, e, R, s, m, args, below, meth, c) => vx_MQ below (fun _ _ _ _ => False) (XTe E cl PM) args s mc ms (fun q => E.2.1 ≤ q)
theorem TMe_intro {E : En} {y : MethodName} {cc : ByteArray} {nL : Nat} {ret : Option FieldType} {rm : Room} {args : List Value} {M : Mem} {cl : String} {PM : Mem → Prop} {own : String} (ho : y.cls = own) (hy : plainName y.cls = true) (hlen : (lg_sl args).length ≤ nL) {lv : List (Nat × Value)} (hlv : lv_args 0 args = lv)
    (body : ∀ G : Ctx, Cx E G cc nL ret own rm → NoX G → V E G M 0 0 nL 0 lv [] (QTe E G cl PM rm.cells rm.slots)) : TMe E y cc nL ret rm args M cl PM := by
  refine vx_ofW (cc := cc) (maxL := nL) (ret := ret) hy rfl ?_
  intro p e s m args' below meth c s₁ B hml hX hv
  obtain ⟨rfl, hR, hK⟩ := hv
  have hts := atoms_spec (ws := ws_ y cc nL ret) B.pre
  have hts : ∀ w ∈ lw_all, w.before _ s = true := fun w h => hts w (List.mem_cons_of_mem _ h)
  have hown : s.vm.findClass y.cls = some m.cls := findClass_of_methodNamed B.named
  have hl := lv_entry args (n := nL) hlen
  rw [lg_entry_eq]
  rw [hlv] at hl
  exact body (p, e, rm, s, m, args.toArray, below, meth, c) ⟨B.exec, B.bytes, hml, by rw [← ho]; exact hown, hts, B.returns, B.notSynchronized, rfl, hK⟩ hX s.heap [] _ hR va_S.rf hl
theorem hatI : ∀ w ∈ (vx_at0 RX1 192 "java/lang/IndexOutOfBoundsException" ["java/lang/RuntimeException", "java/lang/Exception"]).filter goodWord, w ∈ lw_all := by
  decide +kernel
theorem hgdI : ∀ w ∈ Cond.classLink RX1 190 "java/lang/IndexOutOfBoundsException" :: Cond.initialized "java/lang/IndexOutOfBoundsException" :: vx_at0 RX1 192 "java/lang/IndexOutOfBoundsException" ["java/lang/RuntimeException", "java/lang/Exception"], vx_ot w = true := by decide +kernel
theorem hatN : ∀ w ∈ (vx_at0 RX1 227 "java/util/NoSuchElementException" ["java/lang/RuntimeException", "java/lang/Exception"]).filter goodWord, w ∈ lw_all := by
  decide +kernel
theorem hgdN : ∀ w ∈ Cond.classLink RX1 225 "java/util/NoSuchElementException" :: Cond.initialized "java/util/NoSuchElementException" :: vx_at0 RX1 227 "java/util/NoSuchElementException" ["java/lang/RuntimeException", "java/lang/Exception"], vx_ot w = true := by decide +kernel
