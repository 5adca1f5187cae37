set_option maxRecDepth 100000
set_option maxHeartbeats 8000000
/-- the model's contents as they lie in a memory -/
def twC (o : Nat) (M : Mem) : TS := (fun j k => mI M (o + j) k, fun j k => mL M (o + j) k)
theorem twC_id (o : Nat) (M : Mem) : tw o (twC o M) M = M := by
  obtain ⟨a, b, c, d, e, f⟩ := M
  unfold tw twC tI tL mN mT mLn mI mL mR
  dsimp only
  congr 4
  · funext x k
    split
    · next h => rw [show o + (x - o) = x by omega]
    · rfl
  · congr 1
    funext x k
    split
    · next h => rw [show o + (x - o) = x by omega]
    · rfl
/-- the model's shape, to be run -/
def twB (o : Nat) (M : Mem) : Bool := (mT M o == 6) && ((List.range 46).all fun j => decide (9 ≤ tyA j) || ((mT M (o + j) == 100 + tyA j) && (mLn M (o + j) == lenA j))) && ((List.range 84).all fun k => (fldA k == 0) || (mR M o k == some (o + fldA k)))
theorem tyA_big {j : Nat} (h : 46 ≤ j) : tyA j = 9 := by
  unfold tyA
  rw [List.getD_eq_getElem?_getD, List.getElem?_eq_none (by rw [show tyL.length = 46 from rfl]; exact h)]
  rfl
theorem fldA_big {k : Nat} (h : 84 ≤ k) : fldA k = 0 := by
  unfold fldA
  split <;> first | omega | rfl
theorem twB_TwS {o : Nat} {M : Mem} (h : twB o M = true) : TwS o M := by
  unfold twB at h
  rw [Bool.and_eq_true, Bool.and_eq_true] at h
  obtain ⟨⟨h1, h2⟩, h3⟩ := h
  refine ⟨by simpa using h1, fun j hj => ?_, fun k hk => ?_⟩
  · have hj2 : j < 46 := by
      rcases Nat.lt_or_ge j 46 with h | h
      · exact h
      · rw [tyA_big h] at hj
        omega
    have h4 := List.all_eq_true.mp h2 j (List.mem_range.mpr hj2)
    rw [Bool.or_eq_true, Bool.and_eq_true] at h4
    rcases h4 with h4 | ⟨h4, h5⟩
    · have := of_decide_eq_true h4
      omega
    · exact ⟨by simpa using h4, by simpa using h5⟩
  · have hk2 : k < 84 := by
      rcases Nat.lt_or_ge k 84 with h | h
      · exact h
      · exact absurd (fldA_big h) hk
    have h4 := List.all_eq_true.mp h3 k (List.mem_range.mpr hk2)
    rw [Bool.or_eq_true] at h4
    rcases h4 with h4 | h4
    · exact absurd (by simpa using h4) hk
    · simpa using h4
def f_X7_plain (N p0 : Nat) (M : Mem) : Option Mem := gd (twB p0 M = true) (bd (tw_plain N (twC p0 M)) fun S => some (tw p0 S M))
theorem ok_f_X7_plain {E : En} (hE : EOk E) (hN : NOk E) {N p0 : Nat} {M M' : Mem} (h : f_X7_plain N p0 M = some M') : CM E yX7_plain cX7_plain 2 none rm_tw_plain [rf E p0] M none M' := by
  obtain ⟨h1, h⟩ := gd_of h
  obtain ⟨S, h2, h⟩ := bd_of h
  cases h
  have h3 := ok_tw_plain hE (twB_TwS h1) h2
  rw [twC_id] at h3
  exact h3
def f_X7_keepText (N p0 : Nat) (M : Mem) : Option Mem := gd (twB p0 M = true) (bd (tw_keepText N (twC p0 M)) fun S => some (tw p0 S M))
theorem ok_f_X7_keepText {E : En} (hE : EOk E) (hN : NOk E) {N p0 : Nat} {M M' : Mem} (h : f_X7_keepText N p0 M = some M') : CM E yX7_keepText cX7_keepText 2 none rm_tw_keepText [rf E p0] M none M' := by
  obtain ⟨h1, h⟩ := gd_of h
  obtain ⟨S, h2, h⟩ := bd_of h
  cases h
  have h3 := ok_tw_keepText hE (twB_TwS h1) h2
  rw [twC_id] at h3
  exact h3
theorem pf_X7_7 {E : En} {G : Ctx} {M M1 : Mem} {cells slots nL pc : Nat} {lv : List (Nat × Value)} {st : List Value} {Q : State → Prop} {cc : ByteArray} {ret : Option FieldType} {rm0 : Room} (hN : NOk E) (hG : Cx E G cc nL ret RX7 rm0) (hI : IsInit G) {a : Nat} {x : Nat} (hT : mT M a = 6) (hM1 : M1 = sR M a 0 (some x)) (d : decode cc pc = .ok (.putfield 7, 3)) (kk : V E G M1 cells slots nL (pc + 3) lv st Q) : V E G M cells slots nL pc lv (rf E x :: rf E a :: st) Q := V_putQF (M := M) hG (a := a) (ci := 6) (C := RX7) (T := TX7) (N := 84) (k := 0) (x := some x) (ty := tyX7 0) hT (by decide) rfl in_X7 (by decide) tyX7 tyX7_ok nmX7 rfl rfl hI (by decide +kernel) (Or.inr ⟨_, rfl⟩) rfl q1561 d (by rw [← hM1]; exact kk)
theorem pf_X7_13 {E : En} {G : Ctx} {M M1 : Mem} {cells slots nL pc : Nat} {lv : List (Nat × Value)} {st : List Value} {Q : State → Prop} {cc : ByteArray} {ret : Option FieldType} {rm0 : Room} (hN : NOk E) (hG : Cx E G cc nL ret RX7 rm0) (hI : IsInit G) {a : Nat} {x : Nat} (hT : mT M a = 6) (hM1 : M1 = sR M a 3 (some x)) (d : decode cc pc = .ok (.putfield 13, 3)) (kk : V E G M1 cells slots nL (pc + 3) lv st Q) : V E G M cells slots nL pc lv (rf E x :: rf E a :: st) Q := V_putQF (M := M) hG (a := a) (ci := 6) (C := RX7) (T := TX7) (N := 84) (k := 3) (x := some x) (ty := tyX7 3) hT (by decide) rfl in_X7 (by decide) tyX7 tyX7_ok nmX7 rfl rfl hI (by decide +kernel) (Or.inr ⟨_, rfl⟩) rfl q1564 d (by rw [← hM1]; exact kk)
theorem pf_X7_16 {E : En} {G : Ctx} {M M1 : Mem} {cells slots nL pc : Nat} {lv : List (Nat × Value)} {st : List Value} {Q : State → Prop} {cc : ByteArray} {ret : Option FieldType} {rm0 : Room} (hN : NOk E) (hG : Cx E G cc nL ret RX7 rm0) {a : Nat} {x : Int32} (hT : mT M a = 6) (hM1 : M1 = sI M a 5 x) (d : decode cc pc = .ok (.putfield 16, 3)) (kk : V E G M1 cells slots nL (pc + 3) lv st Q) : V E G M cells slots nL pc lv (.int x :: rf E a :: st) Q := W_putPI hG (ci := 6) (C := RX7) (T := TX7) (N := 84) (k := 5) hT (by decide) rfl in_X7 (by decide) (Or.inl rfl) tyX7 tyX7_ok nmX7 rfl (by decide +kernel) rfl q1566 M1 hM1 d kk
theorem pf_X7_20 {E : En} {G : Ctx} {M M1 : Mem} {cells slots nL pc : Nat} {lv : List (Nat × Value)} {st : List Value} {Q : State → Prop} {cc : ByteArray} {ret : Option FieldType} {rm0 : Room} (hN : NOk E) (hG : Cx E G cc nL ret RX7 rm0) (hI : IsInit G) {a : Nat} {x : Nat} (hT : mT M a = 6) (hM1 : M1 = sR M a 23 (some x)) (d : decode cc pc = .ok (.putfield 20, 3)) (kk : V E G M1 cells slots nL (pc + 3) lv st Q) : V E G M cells slots nL pc lv (rf E x :: rf E a :: st) Q := V_putQF (M := M) hG (a := a) (ci := 6) (C := RX7) (T := TX7) (N := 84) (k := 23) (x := some x) (ty := tyX7 23) hT (by decide) rfl in_X7 (by decide) tyX7 tyX7_ok nmX7 rfl rfl hI (by decide +kernel) (Or.inr ⟨_, rfl⟩) rfl q1584 d (by rw [← hM1]; exact kk)
theorem pf_X7_24 {E : En} {G : Ctx} {M M1 : Mem} {cells slots nL pc : Nat} {lv : List (Nat × Value)} {st : List Value} {Q : State → Prop} {cc : ByteArray} {ret : Option FieldType} {rm0 : Room} (hN : NOk E) (hG : Cx E G cc nL ret RX7 rm0) (hI : IsInit G) {a : Nat} {x : Nat} (hT : mT M a = 6) (hM1 : M1 = sR M a 24 (some x)) (d : decode cc pc = .ok (.putfield 24, 3)) (kk : V E G M1 cells slots nL (pc + 3) lv st Q) : V E G M cells slots nL pc lv (rf E x :: rf E a :: st) Q := V_putQF (M := M) hG (a := a) (ci := 6) (C := RX7) (T := TX7) (N := 84) (k := 24) (x := some x) (ty := tyX7 24) hT (by decide) rfl in_X7 (by decide) tyX7 tyX7_ok nmX7 rfl rfl hI (by decide +kernel) (Or.inr ⟨_, rfl⟩) rfl q1585 d (by rw [← hM1]; exact kk)
theorem pf_X7_27 {E : En} {G : Ctx} {M M1 : Mem} {cells slots nL pc : Nat} {lv : List (Nat × Value)} {st : List Value} {Q : State → Prop} {cc : ByteArray} {ret : Option FieldType} {rm0 : Room} (hN : NOk E) (hG : Cx E G cc nL ret RX7 rm0) (hI : IsInit G) {a : Nat} {x : Nat} (hT : mT M a = 6) (hM1 : M1 = sR M a 25 (some x)) (d : decode cc pc = .ok (.putfield 27, 3)) (kk : V E G M1 cells slots nL (pc + 3) lv st Q) : V E G M cells slots nL pc lv (rf E x :: rf E a :: st) Q := V_putQF (M := M) hG (a := a) (ci := 6) (C := RX7) (T := TX7) (N := 84) (k := 25) (x := some x) (ty := tyX7 25) hT (by decide) rfl in_X7 (by decide) tyX7 tyX7_ok nmX7 rfl rfl hI (by decide +kernel) (Or.inr ⟨_, rfl⟩) rfl q1586 d (by rw [← hM1]; exact kk)
theorem pf_X7_30 {E : En} {G : Ctx} {M M1 : Mem} {cells slots nL pc : Nat} {lv : List (Nat × Value)} {st : List Value} {Q : State → Prop} {cc : ByteArray} {ret : Option FieldType} {rm0 : Room} (hN : NOk E) (hG : Cx E G cc nL ret RX7 rm0) (hI : IsInit G) {a : Nat} {x : Nat} (hT : mT M a = 6) (hM1 : M1 = sR M a 26 (some x)) (d : decode cc pc = .ok (.putfield 30, 3)) (kk : V E G M1 cells slots nL (pc + 3) lv st Q) : V E G M cells slots nL pc lv (rf E x :: rf E a :: st) Q := V_putQF (M := M) hG (a := a) (ci := 6) (C := RX7) (T := TX7) (N := 84) (k := 26) (x := some x) (ty := tyX7 26) hT (by decide) rfl in_X7 (by decide) tyX7 tyX7_ok nmX7 rfl rfl hI (by decide +kernel) (Or.inr ⟨_, rfl⟩) rfl q1587 d (by rw [← hM1]; exact kk)
theorem pf_X7_33 {E : En} {G : Ctx} {M M1 : Mem} {cells slots nL pc : Nat} {lv : List (Nat × Value)} {st : List Value} {Q : State → Prop} {cc : ByteArray} {ret : Option FieldType} {rm0 : Room} (hN : NOk E) (hG : Cx E G cc nL ret RX7 rm0) (hI : IsInit G) {a : Nat} {x : Nat} (hT : mT M a = 6) (hM1 : M1 = sR M a 27 (some x)) (d : decode cc pc = .ok (.putfield 33, 3)) (kk : V E G M1 cells slots nL (pc + 3) lv st Q) : V E G M cells slots nL pc lv (rf E x :: rf E a :: st) Q := V_putQF (M := M) hG (a := a) (ci := 6) (C := RX7) (T := TX7) (N := 84) (k := 27) (x := some x) (ty := tyX7 27) hT (by decide) rfl in_X7 (by decide) tyX7 tyX7_ok nmX7 rfl rfl hI (by decide +kernel) (Or.inr ⟨_, rfl⟩) rfl q1588 d (by rw [← hM1]; exact kk)
theorem pf_X7_36 {E : En} {G : Ctx} {M M1 : Mem} {cells slots nL pc : Nat} {lv : List (Nat × Value)} {st : List Value} {Q : State → Prop} {cc : ByteArray} {ret : Option FieldType} {rm0 : Room} (hN : NOk E) (hG : Cx E G cc nL ret RX7 rm0) (hI : IsInit G) {a : Nat} {x : Nat} (hT : mT M a = 6) (hM1 : M1 = sR M a 28 (some x)) (d : decode cc pc = .ok (.putfield 36, 3)) (kk : V E G M1 cells slots nL (pc + 3) lv st Q) : V E G M cells slots nL pc lv (rf E x :: rf E a :: st) Q := V_putQF (M := M) hG (a := a) (ci := 6) (C := RX7) (T := TX7) (N := 84) (k := 28) (x := some x) (ty := tyX7 28) hT (by decide) rfl in_X7 (by decide) tyX7 tyX7_ok nmX7 rfl rfl hI (by decide +kernel) (Or.inr ⟨_, rfl⟩) rfl q1589 d (by rw [← hM1]; exact kk)
theorem pf_X7_39 {E : En} {G : Ctx} {M M1 : Mem} {cells slots nL pc : Nat} {lv : List (Nat × Value)} {st : List Value} {Q : State → Prop} {cc : ByteArray} {ret : Option FieldType} {rm0 : Room} (hN : NOk E) (hG : Cx E G cc nL ret RX7 rm0) (hI : IsInit G) {a : Nat} {x : Nat} (hT : mT M a = 6) (hM1 : M1 = sR M a 29 (some x)) (d : decode cc pc = .ok (.putfield 39, 3)) (kk : V E G M1 cells slots nL (pc + 3) lv st Q) : V E G M cells slots nL pc lv (rf E x :: rf E a :: st) Q := V_putQF (M := M) hG (a := a) (ci := 6) (C := RX7) (T := TX7) (N := 84) (k := 29) (x := some x) (ty := tyX7 29) hT (by decide) rfl in_X7 (by decide) tyX7 tyX7_ok nmX7 rfl rfl hI (by decide +kernel) (Or.inr ⟨_, rfl⟩) rfl q1590 d (by rw [← hM1]; exact kk)
theorem pf_X7_42 {E : En} {G : Ctx} {M M1 : Mem} {cells slots nL pc : Nat} {lv : List (Nat × Value)} {st : List Value} {Q : State → Prop} {cc : ByteArray} {ret : Option FieldType} {rm0 : Room} (hN : NOk E) (hG : Cx E G cc nL ret RX7 rm0) (hI : IsInit G) {a : Nat} {x : Nat} (hT : mT M a = 6) (hM1 : M1 = sR M a 30 (some x)) (d : decode cc pc = .ok (.putfield 42, 3)) (kk : V E G M1 cells slots nL (pc + 3) lv st Q) : V E G M cells slots nL pc lv (rf E x :: rf E a :: st) Q := V_putQF (M := M) hG (a := a) (ci := 6) (C := RX7) (T := TX7) (N := 84) (k := 30) (x := some x) (ty := tyX7 30) hT (by decide) rfl in_X7 (by decide) tyX7 tyX7_ok nmX7 rfl rfl hI (by decide +kernel) (Or.inr ⟨_, rfl⟩) rfl q1591 d (by rw [← hM1]; exact kk)
theorem pf_X7_45 {E : En} {G : Ctx} {M M1 : Mem} {cells slots nL pc : Nat} {lv : List (Nat × Value)} {st : List Value} {Q : State → Prop} {cc : ByteArray} {ret : Option FieldType} {rm0 : Room} (hN : NOk E) (hG : Cx E G cc nL ret RX7 rm0) (hI : IsInit G) {a : Nat} {x : Nat} (hT : mT M a = 6) (hM1 : M1 = sR M a 31 (some x)) (d : decode cc pc = .ok (.putfield 45, 3)) (kk : V E G M1 cells slots nL (pc + 3) lv st Q) : V E G M cells slots nL pc lv (rf E x :: rf E a :: st) Q := V_putQF (M := M) hG (a := a) (ci := 6) (C := RX7) (T := TX7) (N := 84) (k := 31) (x := some x) (ty := tyX7 31) hT (by decide) rfl in_X7 (by decide) tyX7 tyX7_ok nmX7 rfl rfl hI (by decide +kernel) (Or.inr ⟨_, rfl⟩) rfl q1592 d (by rw [← hM1]; exact kk)
theorem pf_X7_48 {E : En} {G : Ctx} {M M1 : Mem} {cells slots nL pc : Nat} {lv : List (Nat × Value)} {st : List Value} {Q : State → Prop} {cc : ByteArray} {ret : Option FieldType} {rm0 : Room} (hN : NOk E) (hG : Cx E G cc nL ret RX7 rm0) (hI : IsInit G) {a : Nat} {x : Nat} (hT : mT M a = 6) (hM1 : M1 = sR M a 32 (some x)) (d : decode cc pc = .ok (.putfield 48, 3)) (kk : V E G M1 cells slots nL (pc + 3) lv st Q) : V E G M cells slots nL pc lv (rf E x :: rf E a :: st) Q := V_putQF (M := M) hG (a := a) (ci := 6) (C := RX7) (T := TX7) (N := 84) (k := 32) (x := some x) (ty := tyX7 32) hT (by decide) rfl in_X7 (by decide) tyX7 tyX7_ok nmX7 rfl rfl hI (by decide +kernel) (Or.inr ⟨_, rfl⟩) rfl q1593 d (by rw [← hM1]; exact kk)
theorem pf_X7_51 {E : En} {G : Ctx} {M M1 : Mem} {cells slots nL pc : Nat} {lv : List (Nat × Value)} {st : List Value} {Q : State → Prop} {cc : ByteArray} {ret : Option FieldType} {rm0 : Room} (hN : NOk E) (hG : Cx E G cc nL ret RX7 rm0) (hI : IsInit G) {a : Nat} {x : Nat} (hT : mT M a = 6) (hM1 : M1 = sR M a 33 (some x)) (d : decode cc pc = .ok (.putfield 51, 3)) (kk : V E G M1 cells slots nL (pc + 3) lv st Q) : V E G M cells slots nL pc lv (rf E x :: rf E a :: st) Q := V_putQF (M := M) hG (a := a) (ci := 6) (C := RX7) (T := TX7) (N := 84) (k := 33) (x := some x) (ty := tyX7 33) hT (by decide) rfl in_X7 (by decide) tyX7 tyX7_ok nmX7 rfl rfl hI (by decide +kernel) (Or.inr ⟨_, rfl⟩) rfl q1594 d (by rw [← hM1]; exact kk)
theorem pf_X7_54 {E : En} {G : Ctx} {M M1 : Mem} {cells slots nL pc : Nat} {lv : List (Nat × Value)} {st : List Value} {Q : State → Prop} {cc : ByteArray} {ret : Option FieldType} {rm0 : Room} (hN : NOk E) (hG : Cx E G cc nL ret RX7 rm0) (hI : IsInit G) {a : Nat} {x : Nat} (hT : mT M a = 6) (hM1 : M1 = sR M a 34 (some x)) (d : decode cc pc = .ok (.putfield 54, 3)) (kk : V E G M1 cells slots nL (pc + 3) lv st Q) : V E G M cells slots nL pc lv (rf E x :: rf E a :: st) Q := V_putQF (M := M) hG (a := a) (ci := 6) (C := RX7) (T := TX7) (N := 84) (k := 34) (x := some x) (ty := tyX7 34) hT (by decide) rfl in_X7 (by decide) tyX7 tyX7_ok nmX7 rfl rfl hI (by decide +kernel) (Or.inr ⟨_, rfl⟩) rfl q1595 d (by rw [← hM1]; exact kk)
theorem pf_X7_57 {E : En} {G : Ctx} {M M1 : Mem} {cells slots nL pc : Nat} {lv : List (Nat × Value)} {st : List Value} {Q : State → Prop} {cc : ByteArray} {ret : Option FieldType} {rm0 : Room} (hN : NOk E) (hG : Cx E G cc nL ret RX7 rm0) (hI : IsInit G) {a : Nat} {x : Nat} (hT : mT M a = 6) (hM1 : M1 = sR M a 35 (some x)) (d : decode cc pc = .ok (.putfield 57, 3)) (kk : V E G M1 cells slots nL (pc + 3) lv st Q) : V E G M cells slots nL pc lv (rf E x :: rf E a :: st) Q := V_putQF (M := M) hG (a := a) (ci := 6) (C := RX7) (T := TX7) (N := 84) (k := 35) (x := some x) (ty := tyX7 35) hT (by decide) rfl in_X7 (by decide) tyX7 tyX7_ok nmX7 rfl rfl hI (by decide +kernel) (Or.inr ⟨_, rfl⟩) rfl q1596 d (by rw [← hM1]; exact kk)
theorem pf_X7_60 {E : En} {G : Ctx} {M M1 : Mem} {cells slots nL pc : Nat} {lv : List (Nat × Value)} {st : List Value} {Q : State → Prop} {cc : ByteArray} {ret : Option FieldType} {rm0 : Room} (hN : NOk E) (hG : Cx E G cc nL ret RX7 rm0) (hI : IsInit G) {a : Nat} {x : Nat} (hT : mT M a = 6) (hM1 : M1 = sR M a 36 (some x)) (d : decode cc pc = .ok (.putfield 60, 3)) (kk : V E G M1 cells slots nL (pc + 3) lv st Q) : V E G M cells slots nL pc lv (rf E x :: rf E a :: st) Q := V_putQF (M := M) hG (a := a) (ci := 6) (C := RX7) (T := TX7) (N := 84) (k := 36) (x := some x) (ty := tyX7 36) hT (by decide) rfl in_X7 (by decide) tyX7 tyX7_ok nmX7 rfl rfl hI (by decide +kernel) (Or.inr ⟨_, rfl⟩) rfl q1597 d (by rw [← hM1]; exact kk)
theorem pf_X7_63 {E : En} {G : Ctx} {M M1 : Mem} {cells slots nL pc : Nat} {lv : List (Nat × Value)} {st : List Value} {Q : State → Prop} {cc : ByteArray} {ret : Option FieldType} {rm0 : Room} (hN : NOk E) (hG : Cx E G cc nL ret RX7 rm0) (hI : IsInit G) {a : Nat} {x : Nat} (hT : mT M a = 6) (hM1 : M1 = sR M a 37 (some x)) (d : decode cc pc = .ok (.putfield 63, 3)) (kk : V E G M1 cells slots nL (pc + 3) lv st Q) : V E G M cells slots nL pc lv (rf E x :: rf E a :: st) Q := V_putQF (M := M) hG (a := a) (ci := 6) (C := RX7) (T := TX7) (N := 84) (k := 37) (x := some x) (ty := tyX7 37) hT (by decide) rfl in_X7 (by decide) tyX7 tyX7_ok nmX7 rfl rfl hI (by decide +kernel) (Or.inr ⟨_, rfl⟩) rfl q1598 d (by rw [← hM1]; exact kk)
theorem pf_X7_66 {E : En} {G : Ctx} {M M1 : Mem} {cells slots nL pc : Nat} {lv : List (Nat × Value)} {st : List Value} {Q : State → Prop} {cc : ByteArray} {ret : Option FieldType} {rm0 : Room} (hN : NOk E) (hG : Cx E G cc nL ret RX7 rm0) (hI : IsInit G) {a : Nat} {x : Nat} (hT : mT M a = 6) (hM1 : M1 = sR M a 38 (some x)) (d : decode cc pc = .ok (.putfield 66, 3)) (kk : V E G M1 cells slots nL (pc + 3) lv st Q) : V E G M cells slots nL pc lv (rf E x :: rf E a :: st) Q := V_putQF (M := M) hG (a := a) (ci := 6) (C := RX7) (T := TX7) (N := 84) (k := 38) (x := some x) (ty := tyX7 38) hT (by decide) rfl in_X7 (by decide) tyX7 tyX7_ok nmX7 rfl rfl hI (by decide +kernel) (Or.inr ⟨_, rfl⟩) rfl q1599 d (by rw [← hM1]; exact kk)
theorem pf_X7_69 {E : En} {G : Ctx} {M M1 : Mem} {cells slots nL pc : Nat} {lv : List (Nat × Value)} {st : List Value} {Q : State → Prop} {cc : ByteArray} {ret : Option FieldType} {rm0 : Room} (hN : NOk E) (hG : Cx E G cc nL ret RX7 rm0) (hI : IsInit G) {a : Nat} {x : Nat} (hT : mT M a = 6) (hM1 : M1 = sR M a 39 (some x)) (d : decode cc pc = .ok (.putfield 69, 3)) (kk : V E G M1 cells slots nL (pc + 3) lv st Q) : V E G M cells slots nL pc lv (rf E x :: rf E a :: st) Q := V_putQF (M := M) hG (a := a) (ci := 6) (C := RX7) (T := TX7) (N := 84) (k := 39) (x := some x) (ty := tyX7 39) hT (by decide) rfl in_X7 (by decide) tyX7 tyX7_ok nmX7 rfl rfl hI (by decide +kernel) (Or.inr ⟨_, rfl⟩) rfl q1600 d (by rw [← hM1]; exact kk)
theorem pf_X7_72 {E : En} {G : Ctx} {M M1 : Mem} {cells slots nL pc : Nat} {lv : List (Nat × Value)} {st : List Value} {Q : State → Prop} {cc : ByteArray} {ret : Option FieldType} {rm0 : Room} (hN : NOk E) (hG : Cx E G cc nL ret RX7 rm0) (hI : IsInit G) {a : Nat} {x : Nat} (hT : mT M a = 6) (hM1 : M1 = sR M a 40 (some x)) (d : decode cc pc = .ok (.putfield 72, 3)) (kk : V E G M1 cells slots nL (pc + 3) lv st Q) : V E G M cells slots nL pc lv (rf E x :: rf E a :: st) Q := V_putQF (M := M) hG (a := a) (ci := 6) (C := RX7) (T := TX7) (N := 84) (k := 40) (x := some x) (ty := tyX7 40) hT (by decide) rfl in_X7 (by decide) tyX7 tyX7_ok nmX7 rfl rfl hI (by decide +kernel) (Or.inr ⟨_, rfl⟩) rfl q1601 d (by rw [← hM1]; exact kk)
theorem pf_X7_75 {E : En} {G : Ctx} {M M1 : Mem} {cells slots nL pc : Nat} {lv : List (Nat × Value)} {st : List Value} {Q : State → Prop} {cc : ByteArray} {ret : Option FieldType} {rm0 : Room} (hN : NOk E) (hG : Cx E G cc nL ret RX7 rm0) (hI : IsInit G) {a : Nat} {x : Nat} (hT : mT M a = 6) (hM1 : M1 = sR M a 41 (some x)) (d : decode cc pc = .ok (.putfield 75, 3)) (kk : V E G M1 cells slots nL (pc + 3) lv st Q) : V E G M cells slots nL pc lv (rf E x :: rf E a :: st) Q := V_putQF (M := M) hG (a := a) (ci := 6) (C := RX7) (T := TX7) (N := 84) (k := 41) (x := some x) (ty := tyX7 41) hT (by decide) rfl in_X7 (by decide) tyX7 tyX7_ok nmX7 rfl rfl hI (by decide +kernel) (Or.inr ⟨_, rfl⟩) rfl q1602 d (by rw [← hM1]; exact kk)
theorem pf_X7_78 {E : En} {G : Ctx} {M M1 : Mem} {cells slots nL pc : Nat} {lv : List (Nat × Value)} {st : List Value} {Q : State → Prop} {cc : ByteArray} {ret : Option FieldType} {rm0 : Room} (hN : NOk E) (hG : Cx E G cc nL ret RX7 rm0) (hI : IsInit G) {a : Nat} {x : Nat} (hT : mT M a = 6) (hM1 : M1 = sR M a 42 (some x)) (d : decode cc pc = .ok (.putfield 78, 3)) (kk : V E G M1 cells slots nL (pc + 3) lv st Q) : V E G M cells slots nL pc lv (rf E x :: rf E a :: st) Q := V_putQF (M := M) hG (a := a) (ci := 6) (C := RX7) (T := TX7) (N := 84) (k := 42) (x := some x) (ty := tyX7 42) hT (by decide) rfl in_X7 (by decide) tyX7 tyX7_ok nmX7 rfl rfl hI (by decide +kernel) (Or.inr ⟨_, rfl⟩) rfl q1603 d (by rw [← hM1]; exact kk)
theorem pf_X7_81 {E : En} {G : Ctx} {M M1 : Mem} {cells slots nL pc : Nat} {lv : List (Nat × Value)} {st : List Value} {Q : State → Prop} {cc : ByteArray} {ret : Option FieldType} {rm0 : Room} (hN : NOk E) (hG : Cx E G cc nL ret RX7 rm0) (hI : IsInit G) {a : Nat} {x : Nat} (hT : mT M a = 6) (hM1 : M1 = sR M a 43 (some x)) (d : decode cc pc = .ok (.putfield 81, 3)) (kk : V E G M1 cells slots nL (pc + 3) lv st Q) : V E G M cells slots nL pc lv (rf E x :: rf E a :: st) Q := V_putQF (M := M) hG (a := a) (ci := 6) (C := RX7) (T := TX7) (N := 84) (k := 43) (x := some x) (ty := tyX7 43) hT (by decide) rfl in_X7 (by decide) tyX7 tyX7_ok nmX7 rfl rfl hI (by decide +kernel) (Or.inr ⟨_, rfl⟩) rfl q1604 d (by rw [← hM1]; exact kk)
theorem pf_X7_84 {E : En} {G : Ctx} {M M1 : Mem} {cells slots nL pc : Nat} {lv : List (Nat × Value)} {st : List Value} {Q : State → Prop} {cc : ByteArray} {ret : Option FieldType} {rm0 : Room} (hN : NOk E) (hG : Cx E G cc nL ret RX7 rm0) (hI : IsInit G) {a : Nat} {x : Nat} (hT : mT M a = 6) (hM1 : M1 = sR M a 44 (some x)) (d : decode cc pc = .ok (.putfield 84, 3)) (kk : V E G M1 cells slots nL (pc + 3) lv st Q) : V E G M cells slots nL pc lv (rf E x :: rf E a :: st) Q := V_putQF (M := M) hG (a := a) (ci := 6) (C := RX7) (T := TX7) (N := 84) (k := 44) (x := some x) (ty := tyX7 44) hT (by decide) rfl in_X7 (by decide) tyX7 tyX7_ok nmX7 rfl rfl hI (by decide +kernel) (Or.inr ⟨_, rfl⟩) rfl q1605 d (by rw [← hM1]; exact kk)
theorem pf_X7_87 {E : En} {G : Ctx} {M M1 : Mem} {cells slots nL pc : Nat} {lv : List (Nat × Value)} {st : List Value} {Q : State → Prop} {cc : ByteArray} {ret : Option FieldType} {rm0 : Room} (hN : NOk E) (hG : Cx E G cc nL ret RX7 rm0) (hI : IsInit G) {a : Nat} {x : Nat} (hT : mT M a = 6) (hM1 : M1 = sR M a 51 (some x)) (d : decode cc pc = .ok (.putfield 87, 3)) (kk : V E G M1 cells slots nL (pc + 3) lv st Q) : V E G M cells slots nL pc lv (rf E x :: rf E a :: st) Q := V_putQF (M := M) hG (a := a) (ci := 6) (C := RX7) (T := TX7) (N := 84) (k := 51) (x := some x) (ty := tyX7 51) hT (by decide) rfl in_X7 (by decide) tyX7 tyX7_ok nmX7 rfl rfl hI (by decide +kernel) (Or.inr ⟨_, rfl⟩) rfl q1612 d (by rw [← hM1]; exact kk)
theorem pf_X7_91 {E : En} {G : Ctx} {M M1 : Mem} {cells slots nL pc : Nat} {lv : List (Nat × Value)} {st : List Value} {Q : State → Prop} {cc : ByteArray} {ret : Option FieldType} {rm0 : Room} (hN : NOk E) (hG : Cx E G cc nL ret RX7 rm0) (hI : IsInit G) {a : Nat} {x : Nat} (hT : mT M a = 6) (hM1 : M1 = sR M a 52 (some x)) (d : decode cc pc = .ok (.putfield 91, 3)) (kk : V E G M1 cells slots nL (pc + 3) lv st Q) : V E G M cells slots nL pc lv (rf E x :: rf E a :: st) Q := V_putQF (M := M) hG (a := a) (ci := 6) (C := RX7) (T := TX7) (N := 84) (k := 52) (x := some x) (ty := tyX7 52) hT (by decide) rfl in_X7 (by decide) tyX7 tyX7_ok nmX7 rfl rfl hI (by decide +kernel) (Or.inr ⟨_, rfl⟩) rfl q1613 d (by rw [← hM1]; exact kk)
theorem pf_X7_94 {E : En} {G : Ctx} {M M1 : Mem} {cells slots nL pc : Nat} {lv : List (Nat × Value)} {st : List Value} {Q : State → Prop} {cc : ByteArray} {ret : Option FieldType} {rm0 : Room} (hN : NOk E) (hG : Cx E G cc nL ret RX7 rm0) (hI : IsInit G) {a : Nat} {x : Nat} (hT : mT M a = 6) (hM1 : M1 = sR M a 54 (some x)) (d : decode cc pc = .ok (.putfield 94, 3)) (kk : V E G M1 cells slots nL (pc + 3) lv st Q) : V E G M cells slots nL pc lv (rf E x :: rf E a :: st) Q := V_putQF (M := M) hG (a := a) (ci := 6) (C := RX7) (T := TX7) (N := 84) (k := 54) (x := some x) (ty := tyX7 54) hT (by decide) rfl in_X7 (by decide) tyX7 tyX7_ok nmX7 rfl rfl hI (by decide +kernel) (Or.inr ⟨_, rfl⟩) rfl q1615 d (by rw [← hM1]; exact kk)
theorem pf_X7_97 {E : En} {G : Ctx} {M M1 : Mem} {cells slots nL pc : Nat} {lv : List (Nat × Value)} {st : List Value} {Q : State → Prop} {cc : ByteArray} {ret : Option FieldType} {rm0 : Room} (hN : NOk E) (hG : Cx E G cc nL ret RX7 rm0) (hI : IsInit G) {a : Nat} {x : Nat} (hT : mT M a = 6) (hM1 : M1 = sR M a 55 (some x)) (d : decode cc pc = .ok (.putfield 97, 3)) (kk : V E G M1 cells slots nL (pc + 3) lv st Q) : V E G M cells slots nL pc lv (rf E x :: rf E a :: st) Q := V_putQF (M := M) hG (a := a) (ci := 6) (C := RX7) (T := TX7) (N := 84) (k := 55) (x := some x) (ty := tyX7 55) hT (by decide) rfl in_X7 (by decide) tyX7 tyX7_ok nmX7 rfl rfl hI (by decide +kernel) (Or.inr ⟨_, rfl⟩) rfl q1616 d (by rw [← hM1]; exact kk)
theorem pf_X7_100 {E : En} {G : Ctx} {M M1 : Mem} {cells slots nL pc : Nat} {lv : List (Nat × Value)} {st : List Value} {Q : State → Prop} {cc : ByteArray} {ret : Option FieldType} {rm0 : Room} (hN : NOk E) (hG : Cx E G cc nL ret RX7 rm0) (hI : IsInit G) {a : Nat} {x : Nat} (hT : mT M a = 6) (hM1 : M1 = sR M a 56 (some x)) (d : decode cc pc = .ok (.putfield 100, 3)) (kk : V E G M1 cells slots nL (pc + 3) lv st Q) : V E G M cells slots nL pc lv (rf E x :: rf E a :: st) Q := V_putQF (M := M) hG (a := a) (ci := 6) (C := RX7) (T := TX7) (N := 84) (k := 56) (x := some x) (ty := tyX7 56) hT (by decide) rfl in_X7 (by decide) tyX7 tyX7_ok nmX7 rfl rfl hI (by decide +kernel) (Or.inr ⟨_, rfl⟩) rfl q1617 d (by rw [← hM1]; exact kk)
theorem pf_X7_103 {E : En} {G : Ctx} {M M1 : Mem} {cells slots nL pc : Nat} {lv : List (Nat × Value)} {st : List Value} {Q : State → Prop} {cc : ByteArray} {ret : Option FieldType} {rm0 : Room} (hN : NOk E) (hG : Cx E G cc nL ret RX7 rm0) (hI : IsInit G) {a : Nat} {x : Nat} (hT : mT M a = 6) (hM1 : M1 = sR M a 57 (some x)) (d : decode cc pc = .ok (.putfield 103, 3)) (kk : V E G M1 cells slots nL (pc + 3) lv st Q) : V E G M cells slots nL pc lv (rf E x :: rf E a :: st) Q := V_putQF (M := M) hG (a := a) (ci := 6) (C := RX7) (T := TX7) (N := 84) (k := 57) (x := some x) (ty := tyX7 57) hT (by decide) rfl in_X7 (by decide) tyX7 tyX7_ok nmX7 rfl rfl hI (by decide +kernel) (Or.inr ⟨_, rfl⟩) rfl q1618 d (by rw [← hM1]; exact kk)
theorem pf_X7_106 {E : En} {G : Ctx} {M M1 : Mem} {cells slots nL pc : Nat} {lv : List (Nat × Value)} {st : List Value} {Q : State → Prop} {cc : ByteArray} {ret : Option FieldType} {rm0 : Room} (hN : NOk E) (hG : Cx E G cc nL ret RX7 rm0) (hI : IsInit G) {a : Nat} {x : Nat} (hT : mT M a = 6) (hM1 : M1 = sR M a 58 (some x)) (d : decode cc pc = .ok (.putfield 106, 3)) (kk : V E G M1 cells slots nL (pc + 3) lv st Q) : V E G M cells slots nL pc lv (rf E x :: rf E a :: st) Q := V_putQF (M := M) hG (a := a) (ci := 6) (C := RX7) (T := TX7) (N := 84) (k := 58) (x := some x) (ty := tyX7 58) hT (by decide) rfl in_X7 (by decide) tyX7 tyX7_ok nmX7 rfl rfl hI (by decide +kernel) (Or.inr ⟨_, rfl⟩) rfl q1619 d (by rw [← hM1]; exact kk)
theorem pf_X7_109 {E : En} {G : Ctx} {M M1 : Mem} {cells slots nL pc : Nat} {lv : List (Nat × Value)} {st : List Value} {Q : State → Prop} {cc : ByteArray} {ret : Option FieldType} {rm0 : Room} (hN : NOk E) (hG : Cx E G cc nL ret RX7 rm0) (hI : IsInit G) {a : Nat} {x : Nat} (hT : mT M a = 6) (hM1 : M1 = sR M a 59 (some x)) (d : decode cc pc = .ok (.putfield 109, 3)) (kk : V E G M1 cells slots nL (pc + 3) lv st Q) : V E G M cells slots nL pc lv (rf E x :: rf E a :: st) Q := V_putQF (M := M) hG (a := a) (ci := 6) (C := RX7) (T := TX7) (N := 84) (k := 59) (x := some x) (ty := tyX7 59) hT (by decide) rfl in_X7 (by decide) tyX7 tyX7_ok nmX7 rfl rfl hI (by decide +kernel) (Or.inr ⟨_, rfl⟩) rfl q1620 d (by rw [← hM1]; exact kk)
theorem pf_X7_112 {E : En} {G : Ctx} {M M1 : Mem} {cells slots nL pc : Nat} {lv : List (Nat × Value)} {st : List Value} {Q : State → Prop} {cc : ByteArray} {ret : Option FieldType} {rm0 : Room} (hN : NOk E) (hG : Cx E G cc nL ret RX7 rm0) (hI : IsInit G) {a : Nat} {x : Nat} (hT : mT M a = 6) (hM1 : M1 = sR M a 60 (some x)) (d : decode cc pc = .ok (.putfield 112, 3)) (kk : V E G M1 cells slots nL (pc + 3) lv st Q) : V E G M cells slots nL pc lv (rf E x :: rf E a :: st) Q := V_putQF (M := M) hG (a := a) (ci := 6) (C := RX7) (T := TX7) (N := 84) (k := 60) (x := some x) (ty := tyX7 60) hT (by decide) rfl in_X7 (by decide) tyX7 tyX7_ok nmX7 rfl rfl hI (by decide +kernel) (Or.inr ⟨_, rfl⟩) rfl q1621 d (by rw [← hM1]; exact kk)
theorem pf_X7_115 {E : En} {G : Ctx} {M M1 : Mem} {cells slots nL pc : Nat} {lv : List (Nat × Value)} {st : List Value} {Q : State → Prop} {cc : ByteArray} {ret : Option FieldType} {rm0 : Room} (hN : NOk E) (hG : Cx E G cc nL ret RX7 rm0) (hI : IsInit G) {a : Nat} {x : Nat} (hT : mT M a = 6) (hM1 : M1 = sR M a 61 (some x)) (d : decode cc pc = .ok (.putfield 115, 3)) (kk : V E G M1 cells slots nL (pc + 3) lv st Q) : V E G M cells slots nL pc lv (rf E x :: rf E a :: st) Q := V_putQF (M := M) hG (a := a) (ci := 6) (C := RX7) (T := TX7) (N := 84) (k := 61) (x := some x) (ty := tyX7 61) hT (by decide) rfl in_X7 (by decide) tyX7 tyX7_ok nmX7 rfl rfl hI (by decide +kernel) (Or.inr ⟨_, rfl⟩) rfl q1622 d (by rw [← hM1]; exact kk)
theorem pf_X7_118 {E : En} {G : Ctx} {M M1 : Mem} {cells slots nL pc : Nat} {lv : List (Nat × Value)} {st : List Value} {Q : State → Prop} {cc : ByteArray} {ret : Option FieldType} {rm0 : Room} (hN : NOk E) (hG : Cx E G cc nL ret RX7 rm0) (hI : IsInit G) {a : Nat} {x : Nat} (hT : mT M a = 6) (hM1 : M1 = sR M a 62 (some x)) (d : decode cc pc = .ok (.putfield 118, 3)) (kk : V E G M1 cells slots nL (pc + 3) lv st Q) : V E G M cells slots nL pc lv (rf E x :: rf E a :: st) Q := V_putQF (M := M) hG (a := a) (ci := 6) (C := RX7) (T := TX7) (N := 84) (k := 62) (x := some x) (ty := tyX7 62) hT (by decide) rfl in_X7 (by decide) tyX7 tyX7_ok nmX7 rfl rfl hI (by decide +kernel) (Or.inr ⟨_, rfl⟩) rfl q1623 d (by rw [← hM1]; exact kk)
theorem pf_X7_121 {E : En} {G : Ctx} {M M1 : Mem} {cells slots nL pc : Nat} {lv : List (Nat × Value)} {st : List Value} {Q : State → Prop} {cc : ByteArray} {ret : Option FieldType} {rm0 : Room} (hN : NOk E) (hG : Cx E G cc nL ret RX7 rm0) (hI : IsInit G) {a : Nat} {x : Nat} (hT : mT M a = 6) (hM1 : M1 = sR M a 63 (some x)) (d : decode cc pc = .ok (.putfield 121, 3)) (kk : V E G M1 cells slots nL (pc + 3) lv st Q) : V E G M cells slots nL pc lv (rf E x :: rf E a :: st) Q := V_putQF (M := M) hG (a := a) (ci := 6) (C := RX7) (T := TX7) (N := 84) (k := 63) (x := some x) (ty := tyX7 63) hT (by decide) rfl in_X7 (by decide) tyX7 tyX7_ok nmX7 rfl rfl hI (by decide +kernel) (Or.inr ⟨_, rfl⟩) rfl q1624 d (by rw [← hM1]; exact kk)
theorem pf_X7_124 {E : En} {G : Ctx} {M M1 : Mem} {cells slots nL pc : Nat} {lv : List (Nat × Value)} {st : List Value} {Q : State → Prop} {cc : ByteArray} {ret : Option FieldType} {rm0 : Room} (hN : NOk E) (hG : Cx E G cc nL ret RX7 rm0) (hI : IsInit G) {a : Nat} {x : Nat} (hT : mT M a = 6) (hM1 : M1 = sR M a 64 (some x)) (d : decode cc pc = .ok (.putfield 124, 3)) (kk : V E G M1 cells slots nL (pc + 3) lv st Q) : V E G M cells slots nL pc lv (rf E x :: rf E a :: st) Q := V_putQF (M := M) hG (a := a) (ci := 6) (C := RX7) (T := TX7) (N := 84) (k := 64) (x := some x) (ty := tyX7 64) hT (by decide) rfl in_X7 (by decide) tyX7 tyX7_ok nmX7 rfl rfl hI (by decide +kernel) (Or.inr ⟨_, rfl⟩) rfl q1625 d (by rw [← hM1]; exact kk)
theorem pf_X7_127 {E : En} {G : Ctx} {M M1 : Mem} {cells slots nL pc : Nat} {lv : List (Nat × Value)} {st : List Value} {Q : State → Prop} {cc : ByteArray} {ret : Option FieldType} {rm0 : Room} (hN : NOk E) (hG : Cx E G cc nL ret RX7 rm0) (hI : IsInit G) {a : Nat} {x : Nat} (hT : mT M a = 6) (hM1 : M1 = sR M a 65 (some x)) (d : decode cc pc = .ok (.putfield 127, 3)) (kk : V E G M1 cells slots nL (pc + 3) lv st Q) : V E G M cells slots nL pc lv (rf E x :: rf E a :: st) Q := V_putQF (M := M) hG (a := a) (ci := 6) (C := RX7) (T := TX7) (N := 84) (k := 65) (x := some x) (ty := tyX7 65) hT (by decide) rfl in_X7 (by decide) tyX7 tyX7_ok nmX7 rfl rfl hI (by decide +kernel) (Or.inr ⟨_, rfl⟩) rfl q1626 d (by rw [← hM1]; exact kk)
theorem pf_X7_130 {E : En} {G : Ctx} {M M1 : Mem} {cells slots nL pc : Nat} {lv : List (Nat × Value)} {st : List Value} {Q : State → Prop} {cc : ByteArray} {ret : Option FieldType} {rm0 : Room} (hN : NOk E) (hG : Cx E G cc nL ret RX7 rm0) (hI : IsInit G) {a : Nat} {x : Nat} (hT : mT M a = 6) (hM1 : M1 = sR M a 66 (some x)) (d : decode cc pc = .ok (.putfield 130, 3)) (kk : V E G M1 cells slots nL (pc + 3) lv st Q) : V E G M cells slots nL pc lv (rf E x :: rf E a :: st) Q := V_putQF (M := M) hG (a := a) (ci := 6) (C := RX7) (T := TX7) (N := 84) (k := 66) (x := some x) (ty := tyX7 66) hT (by decide) rfl in_X7 (by decide) tyX7 tyX7_ok nmX7 rfl rfl hI (by decide +kernel) (Or.inr ⟨_, rfl⟩) rfl q1627 d (by rw [← hM1]; exact kk)
theorem pf_X7_133 {E : En} {G : Ctx} {M M1 : Mem} {cells slots nL pc : Nat} {lv : List (Nat × Value)} {st : List Value} {Q : State → Prop} {cc : ByteArray} {ret : Option FieldType} {rm0 : Room} (hN : NOk E) (hG : Cx E G cc nL ret RX7 rm0) (hI : IsInit G) {a : Nat} {x : Nat} (hT : mT M a = 6) (hM1 : M1 = sR M a 73 (some x)) (d : decode cc pc = .ok (.putfield 133, 3)) (kk : V E G M1 cells slots nL (pc + 3) lv st Q) : V E G M cells slots nL pc lv (rf E x :: rf E a :: st) Q := V_putQF (M := M) hG (a := a) (ci := 6) (C := RX7) (T := TX7) (N := 84) (k := 73) (x := some x) (ty := tyX7 73) hT (by decide) rfl in_X7 (by decide) tyX7 tyX7_ok nmX7 rfl rfl hI (by decide +kernel) (Or.inr ⟨_, rfl⟩) rfl q1634 d (by rw [← hM1]; exact kk)
theorem pf_X7_136 {E : En} {G : Ctx} {M M1 : Mem} {cells slots nL pc : Nat} {lv : List (Nat × Value)} {st : List Value} {Q : State → Prop} {cc : ByteArray} {ret : Option FieldType} {rm0 : Room} (hN : NOk E) (hG : Cx E G cc nL ret RX7 rm0) {a : Nat} {x : Int32} (hT : mT M a = 6) (hM1 : M1 = sI M a 75 x) (d : decode cc pc = .ok (.putfield 136, 3)) (kk : V E G M1 cells slots nL (pc + 3) lv st Q) : V E G M cells slots nL pc lv (.int x :: rf E a :: st) Q := W_putPI hG (ci := 6) (C := RX7) (T := TX7) (N := 84) (k := 75) hT (by decide) rfl in_X7 (by decide) (Or.inl rfl) tyX7 tyX7_ok nmX7 rfl (by decide +kernel) rfl q1636 M1 hM1 d kk
theorem pf_X7_139 {E : En} {G : Ctx} {M M1 : Mem} {cells slots nL pc : Nat} {lv : List (Nat × Value)} {st : List Value} {Q : State → Prop} {cc : ByteArray} {ret : Option FieldType} {rm0 : Room} (hN : NOk E) (hG : Cx E G cc nL ret RX7 rm0) (hI : IsInit G) {a : Nat} {x : Nat} (hT : mT M a = 6) (hM1 : M1 = sR M a 76 (some x)) (d : decode cc pc = .ok (.putfield 139, 3)) (kk : V E G M1 cells slots nL (pc + 3) lv st Q) : V E G M cells slots nL pc lv (rf E x :: rf E a :: st) Q := V_putQF (M := M) hG (a := a) (ci := 6) (C := RX7) (T := TX7) (N := 84) (k := 76) (x := some x) (ty := tyX7 76) hT (by decide) rfl in_X7 (by decide) tyX7 tyX7_ok nmX7 rfl rfl hI (by decide +kernel) (Or.inr ⟨_, rfl⟩) rfl q1637 d (by rw [← hM1]; exact kk)
theorem pf_X7_142 {E : En} {G : Ctx} {M M1 : Mem} {cells slots nL pc : Nat} {lv : List (Nat × Value)} {st : List Value} {Q : State → Prop} {cc : ByteArray} {ret : Option FieldType} {rm0 : Room} (hN : NOk E) (hG : Cx E G cc nL ret RX7 rm0) (hI : IsInit G) {a : Nat} {x : Nat} (hT : mT M a = 6) (hM1 : M1 = sR M a 77 (some x)) (d : decode cc pc = .ok (.putfield 142, 3)) (kk : V E G M1 cells slots nL (pc + 3) lv st Q) : V E G M cells slots nL pc lv (rf E x :: rf E a :: st) Q := V_putQF (M := M) hG (a := a) (ci := 6) (C := RX7) (T := TX7) (N := 84) (k := 77) (x := some x) (ty := tyX7 77) hT (by decide) rfl in_X7 (by decide) tyX7 tyX7_ok nmX7 rfl rfl hI (by decide +kernel) (Or.inr ⟨_, rfl⟩) rfl q1638 d (by rw [← hM1]; exact kk)
theorem pf_X7_145 {E : En} {G : Ctx} {M M1 : Mem} {cells slots nL pc : Nat} {lv : List (Nat × Value)} {st : List Value} {Q : State → Prop} {cc : ByteArray} {ret : Option FieldType} {rm0 : Room} (hN : NOk E) (hG : Cx E G cc nL ret RX7 rm0) (hI : IsInit G) {a : Nat} {x : Nat} (hT : mT M a = 6) (hM1 : M1 = sR M a 79 (some x)) (d : decode cc pc = .ok (.putfield 145, 3)) (kk : V E G M1 cells slots nL (pc + 3) lv st Q) : V E G M cells slots nL pc lv (rf E x :: rf E a :: st) Q := V_putQF (M := M) hG (a := a) (ci := 6) (C := RX7) (T := TX7) (N := 84) (k := 79) (x := some x) (ty := tyX7 79) hT (by decide) rfl in_X7 (by decide) tyX7 tyX7_ok nmX7 rfl rfl hI (by decide +kernel) (Or.inr ⟨_, rfl⟩) rfl q1640 d (by rw [← hM1]; exact kk)
theorem pf_X7_148 {E : En} {G : Ctx} {M M1 : Mem} {cells slots nL pc : Nat} {lv : List (Nat × Value)} {st : List Value} {Q : State → Prop} {cc : ByteArray} {ret : Option FieldType} {rm0 : Room} (hN : NOk E) (hG : Cx E G cc nL ret RX7 rm0) (hI : IsInit G) {a : Nat} {x : Nat} (hT : mT M a = 6) (hM1 : M1 = sR M a 81 (some x)) (d : decode cc pc = .ok (.putfield 148, 3)) (kk : V E G M1 cells slots nL (pc + 3) lv st Q) : V E G M cells slots nL pc lv (rf E x :: rf E a :: st) Q := V_putQF (M := M) hG (a := a) (ci := 6) (C := RX7) (T := TX7) (N := 84) (k := 81) (x := some x) (ty := tyX7 81) hT (by decide) rfl in_X7 (by decide) tyX7 tyX7_ok nmX7 rfl rfl hI (by decide +kernel) (Or.inr ⟨_, rfl⟩) rfl q1642 d (by rw [← hM1]; exact kk)
theorem pf_X7_151 {E : En} {G : Ctx} {M M1 : Mem} {cells slots nL pc : Nat} {lv : List (Nat × Value)} {st : List Value} {Q : State → Prop} {cc : ByteArray} {ret : Option FieldType} {rm0 : Room} (hN : NOk E) (hG : Cx E G cc nL ret RX7 rm0) (hI : IsInit G) {a : Nat} {x : Nat} (hT : mT M a = 6) (hM1 : M1 = sR M a 82 (some x)) (d : decode cc pc = .ok (.putfield 151, 3)) (kk : V E G M1 cells slots nL (pc + 3) lv st Q) : V E G M cells slots nL pc lv (rf E x :: rf E a :: st) Q := V_putQF (M := M) hG (a := a) (ci := 6) (C := RX7) (T := TX7) (N := 84) (k := 82) (x := some x) (ty := tyX7 82) hT (by decide) rfl in_X7 (by decide) tyX7 tyX7_ok nmX7 rfl rfl hI (by decide +kernel) (Or.inr ⟨_, rfl⟩) rfl q1643 d (by rw [← hM1]; exact kk)
theorem hdc_X7_plain : yX7_plain.cls ≠ "java/lang/invoke/MethodHandle" ∧ yX7_plain.cls ≠ "java/lang/invoke/VarHandle" ∧ (parseMethodDescriptor yX7_plain.desc).map (fun d => d.parameters.length) = some 0 := by decide +kernel
theorem hdv_X7_plain : yX7_plain.cls = RX7 ∧ yX7_plain.cls ≠ "java/lang/invoke/MethodHandle" ∧ yX7_plain.cls ≠ "java/lang/invoke/VarHandle" ∧ (parseMethodDescriptor yX7_plain.desc).map (fun d => d.parameters.length) = some 0 := by decide +kernel
theorem hw_X7_154 : GoodIn lw_all (wsV RX7 154 RX7 yX7_plain (ws_ yX7_plain cX7_plain 2 none)) := lw_V q1538 q1540 qs56 q134 q1541
theorem hdc_X7_keepText : yX7_keepText.cls ≠ "java/lang/invoke/MethodHandle" ∧ yX7_keepText.cls ≠ "java/lang/invoke/VarHandle" ∧ (parseMethodDescriptor yX7_keepText.desc).map (fun d => d.parameters.length) = some 0 := by decide +kernel
theorem hdv_X7_keepText : yX7_keepText.cls = RX7 ∧ yX7_keepText.cls ≠ "java/lang/invoke/MethodHandle" ∧ yX7_keepText.cls ≠ "java/lang/invoke/VarHandle" ∧ (parseMethodDescriptor yX7_keepText.desc).map (fun d => d.parameters.length) = some 0 := by decide +kernel
theorem hw_X7_157 : GoodIn lw_all (wsV RX7 157 RX7 yX7_keepText (ws_ yX7_keepText cX7_keepText 2 none)) := lw_V q1542 q1544 qs57 q134 q1545
def f_X7_init_c7 (N LC LZ p0 : Nat) (M_518 : Mem) : Option (Mem) :=
gd (mN M_518 + 1 ≤ LC ∧ mZ M_518 + 18 ≤ LZ) (
be (nw M_518 100 18) fun (M_521 : Mem) =>
gd (mT M_521 p0 = 6) (
be (sR M_521 p0 81 (some (mN M_518))) fun (M_523 : Mem) =>
gd (mN M_523 + 1 ≤ LC ∧ mZ M_523 + 30 ≤ LZ) (
be (nw M_523 100 30) fun (M_526 : Mem) =>
gd (mT M_526 p0 = 6) (
be (sR M_526 p0 82 (some (mN M_523))) fun (M_528 : Mem) =>
gd (mN M_528 ≤ LC ∧ mZ M_528 ≤ LZ) (
bd (f_X7_plain N p0 M_528) fun (M_532 : Mem) =>
gd (mT M_532 p0 = 6) (
gd (mN M_532 ≤ LC ∧ mZ M_532 ≤ LZ) (
bd (f_X7_keepText N p0 M_532) fun (M_536 : Mem) =>
gd (mN M_536 ≤ LC ∧ mZ M_536 ≤ LZ) (
some M_536))))))))

def f_X7_init_c6 (N LC LZ p0 : Nat) (M_481 : Mem) : Option (Mem) :=
gd (mN M_481 + 1 ≤ LC ∧ mZ M_481 + 2 ≤ LZ) (
be (nw M_481 100 2) fun (M_484 : Mem) =>
gd (mT M_484 p0 = 6) (
be (sR M_484 p0 64 (some (mN M_481))) fun (M_486 : Mem) =>
gd (mN M_486 + 1 ≤ LC ∧ mZ M_486 + 2 ≤ LZ) (
be (nw M_486 100 2) fun (M_489 : Mem) =>
gd (mT M_489 p0 = 6) (
be (sR M_489 p0 65 (some (mN M_486))) fun (M_491 : Mem) =>
gd (mN M_491 + 1 ≤ LC ∧ mZ M_491 + 2 ≤ LZ) (
be (nw M_491 100 2) fun (M_494 : Mem) =>
gd (mT M_494 p0 = 6) (
be (sR M_494 p0 66 (some (mN M_491))) fun (M_496 : Mem) =>
gd (mN M_496 + 1 ≤ LC ∧ mZ M_496 + 12 ≤ LZ) (
be (nw M_496 100 12) fun (M_499 : Mem) =>
gd (mT M_499 p0 = 6) (
be (sR M_499 p0 73 (some (mN M_496))) fun (M_501 : Mem) =>
be (sI M_501 p0 75 (-1)) fun (M_503 : Mem) =>
gd (mN M_503 + 1 ≤ LC ∧ mZ M_503 + 96 ≤ LZ) (
be (nw M_503 100 96) fun (M_506 : Mem) =>
gd (mT M_506 p0 = 6) (
be (sR M_506 p0 76 (some (mN M_503))) fun (M_508 : Mem) =>
gd (mN M_508 + 1 ≤ LC ∧ mZ M_508 + 24 ≤ LZ) (
be (nw M_508 102 24) fun (M_511 : Mem) =>
gd (mT M_511 p0 = 6) (
be (sR M_511 p0 77 (some (mN M_508))) fun (M_513 : Mem) =>
gd (mN M_513 + 1 ≤ LC ∧ mZ M_513 + 360 ≤ LZ) (
be (nw M_513 100 360) fun (M_516 : Mem) =>
gd (mT M_516 p0 = 6) (
be (sR M_516 p0 79 (some (mN M_513))) fun (M_518 : Mem) =>
f_X7_init_c7 N LC LZ p0 M_518))))))))))))))

def f_X7_init_c5 (N LC LZ p0 : Nat) (M_446 : Mem) : Option (Mem) :=
gd (mN M_446 + 1 ≤ LC ∧ mZ M_446 + 12 ≤ LZ) (
be (nw M_446 100 12) fun (M_449 : Mem) =>
gd (mT M_449 p0 = 6) (
be (sR M_449 p0 57 (some (mN M_446))) fun (M_451 : Mem) =>
gd (mN M_451 + 1 ≤ LC ∧ mZ M_451 + 12 ≤ LZ) (
be (nw M_451 102 12) fun (M_454 : Mem) =>
gd (mT M_454 p0 = 6) (
be (sR M_454 p0 58 (some (mN M_451))) fun (M_456 : Mem) =>
gd (mN M_456 + 1 ≤ LC ∧ mZ M_456 + 12 ≤ LZ) (
be (nw M_456 100 12) fun (M_459 : Mem) =>
gd (mT M_459 p0 = 6) (
be (sR M_459 p0 59 (some (mN M_456))) fun (M_461 : Mem) =>
gd (mN M_461 + 1 ≤ LC ∧ mZ M_461 + 12 ≤ LZ) (
be (nw M_461 100 12) fun (M_464 : Mem) =>
gd (mT M_464 p0 = 6) (
be (sR M_464 p0 60 (some (mN M_461))) fun (M_466 : Mem) =>
gd (mN M_466 + 1 ≤ LC ∧ mZ M_466 + 2 ≤ LZ) (
be (nw M_466 100 2) fun (M_469 : Mem) =>
gd (mT M_469 p0 = 6) (
be (sR M_469 p0 61 (some (mN M_466))) fun (M_471 : Mem) =>
gd (mN M_471 + 1 ≤ LC ∧ mZ M_471 + 2 ≤ LZ) (
be (nw M_471 100 2) fun (M_474 : Mem) =>
gd (mT M_474 p0 = 6) (
be (sR M_474 p0 62 (some (mN M_471))) fun (M_476 : Mem) =>
gd (mN M_476 + 1 ≤ LC ∧ mZ M_476 + 2 ≤ LZ) (
be (nw M_476 100 2) fun (M_479 : Mem) =>
gd (mT M_479 p0 = 6) (
be (sR M_479 p0 63 (some (mN M_476))) fun (M_481 : Mem) =>
f_X7_init_c6 N LC LZ p0 M_481))))))))))))))

def f_X7_init_c4 (N LC LZ p0 : Nat) (M_411 : Mem) : Option (Mem) :=
gd (mN M_411 + 1 ≤ LC ∧ mZ M_411 + 96 ≤ LZ) (
be (nw M_411 100 96) fun (M_414 : Mem) =>
gd (mT M_414 p0 = 6) (
be (sR M_414 p0 43 (some (mN M_411))) fun (M_416 : Mem) =>
gd (mN M_416 + 1 ≤ LC ∧ mZ M_416 + 96 ≤ LZ) (
be (nw M_416 100 96) fun (M_419 : Mem) =>
gd (mT M_419 p0 = 6) (
be (sR M_419 p0 44 (some (mN M_416))) fun (M_421 : Mem) =>
gd (mN M_421 + 1 ≤ LC ∧ mZ M_421 + 7 ≤ LZ) (
be (nw M_421 103 7) fun (M_424 : Mem) =>
gd (mT M_424 p0 = 6) (
be (sR M_424 p0 51 (some (mN M_421))) fun (M_426 : Mem) =>
gd (mN M_426 + 1 ≤ LC ∧ mZ M_426 + 64 ≤ LZ) (
be (nw M_426 103 64) fun (M_429 : Mem) =>
gd (mT M_429 p0 = 6) (
be (sR M_429 p0 52 (some (mN M_426))) fun (M_431 : Mem) =>
gd (mN M_431 + 1 ≤ LC ∧ mZ M_431 + 12 ≤ LZ) (
be (nw M_431 100 12) fun (M_434 : Mem) =>
gd (mT M_434 p0 = 6) (
be (sR M_434 p0 54 (some (mN M_431))) fun (M_436 : Mem) =>
gd (mN M_436 + 1 ≤ LC ∧ mZ M_436 + 12 ≤ LZ) (
be (nw M_436 100 12) fun (M_439 : Mem) =>
gd (mT M_439 p0 = 6) (
be (sR M_439 p0 55 (some (mN M_436))) fun (M_441 : Mem) =>
gd (mN M_441 + 1 ≤ LC ∧ mZ M_441 + 12 ≤ LZ) (
be (nw M_441 100 12) fun (M_444 : Mem) =>
gd (mT M_444 p0 = 6) (
be (sR M_444 p0 56 (some (mN M_441))) fun (M_446 : Mem) =>
f_X7_init_c5 N LC LZ p0 M_446))))))))))))))

def f_X7_init_c3 (N LC LZ p0 : Nat) (M_376 : Mem) : Option (Mem) :=
gd (mN M_376 + 1 ≤ LC ∧ mZ M_376 + 24 ≤ LZ) (
be (nw M_376 100 24) fun (M_379 : Mem) =>
gd (mT M_379 p0 = 6) (
be (sR M_379 p0 36 (some (mN M_376))) fun (M_381 : Mem) =>
gd (mN M_381 + 1 ≤ LC ∧ mZ M_381 + 6 ≤ LZ) (
be (nw M_381 102 6) fun (M_384 : Mem) =>
gd (mT M_384 p0 = 6) (
be (sR M_384 p0 37 (some (mN M_381))) fun (M_386 : Mem) =>
gd (mN M_386 + 1 ≤ LC ∧ mZ M_386 + 6 ≤ LZ) (
be (nw M_386 100 6) fun (M_389 : Mem) =>
gd (mT M_389 p0 = 6) (
be (sR M_389 p0 38 (some (mN M_386))) fun (M_391 : Mem) =>
gd (mN M_391 + 1 ≤ LC ∧ mZ M_391 + 6 ≤ LZ) (
be (nw M_391 100 6) fun (M_394 : Mem) =>
gd (mT M_394 p0 = 6) (
be (sR M_394 p0 39 (some (mN M_391))) fun (M_396 : Mem) =>
gd (mN M_396 + 1 ≤ LC ∧ mZ M_396 + 128 ≤ LZ) (
be (nw M_396 100 128) fun (M_399 : Mem) =>
gd (mT M_399 p0 = 6) (
be (sR M_399 p0 40 (some (mN M_396))) fun (M_401 : Mem) =>
gd (mN M_401 + 1 ≤ LC ∧ mZ M_401 + 128 ≤ LZ) (
be (nw M_401 100 128) fun (M_404 : Mem) =>
gd (mT M_404 p0 = 6) (
be (sR M_404 p0 41 (some (mN M_401))) fun (M_406 : Mem) =>
gd (mN M_406 + 1 ≤ LC ∧ mZ M_406 + 128 ≤ LZ) (
be (nw M_406 100 128) fun (M_409 : Mem) =>
gd (mT M_409 p0 = 6) (
be (sR M_409 p0 42 (some (mN M_406))) fun (M_411 : Mem) =>
f_X7_init_c4 N LC LZ p0 M_411))))))))))))))

def f_X7_init_c2 (N LC LZ p0 : Nat) (M_341 : Mem) : Option (Mem) :=
gd (mN M_341 + 1 ≤ LC ∧ mZ M_341 + 12 ≤ LZ) (
be (nw M_341 100 12) fun (M_344 : Mem) =>
gd (mT M_344 p0 = 6) (
be (sR M_344 p0 29 (some (mN M_341))) fun (M_346 : Mem) =>
gd (mN M_346 + 1 ≤ LC ∧ mZ M_346 + 12 ≤ LZ) (
be (nw M_346 100 12) fun (M_349 : Mem) =>
gd (mT M_349 p0 = 6) (
be (sR M_349 p0 30 (some (mN M_346))) fun (M_351 : Mem) =>
gd (mN M_351 + 1 ≤ LC ∧ mZ M_351 + 12 ≤ LZ) (
be (nw M_351 100 12) fun (M_354 : Mem) =>
gd (mT M_354 p0 = 6) (
be (sR M_354 p0 31 (some (mN M_351))) fun (M_356 : Mem) =>
gd (mN M_356 + 1 ≤ LC ∧ mZ M_356 + 12 ≤ LZ) (
be (nw M_356 100 12) fun (M_359 : Mem) =>
gd (mT M_359 p0 = 6) (
be (sR M_359 p0 32 (some (mN M_356))) fun (M_361 : Mem) =>
gd (mN M_361 + 1 ≤ LC ∧ mZ M_361 + 12 ≤ LZ) (
be (nw M_361 100 12) fun (M_364 : Mem) =>
gd (mT M_364 p0 = 6) (
be (sR M_364 p0 33 (some (mN M_361))) fun (M_366 : Mem) =>
gd (mN M_366 + 1 ≤ LC ∧ mZ M_366 + 24 ≤ LZ) (
be (nw M_366 100 24) fun (M_369 : Mem) =>
gd (mT M_369 p0 = 6) (
be (sR M_369 p0 34 (some (mN M_366))) fun (M_371 : Mem) =>
gd (mN M_371 + 1 ≤ LC ∧ mZ M_371 + 24 ≤ LZ) (
be (nw M_371 100 24) fun (M_374 : Mem) =>
gd (mT M_374 p0 = 6) (
be (sR M_374 p0 35 (some (mN M_371))) fun (M_376 : Mem) =>
f_X7_init_c3 N LC LZ p0 M_376))))))))))))))

def f_X7_init_c1 (N LC LZ p0 : Nat) (M_307 : Mem) : Option (Mem) :=
be (sI M_307 p0 5 (-1)) fun (M_310 : Mem) =>
gd (mN M_310 + 1 ≤ LC ∧ mZ M_310 + 2 ≤ LZ) (
be (nw M_310 102 2) fun (M_314 : Mem) =>
gd (mT M_314 p0 = 6) (
be (sR M_314 p0 23 (some (mN M_310))) fun (M_316 : Mem) =>
gd (mN M_316 + 1 ≤ LC ∧ mZ M_316 + 4 ≤ LZ) (
be (nw M_316 100 4) fun (M_319 : Mem) =>
gd (mT M_319 p0 = 6) (
be (sR M_319 p0 24 (some (mN M_316))) fun (M_321 : Mem) =>
gd (mN M_321 + 1 ≤ LC ∧ mZ M_321 + 12 ≤ LZ) (
be (nw M_321 100 12) fun (M_324 : Mem) =>
gd (mT M_324 p0 = 6) (
be (sR M_324 p0 25 (some (mN M_321))) fun (M_326 : Mem) =>
gd (mN M_326 + 1 ≤ LC ∧ mZ M_326 + 12 ≤ LZ) (
be (nw M_326 100 12) fun (M_329 : Mem) =>
gd (mT M_329 p0 = 6) (
be (sR M_329 p0 26 (some (mN M_326))) fun (M_331 : Mem) =>
gd (mN M_331 + 1 ≤ LC ∧ mZ M_331 + 12 ≤ LZ) (
be (nw M_331 100 12) fun (M_334 : Mem) =>
gd (mT M_334 p0 = 6) (
be (sR M_334 p0 27 (some (mN M_331))) fun (M_336 : Mem) =>
gd (mN M_336 + 1 ≤ LC ∧ mZ M_336 + 12 ≤ LZ) (
be (nw M_336 100 12) fun (M_339 : Mem) =>
gd (mT M_339 p0 = 6) (
be (sR M_339 p0 28 (some (mN M_336))) fun (M_341 : Mem) =>
f_X7_init_c2 N LC LZ p0 M_341))))))))))))

def f_X7_init (N : Nat) (LC LZ : Nat) (p0 : Nat) (M : Mem) : Option (Mem) :=
gd (mN M + 1 ≤ LC ∧ mZ M + 700 ≤ LZ) (
be (nw M 100 700) fun (M_2 : Mem) =>
gd (mT M_2 p0 = 6) (
be (sR M_2 p0 0 (some (mN M))) fun (M_4 : Mem) =>
gd (mN M_4 + 1 ≤ LC ∧ mZ M_4 + 99 ≤ LZ) (
be (nw M_4 100 99) fun (M_7 : Mem) =>
gd (mT M_7 (mN M_4) = 100) (
gd (inb 0 (mLn M_7 (mN M_4))) (
be (sI M_7 (mN M_4) (Int32.toNatClampNeg 0) 114) fun (M_10 : Mem) =>
gd (inb 1 (mLn M_10 (mN M_4))) (
be (sI M_10 (mN M_4) (Int32.toNatClampNeg 1) 111) fun (M_13 : Mem) =>
gd (inb 2 (mLn M_13 (mN M_4))) (
be (sI M_13 (mN M_4) (Int32.toNatClampNeg 2) 97) fun (M_16 : Mem) =>
gd (inb 3 (mLn M_16 (mN M_4))) (
be (sI M_16 (mN M_4) (Int32.toNatClampNeg 3) 100) fun (M_19 : Mem) =>
gd (inb 4 (mLn M_19 (mN M_4))) (
be (sI M_19 (mN M_4) (Int32.toNatClampNeg 4) 32) fun (M_22 : Mem) =>
gd (inb 5 (mLn M_22 (mN M_4))) (
be (sI M_22 (mN M_4) (Int32.toNatClampNeg 5) 116) fun (M_25 : Mem) =>
gd (inb 6 (mLn M_25 (mN M_4))) (
be (sI M_25 (mN M_4) (Int32.toNatClampNeg 6) 114) fun (M_28 : Mem) =>
gd (inb 7 (mLn M_28 (mN M_4))) (
be (sI M_28 (mN M_4) (Int32.toNatClampNeg 7) 111) fun (M_31 : Mem) =>
gd (inb 8 (mLn M_31 (mN M_4))) (
be (sI M_31 (mN M_4) (Int32.toNatClampNeg 8) 117) fun (M_34 : Mem) =>
gd (inb 9 (mLn M_34 (mN M_4))) (
be (sI M_34 (mN M_4) (Int32.toNatClampNeg 9) 103) fun (M_37 : Mem) =>
gd (inb 10 (mLn M_37 (mN M_4))) (
be (sI M_37 (mN M_4) (Int32.toNatClampNeg 10) 104) fun (M_40 : Mem) =>
gd (inb 11 (mLn M_40 (mN M_4))) (
be (sI M_40 (mN M_4) (Int32.toNatClampNeg 11) 32) fun (M_43 : Mem) =>
gd (inb 12 (mLn M_43 (mN M_4))) (
be (sI M_43 (mN M_4) (Int32.toNatClampNeg 12) 104) fun (M_46 : Mem) =>
gd (inb 13 (mLn M_46 (mN M_4))) (
be (sI M_46 (mN M_4) (Int32.toNatClampNeg 13) 111) fun (M_49 : Mem) =>
gd (inb 14 (mLn M_49 (mN M_4))) (
be (sI M_49 (mN M_4) (Int32.toNatClampNeg 14) 114) fun (M_52 : Mem) =>
gd (inb 15 (mLn M_52 (mN M_4))) (
be (sI M_52 (mN M_4) (Int32.toNatClampNeg 15) 115) fun (M_55 : Mem) =>
gd (inb 16 (mLn M_55 (mN M_4))) (
be (sI M_55 (mN M_4) (Int32.toNatClampNeg 16) 101) fun (M_58 : Mem) =>
gd (inb 17 (mLn M_58 (mN M_4))) (
be (sI M_58 (mN M_4) (Int32.toNatClampNeg 17) 32) fun (M_61 : Mem) =>
gd (inb 18 (mLn M_61 (mN M_4))) (
be (sI M_61 (mN M_4) (Int32.toNatClampNeg 18) 108) fun (M_64 : Mem) =>
gd (inb 19 (mLn M_64 (mN M_4))) (
be (sI M_64 (mN M_4) (Int32.toNatClampNeg 19) 97) fun (M_67 : Mem) =>
gd (inb 20 (mLn M_67 (mN M_4))) (
be (sI M_67 (mN M_4) (Int32.toNatClampNeg 20) 112) fun (M_70 : Mem) =>
gd (inb 21 (mLn M_70 (mN M_4))) (
be (sI M_70 (mN M_4) (Int32.toNatClampNeg 21) 32) fun (M_73 : Mem) =>
gd (inb 22 (mLn M_73 (mN M_4))) (
be (sI M_73 (mN M_4) (Int32.toNatClampNeg 22) 114) fun (M_76 : Mem) =>
gd (inb 23 (mLn M_76 (mN M_4))) (
be (sI M_76 (mN M_4) (Int32.toNatClampNeg 23) 97) fun (M_79 : Mem) =>
gd (inb 24 (mLn M_79 (mN M_4))) (
be (sI M_79 (mN M_4) (Int32.toNatClampNeg 24) 105) fun (M_82 : Mem) =>
gd (inb 25 (mLn M_82 (mN M_4))) (
be (sI M_82 (mN M_4) (Int32.toNatClampNeg 25) 110) fun (M_85 : Mem) =>
gd (inb 26 (mLn M_85 (mN M_4))) (
be (sI M_85 (mN M_4) (Int32.toNatClampNeg 26) 32) fun (M_88 : Mem) =>
gd (inb 27 (mLn M_88 (mN M_4))) (
be (sI M_88 (mN M_4) (Int32.toNatClampNeg 27) 115) fun (M_91 : Mem) =>
gd (inb 28 (mLn M_91 (mN M_4))) (
be (sI M_91 (mN M_4) (Int32.toNatClampNeg 28) 101) fun (M_94 : Mem) =>
gd (inb 29 (mLn M_94 (mN M_4))) (
be (sI M_94 (mN M_4) (Int32.toNatClampNeg 29) 101) fun (M_97 : Mem) =>
gd (inb 30 (mLn M_97 (mN M_4))) (
be (sI M_97 (mN M_4) (Int32.toNatClampNeg 30) 100) fun (M_100 : Mem) =>
gd (inb 31 (mLn M_100 (mN M_4))) (
be (sI M_100 (mN M_4) (Int32.toNatClampNeg 31) 32) fun (M_103 : Mem) =>
gd (inb 32 (mLn M_103 (mN M_4))) (
be (sI M_103 (mN M_4) (Int32.toNatClampNeg 32) 108) fun (M_106 : Mem) =>
gd (inb 33 (mLn M_106 (mN M_4))) (
be (sI M_106 (mN M_4) (Int32.toNatClampNeg 33) 97) fun (M_109 : Mem) =>
gd (inb 34 (mLn M_109 (mN M_4))) (
be (sI M_109 (mN M_4) (Int32.toNatClampNeg 34) 119) fun (M_112 : Mem) =>
gd (inb 35 (mLn M_112 (mN M_4))) (
be (sI M_112 (mN M_4) (Int32.toNatClampNeg 35) 32) fun (M_115 : Mem) =>
gd (inb 36 (mLn M_115 (mN M_4))) (
be (sI M_115 (mN M_4) (Int32.toNatClampNeg 36) 100) fun (M_118 : Mem) =>
gd (inb 37 (mLn M_118 (mN M_4))) (
be (sI M_118 (mN M_4) (Int32.toNatClampNeg 37) 114) fun (M_121 : Mem) =>
gd (inb 38 (mLn M_121 (mN M_4))) (
be (sI M_121 (mN M_4) (Int32.toNatClampNeg 38) 121) fun (M_124 : Mem) =>
gd (inb 39 (mLn M_124 (mN M_4))) (
be (sI M_124 (mN M_4) (Int32.toNatClampNeg 39) 32) fun (M_127 : Mem) =>
gd (inb 40 (mLn M_127 (mN M_4))) (
be (sI M_127 (mN M_4) (Int32.toNatClampNeg 40) 103) fun (M_130 : Mem) =>
gd (inb 41 (mLn M_130 (mN M_4))) (
be (sI M_130 (mN M_4) (Int32.toNatClampNeg 41) 117) fun (M_133 : Mem) =>
gd (inb 42 (mLn M_133 (mN M_4))) (
be (sI M_133 (mN M_4) (Int32.toNatClampNeg 42) 108) fun (M_136 : Mem) =>
gd (inb 43 (mLn M_136 (mN M_4))) (
be (sI M_136 (mN M_4) (Int32.toNatClampNeg 43) 112) fun (M_139 : Mem) =>
gd (inb 44 (mLn M_139 (mN M_4))) (
be (sI M_139 (mN M_4) (Int32.toNatClampNeg 44) 32) fun (M_142 : Mem) =>
gd (inb 45 (mLn M_142 (mN M_4))) (
be (sI M_142 (mN M_4) (Int32.toNatClampNeg 45) 102) fun (M_145 : Mem) =>
gd (inb 46 (mLn M_145 (mN M_4))) (
be (sI M_145 (mN M_4) (Int32.toNatClampNeg 46) 105) fun (M_148 : Mem) =>
gd (inb 47 (mLn M_148 (mN M_4))) (
be (sI M_148 (mN M_4) (Int32.toNatClampNeg 47) 103) fun (M_151 : Mem) =>
gd (inb 48 (mLn M_151 (mN M_4))) (
be (sI M_151 (mN M_4) (Int32.toNatClampNeg 48) 104) fun (M_154 : Mem) =>
gd (inb 49 (mLn M_154 (mN M_4))) (
be (sI M_154 (mN M_4) (Int32.toNatClampNeg 49) 116) fun (M_157 : Mem) =>
gd (inb 50 (mLn M_157 (mN M_4))) (
be (sI M_157 (mN M_4) (Int32.toNatClampNeg 50) 32) fun (M_160 : Mem) =>
gd (inb 51 (mLn M_160 (mN M_4))) (
be (sI M_160 (mN M_4) (Int32.toNatClampNeg 51) 97) fun (M_163 : Mem) =>
gd (inb 52 (mLn M_163 (mN M_4))) (
be (sI M_163 (mN M_4) (Int32.toNatClampNeg 52) 110) fun (M_166 : Mem) =>
gd (inb 53 (mLn M_166 (mN M_4))) (
be (sI M_166 (mN M_4) (Int32.toNatClampNeg 53) 100) fun (M_169 : Mem) =>
gd (inb 54 (mLn M_169 (mN M_4))) (
be (sI M_169 (mN M_4) (Int32.toNatClampNeg 54) 32) fun (M_172 : Mem) =>
gd (inb 55 (mLn M_172 (mN M_4))) (
be (sI M_172 (mN M_4) (Int32.toNatClampNeg 55) 111) fun (M_175 : Mem) =>
gd (inb 56 (mLn M_175 (mN M_4))) (
be (sI M_175 (mN M_4) (Int32.toNatClampNeg 56) 114) fun (M_178 : Mem) =>
gd (inb 57 (mLn M_178 (mN M_4))) (
be (sI M_178 (mN M_4) (Int32.toNatClampNeg 57) 32) fun (M_181 : Mem) =>
gd (inb 58 (mLn M_181 (mN M_4))) (
be (sI M_181 (mN M_4) (Int32.toNatClampNeg 58) 110) fun (M_184 : Mem) =>
gd (inb 59 (mLn M_184 (mN M_4))) (
be (sI M_184 (mN M_4) (Int32.toNatClampNeg 59) 111) fun (M_187 : Mem) =>
gd (inb 60 (mLn M_187 (mN M_4))) (
be (sI M_187 (mN M_4) (Int32.toNatClampNeg 60) 116) fun (M_190 : Mem) =>
gd (inb 61 (mLn M_190 (mN M_4))) (
be (sI M_190 (mN M_4) (Int32.toNatClampNeg 61) 32) fun (M_193 : Mem) =>
gd (inb 62 (mLn M_193 (mN M_4))) (
be (sI M_193 (mN M_4) (Int32.toNatClampNeg 62) 116) fun (M_196 : Mem) =>
gd (inb 63 (mLn M_196 (mN M_4))) (
be (sI M_196 (mN M_4) (Int32.toNatClampNeg 63) 104) fun (M_199 : Mem) =>
gd (inb 64 (mLn M_199 (mN M_4))) (
be (sI M_199 (mN M_4) (Int32.toNatClampNeg 64) 105) fun (M_202 : Mem) =>
gd (inb 65 (mLn M_202 (mN M_4))) (
be (sI M_202 (mN M_4) (Int32.toNatClampNeg 65) 114) fun (M_205 : Mem) =>
gd (inb 66 (mLn M_205 (mN M_4))) (
be (sI M_205 (mN M_4) (Int32.toNatClampNeg 66) 115) fun (M_208 : Mem) =>
gd (inb 67 (mLn M_208 (mN M_4))) (
be (sI M_208 (mN M_4) (Int32.toNatClampNeg 67) 116) fun (M_211 : Mem) =>
gd (inb 68 (mLn M_211 (mN M_4))) (
be (sI M_211 (mN M_4) (Int32.toNatClampNeg 68) 32) fun (M_214 : Mem) =>
gd (inb 69 (mLn M_214 (mN M_4))) (
be (sI M_214 (mN M_4) (Int32.toNatClampNeg 69) 112) fun (M_217 : Mem) =>
gd (inb 70 (mLn M_217 (mN M_4))) (
be (sI M_217 (mN M_4) (Int32.toNatClampNeg 70) 97) fun (M_220 : Mem) =>
gd (inb 71 (mLn M_220 (mN M_4))) (
be (sI M_220 (mN M_4) (Int32.toNatClampNeg 71) 99) fun (M_223 : Mem) =>
gd (inb 72 (mLn M_223 (mN M_4))) (
be (sI M_223 (mN M_4) (Int32.toNatClampNeg 72) 101) fun (M_226 : Mem) =>
gd (inb 73 (mLn M_226 (mN M_4))) (
be (sI M_226 (mN M_4) (Int32.toNatClampNeg 73) 32) fun (M_229 : Mem) =>
gd (inb 74 (mLn M_229 (mN M_4))) (
be (sI M_229 (mN M_4) (Int32.toNatClampNeg 74) 115) fun (M_232 : Mem) =>
gd (inb 75 (mLn M_232 (mN M_4))) (
be (sI M_232 (mN M_4) (Int32.toNatClampNeg 75) 105) fun (M_235 : Mem) =>
gd (inb 76 (mLn M_235 (mN M_4))) (
be (sI M_235 (mN M_4) (Int32.toNatClampNeg 76) 100) fun (M_238 : Mem) =>
gd (inb 77 (mLn M_238 (mN M_4))) (
be (sI M_238 (mN M_4) (Int32.toNatClampNeg 77) 101) fun (M_241 : Mem) =>
gd (inb 78 (mLn M_241 (mN M_4))) (
be (sI M_241 (mN M_4) (Int32.toNatClampNeg 78) 32) fun (M_244 : Mem) =>
gd (inb 79 (mLn M_244 (mN M_4))) (
be (sI M_244 (mN M_4) (Int32.toNatClampNeg 79) 119) fun (M_247 : Mem) =>
gd (inb 80 (mLn M_247 (mN M_4))) (
be (sI M_247 (mN M_4) (Int32.toNatClampNeg 80) 97) fun (M_250 : Mem) =>
gd (inb 81 (mLn M_250 (mN M_4))) (
be (sI M_250 (mN M_4) (Int32.toNatClampNeg 81) 116) fun (M_253 : Mem) =>
gd (inb 82 (mLn M_253 (mN M_4))) (
be (sI M_253 (mN M_4) (Int32.toNatClampNeg 82) 101) fun (M_256 : Mem) =>
gd (inb 83 (mLn M_256 (mN M_4))) (
be (sI M_256 (mN M_4) (Int32.toNatClampNeg 83) 114) fun (M_259 : Mem) =>
gd (inb 84 (mLn M_259 (mN M_4))) (
be (sI M_259 (mN M_4) (Int32.toNatClampNeg 84) 32) fun (M_262 : Mem) =>
gd (inb 85 (mLn M_262 (mN M_4))) (
be (sI M_262 (mN M_4) (Int32.toNatClampNeg 85) 102) fun (M_265 : Mem) =>
gd (inb 86 (mLn M_265 (mN M_4))) (
be (sI M_265 (mN M_4) (Int32.toNatClampNeg 86) 97) fun (M_268 : Mem) =>
gd (inb 87 (mLn M_268 (mN M_4))) (
be (sI M_268 (mN M_4) (Int32.toNatClampNeg 87) 114) fun (M_271 : Mem) =>
gd (inb 88 (mLn M_271 (mN M_4))) (
be (sI M_271 (mN M_4) (Int32.toNatClampNeg 88) 32) fun (M_274 : Mem) =>
gd (inb 89 (mLn M_274 (mN M_4))) (
be (sI M_274 (mN M_4) (Int32.toNatClampNeg 89) 104) fun (M_277 : Mem) =>
gd (inb 90 (mLn M_277 (mN M_4))) (
be (sI M_277 (mN M_4) (Int32.toNatClampNeg 90) 117) fun (M_280 : Mem) =>
gd (inb 91 (mLn M_280 (mN M_4))) (
be (sI M_280 (mN M_4) (Int32.toNatClampNeg 91) 114) fun (M_283 : Mem) =>
gd (inb 92 (mLn M_283 (mN M_4))) (
be (sI M_283 (mN M_4) (Int32.toNatClampNeg 92) 116) fun (M_286 : Mem) =>
gd (inb 93 (mLn M_286 (mN M_4))) (
be (sI M_286 (mN M_4) (Int32.toNatClampNeg 93) 32) fun (M_289 : Mem) =>
gd (inb 94 (mLn M_289 (mN M_4))) (
be (sI M_289 (mN M_4) (Int32.toNatClampNeg 94) 104) fun (M_292 : Mem) =>
gd (inb 95 (mLn M_292 (mN M_4))) (
be (sI M_292 (mN M_4) (Int32.toNatClampNeg 95) 111) fun (M_295 : Mem) =>
gd (inb 96 (mLn M_295 (mN M_4))) (
be (sI M_295 (mN M_4) (Int32.toNatClampNeg 96) 117) fun (M_298 : Mem) =>
gd (inb 97 (mLn M_298 (mN M_4))) (
be (sI M_298 (mN M_4) (Int32.toNatClampNeg 97) 114) fun (M_301 : Mem) =>
gd (inb 98 (mLn M_301 (mN M_4))) (
be (sI M_301 (mN M_4) (Int32.toNatClampNeg 98) 32) fun (M_304 : Mem) =>
gd (mT M_304 p0 = 6) (
be (sR M_304 p0 3 (some (mN M_4))) fun (M_307 : Mem) =>
f_X7_init_c1 N LC LZ p0 M_307))))))))))))))))))))))))))))))))))))))))))))))))))))))))))))))))))))))))))))))))))))))))))))))))))))))))
def rm_f_X7_init (LC LZ : Nat) (M : Mem) : Room := { frames := 3, cells := LC - mN M, slots := LZ - mZ M, locals := 63 }
theorem ok_f_X7_init {E : En} (hE : EOk E) (hN : NOk E) {N : Nat} {LC LZ : Nat} {p0 : Nat} {M : Mem}  {M' : Mem} (h : f_X7_init N LC LZ p0 M = some M') : CM E yX7_init cX7_init 1 none (rm_f_X7_init LC LZ M) [rf E p0] M none M' := by
  unfold f_X7_init at h
  refine CM_introX (own := RX7) rfl (by decide +kernel) (Nat.le_of_ble_eq_true rfl) rfl (fun G hG hEn hI => ?_)
  obtain ⟨Q, eQ⟩ : ∃ Q, Q = QM E G none M' (LC - mN M) (LZ - mZ M) := ⟨_, rfl⟩
  show V E G M 0 0 1 0 [(0, rf E p0)] [] (QM E G none M' (LC - mN M) (LZ - mZ M))
  rw [← eQ]
  refine V_aload_n hG 0 rfl dX7_init_0 ?_
  refine V_objInit hG q1537 q_oi q_oc (Nat.le_of_ble_eq_true rfl) (Nat.le_of_ble_eq_true rfl) dX7_init_1 ?_
  refine V_aload_n hG 0 rfl dX7_init_4 ?_
  refine V_sipush hG 700 (by decide) dX7_init_5 ?_
  obtain ⟨g_1, h⟩ := gd_of h
  obtain ⟨M_2, eM_2, h⟩ := be_of h
  refine A_newa0 hG hEn rfl rfl (by decide) eM_2 g_1 dX7_init_8 ?_
  obtain ⟨g_3, h⟩ := gd_of h
  obtain ⟨M_4, eM_4, h⟩ := be_of h
  refine pf_X7_7 hN hG (hI rfl) g_3 eM_4 dX7_init_10 ?_
  have g_5 : mT M_4 p0 = 6 := by rw [eM_4]; exact g_3
  refine V_aload_n hG 0 rfl dX7_init_13 ?_
  refine V_bipush hG 99 (by decide) dX7_init_14 ?_
  obtain ⟨g_6, h⟩ := gd_of h
  obtain ⟨M_7, eM_7, h⟩ := be_of h
  refine A_newa0 hG hEn rfl rfl (by decide) eM_7 g_6 dX7_init_16 ?_
  refine V_dup hG rfl dX7_init_18 ?_
  refine V_iconst hG 0 rfl dX7_init_19 ?_
  refine V_bipush hG 114 (by decide) dX7_init_20 ?_
  obtain ⟨g_8, h⟩ := gd_of h
  obtain ⟨g_9, h⟩ := gd_of h
  obtain ⟨M_10, eM_10, h⟩ := be_of h
  refine W_iastore hG g_8 g_9 M_10 eM_10 dX7_init_22 ?_
  have g_11 : mT M_10 (mN M_4) = 100 := by rw [eM_10]; exact g_8
  refine V_dup hG rfl dX7_init_23 ?_
  refine V_iconst hG 1 rfl dX7_init_24 ?_
  refine V_bipush hG 111 (by decide) dX7_init_25 ?_
  obtain ⟨g_12, h⟩ := gd_of h
  obtain ⟨M_13, eM_13, h⟩ := be_of h
  refine W_iastore hG g_11 g_12 M_13 eM_13 dX7_init_27 ?_
  have g_14 : mT M_13 (mN M_4) = 100 := by rw [eM_13]; exact g_11
  refine V_dup hG rfl dX7_init_28 ?_
  refine V_iconst hG 2 rfl dX7_init_29 ?_
  refine V_bipush hG 97 (by decide) dX7_init_30 ?_
  obtain ⟨g_15, h⟩ := gd_of h
  obtain ⟨M_16, eM_16, h⟩ := be_of h
  refine W_iastore hG g_14 g_15 M_16 eM_16 dX7_init_32 ?_
  have g_17 : mT M_16 (mN M_4) = 100 := by rw [eM_16]; exact g_14
  refine V_dup hG rfl dX7_init_33 ?_
  refine V_iconst hG 3 rfl dX7_init_34 ?_
  refine V_bipush hG 100 (by decide) dX7_init_35 ?_
  obtain ⟨g_18, h⟩ := gd_of h
  obtain ⟨M_19, eM_19, h⟩ := be_of h
  refine W_iastore hG g_17 g_18 M_19 eM_19 dX7_init_37 ?_
  have g_20 : mT M_19 (mN M_4) = 100 := by rw [eM_19]; exact g_17
  refine V_dup hG rfl dX7_init_38 ?_
  refine V_iconst hG 4 rfl dX7_init_39 ?_
  refine V_bipush hG 32 (by decide) dX7_init_40 ?_
  obtain ⟨g_21, h⟩ := gd_of h
  obtain ⟨M_22, eM_22, h⟩ := be_of h
  refine W_iastore hG g_20 g_21 M_22 eM_22 dX7_init_42 ?_
  have g_23 : mT M_22 (mN M_4) = 100 := by rw [eM_22]; exact g_20
  refine V_dup hG rfl dX7_init_43 ?_
  refine V_iconst hG 5 rfl dX7_init_44 ?_
  refine V_bipush hG 116 (by decide) dX7_init_45 ?_
  obtain ⟨g_24, h⟩ := gd_of h
  obtain ⟨M_25, eM_25, h⟩ := be_of h
  refine W_iastore hG g_23 g_24 M_25 eM_25 dX7_init_47 ?_
  have g_26 : mT M_25 (mN M_4) = 100 := by rw [eM_25]; exact g_23
  refine V_dup hG rfl dX7_init_48 ?_
  refine V_bipush hG 6 (by decide) dX7_init_49 ?_
  refine V_bipush hG 114 (by decide) dX7_init_51 ?_
  obtain ⟨g_27, h⟩ := gd_of h
  obtain ⟨M_28, eM_28, h⟩ := be_of h
  refine W_iastore hG g_26 g_27 M_28 eM_28 dX7_init_53 ?_
  have g_29 : mT M_28 (mN M_4) = 100 := by rw [eM_28]; exact g_26
  refine V_dup hG rfl dX7_init_54 ?_
  refine V_bipush hG 7 (by decide) dX7_init_55 ?_
  refine V_bipush hG 111 (by decide) dX7_init_57 ?_
  obtain ⟨g_30, h⟩ := gd_of h
  obtain ⟨M_31, eM_31, h⟩ := be_of h
  refine W_iastore hG g_29 g_30 M_31 eM_31 dX7_init_59 ?_
  have g_32 : mT M_31 (mN M_4) = 100 := by rw [eM_31]; exact g_29
  refine V_dup hG rfl dX7_init_60 ?_
  refine V_bipush hG 8 (by decide) dX7_init_61 ?_
  refine V_bipush hG 117 (by decide) dX7_init_63 ?_
  obtain ⟨g_33, h⟩ := gd_of h
  obtain ⟨M_34, eM_34, h⟩ := be_of h
  refine W_iastore hG g_32 g_33 M_34 eM_34 dX7_init_65 ?_
  have g_35 : mT M_34 (mN M_4) = 100 := by rw [eM_34]; exact g_32
  refine V_dup hG rfl dX7_init_66 ?_
  refine V_bipush hG 9 (by decide) dX7_init_67 ?_
  refine V_bipush hG 103 (by decide) dX7_init_69 ?_
  obtain ⟨g_36, h⟩ := gd_of h
  obtain ⟨M_37, eM_37, h⟩ := be_of h
  refine W_iastore hG g_35 g_36 M_37 eM_37 dX7_init_71 ?_
  have g_38 : mT M_37 (mN M_4) = 100 := by rw [eM_37]; exact g_35
  refine V_dup hG rfl dX7_init_72 ?_
  refine V_bipush hG 10 (by decide) dX7_init_73 ?_
  refine V_bipush hG 104 (by decide) dX7_init_75 ?_
  obtain ⟨g_39, h⟩ := gd_of h
  obtain ⟨M_40, eM_40, h⟩ := be_of h
  refine W_iastore hG g_38 g_39 M_40 eM_40 dX7_init_77 ?_
  have g_41 : mT M_40 (mN M_4) = 100 := by rw [eM_40]; exact g_38
  refine V_dup hG rfl dX7_init_78 ?_
  refine V_bipush hG 11 (by decide) dX7_init_79 ?_
  refine V_bipush hG 32 (by decide) dX7_init_81 ?_
  obtain ⟨g_42, h⟩ := gd_of h
  obtain ⟨M_43, eM_43, h⟩ := be_of h
  refine W_iastore hG g_41 g_42 M_43 eM_43 dX7_init_83 ?_
  have g_44 : mT M_43 (mN M_4) = 100 := by rw [eM_43]; exact g_41
  refine V_dup hG rfl dX7_init_84 ?_
  refine V_bipush hG 12 (by decide) dX7_init_85 ?_
  refine V_bipush hG 104 (by decide) dX7_init_87 ?_
  obtain ⟨g_45, h⟩ := gd_of h
  obtain ⟨M_46, eM_46, h⟩ := be_of h
  refine W_iastore hG g_44 g_45 M_46 eM_46 dX7_init_89 ?_
  have g_47 : mT M_46 (mN M_4) = 100 := by rw [eM_46]; exact g_44
  refine V_dup hG rfl dX7_init_90 ?_
  refine V_bipush hG 13 (by decide) dX7_init_91 ?_
  refine V_bipush hG 111 (by decide) dX7_init_93 ?_
  obtain ⟨g_48, h⟩ := gd_of h
  obtain ⟨M_49, eM_49, h⟩ := be_of h
  refine W_iastore hG g_47 g_48 M_49 eM_49 dX7_init_95 ?_
  have g_50 : mT M_49 (mN M_4) = 100 := by rw [eM_49]; exact g_47
  refine V_dup hG rfl dX7_init_96 ?_
  refine V_bipush hG 14 (by decide) dX7_init_97 ?_
  refine V_bipush hG 114 (by decide) dX7_init_99 ?_
  obtain ⟨g_51, h⟩ := gd_of h
  obtain ⟨M_52, eM_52, h⟩ := be_of h
  refine W_iastore hG g_50 g_51 M_52 eM_52 dX7_init_101 ?_
  have g_53 : mT M_52 (mN M_4) = 100 := by rw [eM_52]; exact g_50
  refine V_dup hG rfl dX7_init_102 ?_
  refine V_bipush hG 15 (by decide) dX7_init_103 ?_
  refine V_bipush hG 115 (by decide) dX7_init_105 ?_
  obtain ⟨g_54, h⟩ := gd_of h
  obtain ⟨M_55, eM_55, h⟩ := be_of h
  refine W_iastore hG g_53 g_54 M_55 eM_55 dX7_init_107 ?_
  have g_56 : mT M_55 (mN M_4) = 100 := by rw [eM_55]; exact g_53
  refine V_dup hG rfl dX7_init_108 ?_
  refine V_bipush hG 16 (by decide) dX7_init_109 ?_
  refine V_bipush hG 101 (by decide) dX7_init_111 ?_
  obtain ⟨g_57, h⟩ := gd_of h
  obtain ⟨M_58, eM_58, h⟩ := be_of h
  refine W_iastore hG g_56 g_57 M_58 eM_58 dX7_init_113 ?_
  have g_59 : mT M_58 (mN M_4) = 100 := by rw [eM_58]; exact g_56
  refine V_dup hG rfl dX7_init_114 ?_
  refine V_bipush hG 17 (by decide) dX7_init_115 ?_
  refine V_bipush hG 32 (by decide) dX7_init_117 ?_
  obtain ⟨g_60, h⟩ := gd_of h
  obtain ⟨M_61, eM_61, h⟩ := be_of h
  refine W_iastore hG g_59 g_60 M_61 eM_61 dX7_init_119 ?_
  have g_62 : mT M_61 (mN M_4) = 100 := by rw [eM_61]; exact g_59
  refine V_dup hG rfl dX7_init_120 ?_
  refine V_bipush hG 18 (by decide) dX7_init_121 ?_
  refine V_bipush hG 108 (by decide) dX7_init_123 ?_
  obtain ⟨g_63, h⟩ := gd_of h
  obtain ⟨M_64, eM_64, h⟩ := be_of h
  refine W_iastore hG g_62 g_63 M_64 eM_64 dX7_init_125 ?_
  have g_65 : mT M_64 (mN M_4) = 100 := by rw [eM_64]; exact g_62
  refine V_dup hG rfl dX7_init_126 ?_
  refine V_bipush hG 19 (by decide) dX7_init_127 ?_
  refine V_bipush hG 97 (by decide) dX7_init_129 ?_
  obtain ⟨g_66, h⟩ := gd_of h
  obtain ⟨M_67, eM_67, h⟩ := be_of h
  refine W_iastore hG g_65 g_66 M_67 eM_67 dX7_init_131 ?_
  have g_68 : mT M_67 (mN M_4) = 100 := by rw [eM_67]; exact g_65
  refine V_dup hG rfl dX7_init_132 ?_
  refine V_bipush hG 20 (by decide) dX7_init_133 ?_
  refine V_bipush hG 112 (by decide) dX7_init_135 ?_
  obtain ⟨g_69, h⟩ := gd_of h
  obtain ⟨M_70, eM_70, h⟩ := be_of h
  refine W_iastore hG g_68 g_69 M_70 eM_70 dX7_init_137 ?_
  have g_71 : mT M_70 (mN M_4) = 100 := by rw [eM_70]; exact g_68
  refine V_dup hG rfl dX7_init_138 ?_
  refine V_bipush hG 21 (by decide) dX7_init_139 ?_
  refine V_bipush hG 32 (by decide) dX7_init_141 ?_
  obtain ⟨g_72, h⟩ := gd_of h
  obtain ⟨M_73, eM_73, h⟩ := be_of h
  refine W_iastore hG g_71 g_72 M_73 eM_73 dX7_init_143 ?_
  have g_74 : mT M_73 (mN M_4) = 100 := by rw [eM_73]; exact g_71
  refine V_dup hG rfl dX7_init_144 ?_
  refine V_bipush hG 22 (by decide) dX7_init_145 ?_
  refine V_bipush hG 114 (by decide) dX7_init_147 ?_
  obtain ⟨g_75, h⟩ := gd_of h
  obtain ⟨M_76, eM_76, h⟩ := be_of h
  refine W_iastore hG g_74 g_75 M_76 eM_76 dX7_init_149 ?_
  have g_77 : mT M_76 (mN M_4) = 100 := by rw [eM_76]; exact g_74
  refine V_dup hG rfl dX7_init_150 ?_
  refine V_bipush hG 23 (by decide) dX7_init_151 ?_
  refine V_bipush hG 97 (by decide) dX7_init_153 ?_
  obtain ⟨g_78, h⟩ := gd_of h
  obtain ⟨M_79, eM_79, h⟩ := be_of h
  refine W_iastore hG g_77 g_78 M_79 eM_79 dX7_init_155 ?_
  have g_80 : mT M_79 (mN M_4) = 100 := by rw [eM_79]; exact g_77
  refine V_dup hG rfl dX7_init_156 ?_
  refine V_bipush hG 24 (by decide) dX7_init_157 ?_
  refine V_bipush hG 105 (by decide) dX7_init_159 ?_
  obtain ⟨g_81, h⟩ := gd_of h
  obtain ⟨M_82, eM_82, h⟩ := be_of h
  refine W_iastore hG g_80 g_81 M_82 eM_82 dX7_init_161 ?_
  have g_83 : mT M_82 (mN M_4) = 100 := by rw [eM_82]; exact g_80
  refine V_dup hG rfl dX7_init_162 ?_
  refine V_bipush hG 25 (by decide) dX7_init_163 ?_
  refine V_bipush hG 110 (by decide) dX7_init_165 ?_
  obtain ⟨g_84, h⟩ := gd_of h
  obtain ⟨M_85, eM_85, h⟩ := be_of h
  refine W_iastore hG g_83 g_84 M_85 eM_85 dX7_init_167 ?_
  have g_86 : mT M_85 (mN M_4) = 100 := by rw [eM_85]; exact g_83
  refine V_dup hG rfl dX7_init_168 ?_
  refine V_bipush hG 26 (by decide) dX7_init_169 ?_
  refine V_bipush hG 32 (by decide) dX7_init_171 ?_
  obtain ⟨g_87, h⟩ := gd_of h
  obtain ⟨M_88, eM_88, h⟩ := be_of h
  refine W_iastore hG g_86 g_87 M_88 eM_88 dX7_init_173 ?_
  have g_89 : mT M_88 (mN M_4) = 100 := by rw [eM_88]; exact g_86
  refine V_dup hG rfl dX7_init_174 ?_
  refine V_bipush hG 27 (by decide) dX7_init_175 ?_
  refine V_bipush hG 115 (by decide) dX7_init_177 ?_
  obtain ⟨g_90, h⟩ := gd_of h
  obtain ⟨M_91, eM_91, h⟩ := be_of h
  refine W_iastore hG g_89 g_90 M_91 eM_91 dX7_init_179 ?_
  have g_92 : mT M_91 (mN M_4) = 100 := by rw [eM_91]; exact g_89
  refine V_dup hG rfl dX7_init_180 ?_
  refine V_bipush hG 28 (by decide) dX7_init_181 ?_
  refine V_bipush hG 101 (by decide) dX7_init_183 ?_
  obtain ⟨g_93, h⟩ := gd_of h
  obtain ⟨M_94, eM_94, h⟩ := be_of h
  refine W_iastore hG g_92 g_93 M_94 eM_94 dX7_init_185 ?_
  have g_95 : mT M_94 (mN M_4) = 100 := by rw [eM_94]; exact g_92
  refine V_dup hG rfl dX7_init_186 ?_
  refine V_bipush hG 29 (by decide) dX7_init_187 ?_
  refine V_bipush hG 101 (by decide) dX7_init_189 ?_
  obtain ⟨g_96, h⟩ := gd_of h
  obtain ⟨M_97, eM_97, h⟩ := be_of h
  refine W_iastore hG g_95 g_96 M_97 eM_97 dX7_init_191 ?_
  have g_98 : mT M_97 (mN M_4) = 100 := by rw [eM_97]; exact g_95
  refine V_dup hG rfl dX7_init_192 ?_
  refine V_bipush hG 30 (by decide) dX7_init_193 ?_
  refine V_bipush hG 100 (by decide) dX7_init_195 ?_
  obtain ⟨g_99, h⟩ := gd_of h
  obtain ⟨M_100, eM_100, h⟩ := be_of h
  refine W_iastore hG g_98 g_99 M_100 eM_100 dX7_init_197 ?_
  have g_101 : mT M_100 (mN M_4) = 100 := by rw [eM_100]; exact g_98
  refine V_dup hG rfl dX7_init_198 ?_
  refine V_bipush hG 31 (by decide) dX7_init_199 ?_
  refine V_bipush hG 32 (by decide) dX7_init_201 ?_
  obtain ⟨g_102, h⟩ := gd_of h
  obtain ⟨M_103, eM_103, h⟩ := be_of h
  refine W_iastore hG g_101 g_102 M_103 eM_103 dX7_init_203 ?_
  have g_104 : mT M_103 (mN M_4) = 100 := by rw [eM_103]; exact g_101
  refine V_dup hG rfl dX7_init_204 ?_
  refine V_bipush hG 32 (by decide) dX7_init_205 ?_
  refine V_bipush hG 108 (by decide) dX7_init_207 ?_
  obtain ⟨g_105, h⟩ := gd_of h
  obtain ⟨M_106, eM_106, h⟩ := be_of h
  refine W_iastore hG g_104 g_105 M_106 eM_106 dX7_init_209 ?_
  have g_107 : mT M_106 (mN M_4) = 100 := by rw [eM_106]; exact g_104
  refine V_dup hG rfl dX7_init_210 ?_
  refine V_bipush hG 33 (by decide) dX7_init_211 ?_
  refine V_bipush hG 97 (by decide) dX7_init_213 ?_
  obtain ⟨g_108, h⟩ := gd_of h
  obtain ⟨M_109, eM_109, h⟩ := be_of h
  refine W_iastore hG g_107 g_108 M_109 eM_109 dX7_init_215 ?_
  have g_110 : mT M_109 (mN M_4) = 100 := by rw [eM_109]; exact g_107
  refine V_dup hG rfl dX7_init_216 ?_
  refine V_bipush hG 34 (by decide) dX7_init_217 ?_
  refine V_bipush hG 119 (by decide) dX7_init_219 ?_
  obtain ⟨g_111, h⟩ := gd_of h
  obtain ⟨M_112, eM_112, h⟩ := be_of h
  refine W_iastore hG g_110 g_111 M_112 eM_112 dX7_init_221 ?_
  have g_113 : mT M_112 (mN M_4) = 100 := by rw [eM_112]; exact g_110
  refine V_dup hG rfl dX7_init_222 ?_
  refine V_bipush hG 35 (by decide) dX7_init_223 ?_
  refine V_bipush hG 32 (by decide) dX7_init_225 ?_
  obtain ⟨g_114, h⟩ := gd_of h
  obtain ⟨M_115, eM_115, h⟩ := be_of h
  refine W_iastore hG g_113 g_114 M_115 eM_115 dX7_init_227 ?_
  have g_116 : mT M_115 (mN M_4) = 100 := by rw [eM_115]; exact g_113
  refine V_dup hG rfl dX7_init_228 ?_
  refine V_bipush hG 36 (by decide) dX7_init_229 ?_
  refine V_bipush hG 100 (by decide) dX7_init_231 ?_
  obtain ⟨g_117, h⟩ := gd_of h
  obtain ⟨M_118, eM_118, h⟩ := be_of h
  refine W_iastore hG g_116 g_117 M_118 eM_118 dX7_init_233 ?_
  have g_119 : mT M_118 (mN M_4) = 100 := by rw [eM_118]; exact g_116
  refine V_dup hG rfl dX7_init_234 ?_
  refine V_bipush hG 37 (by decide) dX7_init_235 ?_
  refine V_bipush hG 114 (by decide) dX7_init_237 ?_
  obtain ⟨g_120, h⟩ := gd_of h
  obtain ⟨M_121, eM_121, h⟩ := be_of h
  refine W_iastore hG g_119 g_120 M_121 eM_121 dX7_init_239 ?_
  have g_122 : mT M_121 (mN M_4) = 100 := by rw [eM_121]; exact g_119
  refine V_dup hG rfl dX7_init_240 ?_
  refine V_bipush hG 38 (by decide) dX7_init_241 ?_
  refine V_bipush hG 121 (by decide) dX7_init_243 ?_
  obtain ⟨g_123, h⟩ := gd_of h
  obtain ⟨M_124, eM_124, h⟩ := be_of h
  refine W_iastore hG g_122 g_123 M_124 eM_124 dX7_init_245 ?_
  have g_125 : mT M_124 (mN M_4) = 100 := by rw [eM_124]; exact g_122
  refine V_dup hG rfl dX7_init_246 ?_
  refine V_bipush hG 39 (by decide) dX7_init_247 ?_
  refine V_bipush hG 32 (by decide) dX7_init_249 ?_
  obtain ⟨g_126, h⟩ := gd_of h
  obtain ⟨M_127, eM_127, h⟩ := be_of h
  refine W_iastore hG g_125 g_126 M_127 eM_127 dX7_init_251 ?_
  have g_128 : mT M_127 (mN M_4) = 100 := by rw [eM_127]; exact g_125
  refine V_dup hG rfl dX7_init_252 ?_
  refine V_bipush hG 40 (by decide) dX7_init_253 ?_
  refine V_bipush hG 103 (by decide) dX7_init_255 ?_
  obtain ⟨g_129, h⟩ := gd_of h
  obtain ⟨M_130, eM_130, h⟩ := be_of h
  refine W_iastore hG g_128 g_129 M_130 eM_130 dX7_init_257 ?_
  have g_131 : mT M_130 (mN M_4) = 100 := by rw [eM_130]; exact g_128
  refine V_dup hG rfl dX7_init_258 ?_
  refine V_bipush hG 41 (by decide) dX7_init_259 ?_
  refine V_bipush hG 117 (by decide) dX7_init_261 ?_
  obtain ⟨g_132, h⟩ := gd_of h
  obtain ⟨M_133, eM_133, h⟩ := be_of h
  refine W_iastore hG g_131 g_132 M_133 eM_133 dX7_init_263 ?_
  have g_134 : mT M_133 (mN M_4) = 100 := by rw [eM_133]; exact g_131
  refine V_dup hG rfl dX7_init_264 ?_
  refine V_bipush hG 42 (by decide) dX7_init_265 ?_
  refine V_bipush hG 108 (by decide) dX7_init_267 ?_
  obtain ⟨g_135, h⟩ := gd_of h
  obtain ⟨M_136, eM_136, h⟩ := be_of h
  refine W_iastore hG g_134 g_135 M_136 eM_136 dX7_init_269 ?_
  have g_137 : mT M_136 (mN M_4) = 100 := by rw [eM_136]; exact g_134
  refine V_dup hG rfl dX7_init_270 ?_
  refine V_bipush hG 43 (by decide) dX7_init_271 ?_
  refine V_bipush hG 112 (by decide) dX7_init_273 ?_
  obtain ⟨g_138, h⟩ := gd_of h
  obtain ⟨M_139, eM_139, h⟩ := be_of h
  refine W_iastore hG g_137 g_138 M_139 eM_139 dX7_init_275 ?_
  have g_140 : mT M_139 (mN M_4) = 100 := by rw [eM_139]; exact g_137
  refine V_dup hG rfl dX7_init_276 ?_
  refine V_bipush hG 44 (by decide) dX7_init_277 ?_
  refine V_bipush hG 32 (by decide) dX7_init_279 ?_
  obtain ⟨g_141, h⟩ := gd_of h
  obtain ⟨M_142, eM_142, h⟩ := be_of h
  refine W_iastore hG g_140 g_141 M_142 eM_142 dX7_init_281 ?_
  have g_143 : mT M_142 (mN M_4) = 100 := by rw [eM_142]; exact g_140
  refine V_dup hG rfl dX7_init_282 ?_
  refine V_bipush hG 45 (by decide) dX7_init_283 ?_
  refine V_bipush hG 102 (by decide) dX7_init_285 ?_
  obtain ⟨g_144, h⟩ := gd_of h
  obtain ⟨M_145, eM_145, h⟩ := be_of h
  refine W_iastore hG g_143 g_144 M_145 eM_145 dX7_init_287 ?_
  have g_146 : mT M_145 (mN M_4) = 100 := by rw [eM_145]; exact g_143
  refine V_dup hG rfl dX7_init_288 ?_
  refine V_bipush hG 46 (by decide) dX7_init_289 ?_
  refine V_bipush hG 105 (by decide) dX7_init_291 ?_
  obtain ⟨g_147, h⟩ := gd_of h
  obtain ⟨M_148, eM_148, h⟩ := be_of h
  refine W_iastore hG g_146 g_147 M_148 eM_148 dX7_init_293 ?_
  have g_149 : mT M_148 (mN M_4) = 100 := by rw [eM_148]; exact g_146
  refine V_dup hG rfl dX7_init_294 ?_
  refine V_bipush hG 47 (by decide) dX7_init_295 ?_
  refine V_bipush hG 103 (by decide) dX7_init_297 ?_
  obtain ⟨g_150, h⟩ := gd_of h
  obtain ⟨M_151, eM_151, h⟩ := be_of h
  refine W_iastore hG g_149 g_150 M_151 eM_151 dX7_init_299 ?_
  have g_152 : mT M_151 (mN M_4) = 100 := by rw [eM_151]; exact g_149
  refine V_dup hG rfl dX7_init_300 ?_
  refine V_bipush hG 48 (by decide) dX7_init_301 ?_
  refine V_bipush hG 104 (by decide) dX7_init_303 ?_
  obtain ⟨g_153, h⟩ := gd_of h
  obtain ⟨M_154, eM_154, h⟩ := be_of h
  refine W_iastore hG g_152 g_153 M_154 eM_154 dX7_init_305 ?_
  have g_155 : mT M_154 (mN M_4) = 100 := by rw [eM_154]; exact g_152
  refine V_dup hG rfl dX7_init_306 ?_
  refine V_bipush hG 49 (by decide) dX7_init_307 ?_
  refine V_bipush hG 116 (by decide) dX7_init_309 ?_
  obtain ⟨g_156, h⟩ := gd_of h
  obtain ⟨M_157, eM_157, h⟩ := be_of h
  refine W_iastore hG g_155 g_156 M_157 eM_157 dX7_init_311 ?_
  have g_158 : mT M_157 (mN M_4) = 100 := by rw [eM_157]; exact g_155
  refine V_dup hG rfl dX7_init_312 ?_
  refine V_bipush hG 50 (by decide) dX7_init_313 ?_
  refine V_bipush hG 32 (by decide) dX7_init_315 ?_
  obtain ⟨g_159, h⟩ := gd_of h
  obtain ⟨M_160, eM_160, h⟩ := be_of h
  refine W_iastore hG g_158 g_159 M_160 eM_160 dX7_init_317 ?_
  have g_161 : mT M_160 (mN M_4) = 100 := by rw [eM_160]; exact g_158
  refine V_dup hG rfl dX7_init_318 ?_
  refine V_bipush hG 51 (by decide) dX7_init_319 ?_
  refine V_bipush hG 97 (by decide) dX7_init_321 ?_
  obtain ⟨g_162, h⟩ := gd_of h
  obtain ⟨M_163, eM_163, h⟩ := be_of h
  refine W_iastore hG g_161 g_162 M_163 eM_163 dX7_init_323 ?_
  have g_164 : mT M_163 (mN M_4) = 100 := by rw [eM_163]; exact g_161
  refine V_dup hG rfl dX7_init_324 ?_
  refine V_bipush hG 52 (by decide) dX7_init_325 ?_
  refine V_bipush hG 110 (by decide) dX7_init_327 ?_
  obtain ⟨g_165, h⟩ := gd_of h
  obtain ⟨M_166, eM_166, h⟩ := be_of h
  refine W_iastore hG g_164 g_165 M_166 eM_166 dX7_init_329 ?_
  have g_167 : mT M_166 (mN M_4) = 100 := by rw [eM_166]; exact g_164
  refine V_dup hG rfl dX7_init_330 ?_
  refine V_bipush hG 53 (by decide) dX7_init_331 ?_
  refine V_bipush hG 100 (by decide) dX7_init_333 ?_
  obtain ⟨g_168, h⟩ := gd_of h
  obtain ⟨M_169, eM_169, h⟩ := be_of h
  refine W_iastore hG g_167 g_168 M_169 eM_169 dX7_init_335 ?_
  have g_170 : mT M_169 (mN M_4) = 100 := by rw [eM_169]; exact g_167
  refine V_dup hG rfl dX7_init_336 ?_
  refine V_bipush hG 54 (by decide) dX7_init_337 ?_
  refine V_bipush hG 32 (by decide) dX7_init_339 ?_
  obtain ⟨g_171, h⟩ := gd_of h
  obtain ⟨M_172, eM_172, h⟩ := be_of h
  refine W_iastore hG g_170 g_171 M_172 eM_172 dX7_init_341 ?_
  have g_173 : mT M_172 (mN M_4) = 100 := by rw [eM_172]; exact g_170
  refine V_dup hG rfl dX7_init_342 ?_
  refine V_bipush hG 55 (by decide) dX7_init_343 ?_
  refine V_bipush hG 111 (by decide) dX7_init_345 ?_
  obtain ⟨g_174, h⟩ := gd_of h
  obtain ⟨M_175, eM_175, h⟩ := be_of h
  refine W_iastore hG g_173 g_174 M_175 eM_175 dX7_init_347 ?_
  have g_176 : mT M_175 (mN M_4) = 100 := by rw [eM_175]; exact g_173
  refine V_dup hG rfl dX7_init_348 ?_
  refine V_bipush hG 56 (by decide) dX7_init_349 ?_
  refine V_bipush hG 114 (by decide) dX7_init_351 ?_
  obtain ⟨g_177, h⟩ := gd_of h
  obtain ⟨M_178, eM_178, h⟩ := be_of h
  refine W_iastore hG g_176 g_177 M_178 eM_178 dX7_init_353 ?_
  have g_179 : mT M_178 (mN M_4) = 100 := by rw [eM_178]; exact g_176
  refine V_dup hG rfl dX7_init_354 ?_
  refine V_bipush hG 57 (by decide) dX7_init_355 ?_
  refine V_bipush hG 32 (by decide) dX7_init_357 ?_
  obtain ⟨g_180, h⟩ := gd_of h
  obtain ⟨M_181, eM_181, h⟩ := be_of h
  refine W_iastore hG g_179 g_180 M_181 eM_181 dX7_init_359 ?_
  have g_182 : mT M_181 (mN M_4) = 100 := by rw [eM_181]; exact g_179
  refine V_dup hG rfl dX7_init_360 ?_
  refine V_bipush hG 58 (by decide) dX7_init_361 ?_
  refine V_bipush hG 110 (by decide) dX7_init_363 ?_
  obtain ⟨g_183, h⟩ := gd_of h
  obtain ⟨M_184, eM_184, h⟩ := be_of h
  refine W_iastore hG g_182 g_183 M_184 eM_184 dX7_init_365 ?_
  have g_185 : mT M_184 (mN M_4) = 100 := by rw [eM_184]; exact g_182
  refine V_dup hG rfl dX7_init_366 ?_
  refine V_bipush hG 59 (by decide) dX7_init_367 ?_
  refine V_bipush hG 111 (by decide) dX7_init_369 ?_
  obtain ⟨g_186, h⟩ := gd_of h
  obtain ⟨M_187, eM_187, h⟩ := be_of h
  refine W_iastore hG g_185 g_186 M_187 eM_187 dX7_init_371 ?_
  have g_188 : mT M_187 (mN M_4) = 100 := by rw [eM_187]; exact g_185
  refine V_dup hG rfl dX7_init_372 ?_
  refine V_bipush hG 60 (by decide) dX7_init_373 ?_
  refine V_bipush hG 116 (by decide) dX7_init_375 ?_
  obtain ⟨g_189, h⟩ := gd_of h
  obtain ⟨M_190, eM_190, h⟩ := be_of h
  refine W_iastore hG g_188 g_189 M_190 eM_190 dX7_init_377 ?_
  have g_191 : mT M_190 (mN M_4) = 100 := by rw [eM_190]; exact g_188
  refine V_dup hG rfl dX7_init_378 ?_
  refine V_bipush hG 61 (by decide) dX7_init_379 ?_
  refine V_bipush hG 32 (by decide) dX7_init_381 ?_
  obtain ⟨g_192, h⟩ := gd_of h
  obtain ⟨M_193, eM_193, h⟩ := be_of h
  refine W_iastore hG g_191 g_192 M_193 eM_193 dX7_init_383 ?_
  have g_194 : mT M_193 (mN M_4) = 100 := by rw [eM_193]; exact g_191
  refine V_dup hG rfl dX7_init_384 ?_
  refine V_bipush hG 62 (by decide) dX7_init_385 ?_
  refine V_bipush hG 116 (by decide) dX7_init_387 ?_
  obtain ⟨g_195, h⟩ := gd_of h
  obtain ⟨M_196, eM_196, h⟩ := be_of h
  refine W_iastore hG g_194 g_195 M_196 eM_196 dX7_init_389 ?_
  have g_197 : mT M_196 (mN M_4) = 100 := by rw [eM_196]; exact g_194
  refine V_dup hG rfl dX7_init_390 ?_
  refine V_bipush hG 63 (by decide) dX7_init_391 ?_
  refine V_bipush hG 104 (by decide) dX7_init_393 ?_
  obtain ⟨g_198, h⟩ := gd_of h
  obtain ⟨M_199, eM_199, h⟩ := be_of h
  refine W_iastore hG g_197 g_198 M_199 eM_199 dX7_init_395 ?_
  have g_200 : mT M_199 (mN M_4) = 100 := by rw [eM_199]; exact g_197
  refine V_dup hG rfl dX7_init_396 ?_
  refine V_bipush hG 64 (by decide) dX7_init_397 ?_
  refine V_bipush hG 105 (by decide) dX7_init_399 ?_
  obtain ⟨g_201, h⟩ := gd_of h
  obtain ⟨M_202, eM_202, h⟩ := be_of h
  refine W_iastore hG g_200 g_201 M_202 eM_202 dX7_init_401 ?_
  have g_203 : mT M_202 (mN M_4) = 100 := by rw [eM_202]; exact g_200
  refine V_dup hG rfl dX7_init_402 ?_
  refine V_bipush hG 65 (by decide) dX7_init_403 ?_
  refine V_bipush hG 114 (by decide) dX7_init_405 ?_
  obtain ⟨g_204, h⟩ := gd_of h
  obtain ⟨M_205, eM_205, h⟩ := be_of h
  refine W_iastore hG g_203 g_204 M_205 eM_205 dX7_init_407 ?_
  have g_206 : mT M_205 (mN M_4) = 100 := by rw [eM_205]; exact g_203
  refine V_dup hG rfl dX7_init_408 ?_
  refine V_bipush hG 66 (by decide) dX7_init_409 ?_
  refine V_bipush hG 115 (by decide) dX7_init_411 ?_
  obtain ⟨g_207, h⟩ := gd_of h
  obtain ⟨M_208, eM_208, h⟩ := be_of h
  refine W_iastore hG g_206 g_207 M_208 eM_208 dX7_init_413 ?_
  have g_209 : mT M_208 (mN M_4) = 100 := by rw [eM_208]; exact g_206
  refine V_dup hG rfl dX7_init_414 ?_
  refine V_bipush hG 67 (by decide) dX7_init_415 ?_
  refine V_bipush hG 116 (by decide) dX7_init_417 ?_
  obtain ⟨g_210, h⟩ := gd_of h
  obtain ⟨M_211, eM_211, h⟩ := be_of h
  refine W_iastore hG g_209 g_210 M_211 eM_211 dX7_init_419 ?_
  have g_212 : mT M_211 (mN M_4) = 100 := by rw [eM_211]; exact g_209
  refine V_dup hG rfl dX7_init_420 ?_
  refine V_bipush hG 68 (by decide) dX7_init_421 ?_
  refine V_bipush hG 32 (by decide) dX7_init_423 ?_
  obtain ⟨g_213, h⟩ := gd_of h
  obtain ⟨M_214, eM_214, h⟩ := be_of h
  refine W_iastore hG g_212 g_213 M_214 eM_214 dX7_init_425 ?_
  have g_215 : mT M_214 (mN M_4) = 100 := by rw [eM_214]; exact g_212
  refine V_dup hG rfl dX7_init_426 ?_
  refine V_bipush hG 69 (by decide) dX7_init_427 ?_
  refine V_bipush hG 112 (by decide) dX7_init_429 ?_
  obtain ⟨g_216, h⟩ := gd_of h
  obtain ⟨M_217, eM_217, h⟩ := be_of h
  refine W_iastore hG g_215 g_216 M_217 eM_217 dX7_init_431 ?_
  have g_218 : mT M_217 (mN M_4) = 100 := by rw [eM_217]; exact g_215
  refine V_dup hG rfl dX7_init_432 ?_
  refine V_bipush hG 70 (by decide) dX7_init_433 ?_
  refine V_bipush hG 97 (by decide) dX7_init_435 ?_
  obtain ⟨g_219, h⟩ := gd_of h
  obtain ⟨M_220, eM_220, h⟩ := be_of h
  refine W_iastore hG g_218 g_219 M_220 eM_220 dX7_init_437 ?_
  have g_221 : mT M_220 (mN M_4) = 100 := by rw [eM_220]; exact g_218
  refine V_dup hG rfl dX7_init_438 ?_
  refine V_bipush hG 71 (by decide) dX7_init_439 ?_
  refine V_bipush hG 99 (by decide) dX7_init_441 ?_
  obtain ⟨g_222, h⟩ := gd_of h
  obtain ⟨M_223, eM_223, h⟩ := be_of h
  refine W_iastore hG g_221 g_222 M_223 eM_223 dX7_init_443 ?_
  have g_224 : mT M_223 (mN M_4) = 100 := by rw [eM_223]; exact g_221
  refine V_dup hG rfl dX7_init_444 ?_
  refine V_bipush hG 72 (by decide) dX7_init_445 ?_
  refine V_bipush hG 101 (by decide) dX7_init_447 ?_
  obtain ⟨g_225, h⟩ := gd_of h
  obtain ⟨M_226, eM_226, h⟩ := be_of h
  refine W_iastore hG g_224 g_225 M_226 eM_226 dX7_init_449 ?_
  have g_227 : mT M_226 (mN M_4) = 100 := by rw [eM_226]; exact g_224
  refine V_dup hG rfl dX7_init_450 ?_
  refine V_bipush hG 73 (by decide) dX7_init_451 ?_
  refine V_bipush hG 32 (by decide) dX7_init_453 ?_
  obtain ⟨g_228, h⟩ := gd_of h
  obtain ⟨M_229, eM_229, h⟩ := be_of h
  refine W_iastore hG g_227 g_228 M_229 eM_229 dX7_init_455 ?_
  have g_230 : mT M_229 (mN M_4) = 100 := by rw [eM_229]; exact g_227
  refine V_dup hG rfl dX7_init_456 ?_
  refine V_bipush hG 74 (by decide) dX7_init_457 ?_
  refine V_bipush hG 115 (by decide) dX7_init_459 ?_
  obtain ⟨g_231, h⟩ := gd_of h
  obtain ⟨M_232, eM_232, h⟩ := be_of h
  refine W_iastore hG g_230 g_231 M_232 eM_232 dX7_init_461 ?_
  have g_233 : mT M_232 (mN M_4) = 100 := by rw [eM_232]; exact g_230
  refine V_dup hG rfl dX7_init_462 ?_
  refine V_bipush hG 75 (by decide) dX7_init_463 ?_
  refine V_bipush hG 105 (by decide) dX7_init_465 ?_
  obtain ⟨g_234, h⟩ := gd_of h
  obtain ⟨M_235, eM_235, h⟩ := be_of h
  refine W_iastore hG g_233 g_234 M_235 eM_235 dX7_init_467 ?_
  have g_236 : mT M_235 (mN M_4) = 100 := by rw [eM_235]; exact g_233
  refine V_dup hG rfl dX7_init_468 ?_
  refine V_bipush hG 76 (by decide) dX7_init_469 ?_
  refine V_bipush hG 100 (by decide) dX7_init_471 ?_
  obtain ⟨g_237, h⟩ := gd_of h
  obtain ⟨M_238, eM_238, h⟩ := be_of h
  refine W_iastore hG g_236 g_237 M_238 eM_238 dX7_init_473 ?_
  have g_239 : mT M_238 (mN M_4) = 100 := by rw [eM_238]; exact g_236
  refine V_dup hG rfl dX7_init_474 ?_
  refine V_bipush hG 77 (by decide) dX7_init_475 ?_
  refine V_bipush hG 101 (by decide) dX7_init_477 ?_
  obtain ⟨g_240, h⟩ := gd_of h
  obtain ⟨M_241, eM_241, h⟩ := be_of h
  refine W_iastore hG g_239 g_240 M_241 eM_241 dX7_init_479 ?_
  have g_242 : mT M_241 (mN M_4) = 100 := by rw [eM_241]; exact g_239
  refine V_dup hG rfl dX7_init_480 ?_
  refine V_bipush hG 78 (by decide) dX7_init_481 ?_
  refine V_bipush hG 32 (by decide) dX7_init_483 ?_
  obtain ⟨g_243, h⟩ := gd_of h
  obtain ⟨M_244, eM_244, h⟩ := be_of h
  refine W_iastore hG g_242 g_243 M_244 eM_244 dX7_init_485 ?_
  have g_245 : mT M_244 (mN M_4) = 100 := by rw [eM_244]; exact g_242
  refine V_dup hG rfl dX7_init_486 ?_
  refine V_bipush hG 79 (by decide) dX7_init_487 ?_
  refine V_bipush hG 119 (by decide) dX7_init_489 ?_
  obtain ⟨g_246, h⟩ := gd_of h
  obtain ⟨M_247, eM_247, h⟩ := be_of h
  refine W_iastore hG g_245 g_246 M_247 eM_247 dX7_init_491 ?_
  have g_248 : mT M_247 (mN M_4) = 100 := by rw [eM_247]; exact g_245
  refine V_dup hG rfl dX7_init_492 ?_
  refine V_bipush hG 80 (by decide) dX7_init_493 ?_
  refine V_bipush hG 97 (by decide) dX7_init_495 ?_
  obtain ⟨g_249, h⟩ := gd_of h
  obtain ⟨M_250, eM_250, h⟩ := be_of h
  refine W_iastore hG g_248 g_249 M_250 eM_250 dX7_init_497 ?_
  have g_251 : mT M_250 (mN M_4) = 100 := by rw [eM_250]; exact g_248
  refine V_dup hG rfl dX7_init_498 ?_
  refine V_bipush hG 81 (by decide) dX7_init_499 ?_
  refine V_bipush hG 116 (by decide) dX7_init_501 ?_
  obtain ⟨g_252, h⟩ := gd_of h
  obtain ⟨M_253, eM_253, h⟩ := be_of h
  refine W_iastore hG g_251 g_252 M_253 eM_253 dX7_init_503 ?_
  have g_254 : mT M_253 (mN M_4) = 100 := by rw [eM_253]; exact g_251
  refine V_dup hG rfl dX7_init_504 ?_
  refine V_bipush hG 82 (by decide) dX7_init_505 ?_
  refine V_bipush hG 101 (by decide) dX7_init_507 ?_
  obtain ⟨g_255, h⟩ := gd_of h
  obtain ⟨M_256, eM_256, h⟩ := be_of h
  refine W_iastore hG g_254 g_255 M_256 eM_256 dX7_init_509 ?_
  have g_257 : mT M_256 (mN M_4) = 100 := by rw [eM_256]; exact g_254
  refine V_dup hG rfl dX7_init_510 ?_
  refine V_bipush hG 83 (by decide) dX7_init_511 ?_
  refine V_bipush hG 114 (by decide) dX7_init_513 ?_
  obtain ⟨g_258, h⟩ := gd_of h
  obtain ⟨M_259, eM_259, h⟩ := be_of h
  refine W_iastore hG g_257 g_258 M_259 eM_259 dX7_init_515 ?_
  have g_260 : mT M_259 (mN M_4) = 100 := by rw [eM_259]; exact g_257
  refine V_dup hG rfl dX7_init_516 ?_
  refine V_bipush hG 84 (by decide) dX7_init_517 ?_
  refine V_bipush hG 32 (by decide) dX7_init_519 ?_
  obtain ⟨g_261, h⟩ := gd_of h
  obtain ⟨M_262, eM_262, h⟩ := be_of h
  refine W_iastore hG g_260 g_261 M_262 eM_262 dX7_init_521 ?_
  have g_263 : mT M_262 (mN M_4) = 100 := by rw [eM_262]; exact g_260
  refine V_dup hG rfl dX7_init_522 ?_
  refine V_bipush hG 85 (by decide) dX7_init_523 ?_
  refine V_bipush hG 102 (by decide) dX7_init_525 ?_
  obtain ⟨g_264, h⟩ := gd_of h
  obtain ⟨M_265, eM_265, h⟩ := be_of h
  refine W_iastore hG g_263 g_264 M_265 eM_265 dX7_init_527 ?_
  have g_266 : mT M_265 (mN M_4) = 100 := by rw [eM_265]; exact g_263
  refine V_dup hG rfl dX7_init_528 ?_
  refine V_bipush hG 86 (by decide) dX7_init_529 ?_
  refine V_bipush hG 97 (by decide) dX7_init_531 ?_
  obtain ⟨g_267, h⟩ := gd_of h
  obtain ⟨M_268, eM_268, h⟩ := be_of h
  refine W_iastore hG g_266 g_267 M_268 eM_268 dX7_init_533 ?_
  have g_269 : mT M_268 (mN M_4) = 100 := by rw [eM_268]; exact g_266
  refine V_dup hG rfl dX7_init_534 ?_
  refine V_bipush hG 87 (by decide) dX7_init_535 ?_
  refine V_bipush hG 114 (by decide) dX7_init_537 ?_
  obtain ⟨g_270, h⟩ := gd_of h
  obtain ⟨M_271, eM_271, h⟩ := be_of h
  refine W_iastore hG g_269 g_270 M_271 eM_271 dX7_init_539 ?_
  have g_272 : mT M_271 (mN M_4) = 100 := by rw [eM_271]; exact g_269
  refine V_dup hG rfl dX7_init_540 ?_
  refine V_bipush hG 88 (by decide) dX7_init_541 ?_
  refine V_bipush hG 32 (by decide) dX7_init_543 ?_
  obtain ⟨g_273, h⟩ := gd_of h
  obtain ⟨M_274, eM_274, h⟩ := be_of h
  refine W_iastore hG g_272 g_273 M_274 eM_274 dX7_init_545 ?_
  have g_275 : mT M_274 (mN M_4) = 100 := by rw [eM_274]; exact g_272
  refine V_dup hG rfl dX7_init_546 ?_
  refine V_bipush hG 89 (by decide) dX7_init_547 ?_
  refine V_bipush hG 104 (by decide) dX7_init_549 ?_
  obtain ⟨g_276, h⟩ := gd_of h
  obtain ⟨M_277, eM_277, h⟩ := be_of h
  refine W_iastore hG g_275 g_276 M_277 eM_277 dX7_init_551 ?_
  have g_278 : mT M_277 (mN M_4) = 100 := by rw [eM_277]; exact g_275
  refine V_dup hG rfl dX7_init_552 ?_
  refine V_bipush hG 90 (by decide) dX7_init_553 ?_
  refine V_bipush hG 117 (by decide) dX7_init_555 ?_
  obtain ⟨g_279, h⟩ := gd_of h
  obtain ⟨M_280, eM_280, h⟩ := be_of h
  refine W_iastore hG g_278 g_279 M_280 eM_280 dX7_init_557 ?_
  have g_281 : mT M_280 (mN M_4) = 100 := by rw [eM_280]; exact g_278
  refine V_dup hG rfl dX7_init_558 ?_
  refine V_bipush hG 91 (by decide) dX7_init_559 ?_
  refine V_bipush hG 114 (by decide) dX7_init_561 ?_
  obtain ⟨g_282, h⟩ := gd_of h
  obtain ⟨M_283, eM_283, h⟩ := be_of h
  refine W_iastore hG g_281 g_282 M_283 eM_283 dX7_init_563 ?_
  have g_284 : mT M_283 (mN M_4) = 100 := by rw [eM_283]; exact g_281
  refine V_dup hG rfl dX7_init_564 ?_
  refine V_bipush hG 92 (by decide) dX7_init_565 ?_
  refine V_bipush hG 116 (by decide) dX7_init_567 ?_
  obtain ⟨g_285, h⟩ := gd_of h
  obtain ⟨M_286, eM_286, h⟩ := be_of h
  refine W_iastore hG g_284 g_285 M_286 eM_286 dX7_init_569 ?_
  have g_287 : mT M_286 (mN M_4) = 100 := by rw [eM_286]; exact g_284
  refine V_dup hG rfl dX7_init_570 ?_
  refine V_bipush hG 93 (by decide) dX7_init_571 ?_
  refine V_bipush hG 32 (by decide) dX7_init_573 ?_
  obtain ⟨g_288, h⟩ := gd_of h
  obtain ⟨M_289, eM_289, h⟩ := be_of h
  refine W_iastore hG g_287 g_288 M_289 eM_289 dX7_init_575 ?_
  have g_290 : mT M_289 (mN M_4) = 100 := by rw [eM_289]; exact g_287
  refine V_dup hG rfl dX7_init_576 ?_
  refine V_bipush hG 94 (by decide) dX7_init_577 ?_
  refine V_bipush hG 104 (by decide) dX7_init_579 ?_
  obtain ⟨g_291, h⟩ := gd_of h
  obtain ⟨M_292, eM_292, h⟩ := be_of h
  refine W_iastore hG g_290 g_291 M_292 eM_292 dX7_init_581 ?_
  have g_293 : mT M_292 (mN M_4) = 100 := by rw [eM_292]; exact g_290
  refine V_dup hG rfl dX7_init_582 ?_
  refine V_bipush hG 95 (by decide) dX7_init_583 ?_
  refine V_bipush hG 111 (by decide) dX7_init_585 ?_
  obtain ⟨g_294, h⟩ := gd_of h
  obtain ⟨M_295, eM_295, h⟩ := be_of h
  refine W_iastore hG g_293 g_294 M_295 eM_295 dX7_init_587 ?_
  have g_296 : mT M_295 (mN M_4) = 100 := by rw [eM_295]; exact g_293
  refine V_dup hG rfl dX7_init_588 ?_
  refine V_bipush hG 96 (by decide) dX7_init_589 ?_
  refine V_bipush hG 117 (by decide) dX7_init_591 ?_
  obtain ⟨g_297, h⟩ := gd_of h
  obtain ⟨M_298, eM_298, h⟩ := be_of h
  refine W_iastore hG g_296 g_297 M_298 eM_298 dX7_init_593 ?_
  have g_299 : mT M_298 (mN M_4) = 100 := by rw [eM_298]; exact g_296
  refine V_dup hG rfl dX7_init_594 ?_
  refine V_bipush hG 97 (by decide) dX7_init_595 ?_
  refine V_bipush hG 114 (by decide) dX7_init_597 ?_
  obtain ⟨g_300, h⟩ := gd_of h
  obtain ⟨M_301, eM_301, h⟩ := be_of h
  refine W_iastore hG g_299 g_300 M_301 eM_301 dX7_init_599 ?_
  have g_302 : mT M_301 (mN M_4) = 100 := by rw [eM_301]; exact g_299
  refine V_dup hG rfl dX7_init_600 ?_
  refine V_bipush hG 98 (by decide) dX7_init_601 ?_
  refine V_bipush hG 32 (by decide) dX7_init_603 ?_
  obtain ⟨g_303, h⟩ := gd_of h
  obtain ⟨M_304, eM_304, h⟩ := be_of h
  refine W_iastore hG g_302 g_303 M_304 eM_304 dX7_init_605 ?_
  have g_305 : mT M_304 (mN M_4) = 100 := by rw [eM_304]; exact g_302
  obtain ⟨g_306, h⟩ := gd_of h
  obtain ⟨M_307, eM_307, h⟩ := be_of h
  refine pf_X7_13 hN hG (hI rfl) g_306 eM_307 dX7_init_606 ?_
  have g_308 : mT M_307 (mN M_4) = 100 := by rw [eM_307]; exact g_305
  have g_309 : mT M_307 p0 = 6 := by rw [eM_307]; exact g_306
  unfold f_X7_init_c1 at h
  refine V_aload_n hG 0 rfl dX7_init_609 ?_
  refine V_iconst hG (-1) rfl dX7_init_610 ?_
  obtain ⟨M_310, eM_310, h⟩ := be_of h
  refine pf_X7_16 hN hG g_309 eM_310 dX7_init_611 ?_
  have g_311 : mT M_310 (mN M_4) = 100 := by rw [eM_310]; exact g_308
  have g_312 : mT M_310 p0 = 6 := by rw [eM_310]; exact g_309
  refine V_aload_n hG 0 rfl dX7_init_614 ?_
  refine V_iconst hG 2 rfl dX7_init_615 ?_
  obtain ⟨g_313, h⟩ := gd_of h
  obtain ⟨M_314, eM_314, h⟩ := be_of h
  refine A_newa2 hG hEn rfl rfl (by decide) eM_314 g_313 dX7_init_616 ?_
  obtain ⟨g_315, h⟩ := gd_of h
  obtain ⟨M_316, eM_316, h⟩ := be_of h
  refine pf_X7_20 hN hG (hI rfl) g_315 eM_316 dX7_init_618 ?_
  have g_317 : mT M_316 p0 = 6 := by rw [eM_316]; exact g_315
  refine V_aload_n hG 0 rfl dX7_init_621 ?_
  refine V_iconst hG 4 rfl dX7_init_622 ?_
  obtain ⟨g_318, h⟩ := gd_of h
  obtain ⟨M_319, eM_319, h⟩ := be_of h
  refine A_newa0 hG hEn rfl rfl (by decide) eM_319 g_318 dX7_init_623 ?_
  obtain ⟨g_320, h⟩ := gd_of h
  obtain ⟨M_321, eM_321, h⟩ := be_of h
  refine pf_X7_24 hN hG (hI rfl) g_320 eM_321 dX7_init_625 ?_
  have g_322 : mT M_321 p0 = 6 := by rw [eM_321]; exact g_320
  refine V_aload_n hG 0 rfl dX7_init_628 ?_
  refine V_bipush hG 12 (by decide) dX7_init_629 ?_
  obtain ⟨g_323, h⟩ := gd_of h
  obtain ⟨M_324, eM_324, h⟩ := be_of h
  refine A_newa0 hG hEn rfl rfl (by decide) eM_324 g_323 dX7_init_631 ?_
  obtain ⟨g_325, h⟩ := gd_of h
  obtain ⟨M_326, eM_326, h⟩ := be_of h
  refine pf_X7_27 hN hG (hI rfl) g_325 eM_326 dX7_init_633 ?_
  have g_327 : mT M_326 p0 = 6 := by rw [eM_326]; exact g_325
  refine V_aload_n hG 0 rfl dX7_init_636 ?_
  refine V_bipush hG 12 (by decide) dX7_init_637 ?_
  obtain ⟨g_328, h⟩ := gd_of h
  obtain ⟨M_329, eM_329, h⟩ := be_of h
  refine A_newa0 hG hEn rfl rfl (by decide) eM_329 g_328 dX7_init_639 ?_
  obtain ⟨g_330, h⟩ := gd_of h
  obtain ⟨M_331, eM_331, h⟩ := be_of h
  refine pf_X7_30 hN hG (hI rfl) g_330 eM_331 dX7_init_641 ?_
  have g_332 : mT M_331 p0 = 6 := by rw [eM_331]; exact g_330
  refine V_aload_n hG 0 rfl dX7_init_644 ?_
  refine V_bipush hG 12 (by decide) dX7_init_645 ?_
  obtain ⟨g_333, h⟩ := gd_of h
  obtain ⟨M_334, eM_334, h⟩ := be_of h
  refine A_newa0 hG hEn rfl rfl (by decide) eM_334 g_333 dX7_init_647 ?_
  obtain ⟨g_335, h⟩ := gd_of h
  obtain ⟨M_336, eM_336, h⟩ := be_of h
  refine pf_X7_33 hN hG (hI rfl) g_335 eM_336 dX7_init_649 ?_
  have g_337 : mT M_336 p0 = 6 := by rw [eM_336]; exact g_335
  refine V_aload_n hG 0 rfl dX7_init_652 ?_
  refine V_bipush hG 12 (by decide) dX7_init_653 ?_
  obtain ⟨g_338, h⟩ := gd_of h
  obtain ⟨M_339, eM_339, h⟩ := be_of h
  refine A_newa0 hG hEn rfl rfl (by decide) eM_339 g_338 dX7_init_655 ?_
  obtain ⟨g_340, h⟩ := gd_of h
  obtain ⟨M_341, eM_341, h⟩ := be_of h
  refine pf_X7_36 hN hG (hI rfl) g_340 eM_341 dX7_init_657 ?_
  have g_342 : mT M_341 p0 = 6 := by rw [eM_341]; exact g_340
  unfold f_X7_init_c2 at h
  refine V_aload_n hG 0 rfl dX7_init_660 ?_
  refine V_bipush hG 12 (by decide) dX7_init_661 ?_
  obtain ⟨g_343, h⟩ := gd_of h
  obtain ⟨M_344, eM_344, h⟩ := be_of h
  refine A_newa0 hG hEn rfl rfl (by decide) eM_344 g_343 dX7_init_663 ?_
  obtain ⟨g_345, h⟩ := gd_of h
  obtain ⟨M_346, eM_346, h⟩ := be_of h
  refine pf_X7_39 hN hG (hI rfl) g_345 eM_346 dX7_init_665 ?_
  have g_347 : mT M_346 p0 = 6 := by rw [eM_346]; exact g_345
  refine V_aload_n hG 0 rfl dX7_init_668 ?_
  refine V_bipush hG 12 (by decide) dX7_init_669 ?_
  obtain ⟨g_348, h⟩ := gd_of h
  obtain ⟨M_349, eM_349, h⟩ := be_of h
  refine A_newa0 hG hEn rfl rfl (by decide) eM_349 g_348 dX7_init_671 ?_
  obtain ⟨g_350, h⟩ := gd_of h
  obtain ⟨M_351, eM_351, h⟩ := be_of h
  refine pf_X7_42 hN hG (hI rfl) g_350 eM_351 dX7_init_673 ?_
  have g_352 : mT M_351 p0 = 6 := by rw [eM_351]; exact g_350
  refine V_aload_n hG 0 rfl dX7_init_676 ?_
  refine V_bipush hG 12 (by decide) dX7_init_677 ?_
  obtain ⟨g_353, h⟩ := gd_of h
  obtain ⟨M_354, eM_354, h⟩ := be_of h
  refine A_newa0 hG hEn rfl rfl (by decide) eM_354 g_353 dX7_init_679 ?_
  obtain ⟨g_355, h⟩ := gd_of h
  obtain ⟨M_356, eM_356, h⟩ := be_of h
  refine pf_X7_45 hN hG (hI rfl) g_355 eM_356 dX7_init_681 ?_
  have g_357 : mT M_356 p0 = 6 := by rw [eM_356]; exact g_355
  refine V_aload_n hG 0 rfl dX7_init_684 ?_
  refine V_bipush hG 12 (by decide) dX7_init_685 ?_
  obtain ⟨g_358, h⟩ := gd_of h
  obtain ⟨M_359, eM_359, h⟩ := be_of h
  refine A_newa0 hG hEn rfl rfl (by decide) eM_359 g_358 dX7_init_687 ?_
  obtain ⟨g_360, h⟩ := gd_of h
  obtain ⟨M_361, eM_361, h⟩ := be_of h
  refine pf_X7_48 hN hG (hI rfl) g_360 eM_361 dX7_init_689 ?_
  have g_362 : mT M_361 p0 = 6 := by rw [eM_361]; exact g_360
  refine V_aload_n hG 0 rfl dX7_init_692 ?_
  refine V_bipush hG 12 (by decide) dX7_init_693 ?_
  obtain ⟨g_363, h⟩ := gd_of h
  obtain ⟨M_364, eM_364, h⟩ := be_of h
  refine A_newa0 hG hEn rfl rfl (by decide) eM_364 g_363 dX7_init_695 ?_
  obtain ⟨g_365, h⟩ := gd_of h
  obtain ⟨M_366, eM_366, h⟩ := be_of h
  refine pf_X7_51 hN hG (hI rfl) g_365 eM_366 dX7_init_697 ?_
  have g_367 : mT M_366 p0 = 6 := by rw [eM_366]; exact g_365
  refine V_aload_n hG 0 rfl dX7_init_700 ?_
  refine V_bipush hG 24 (by decide) dX7_init_701 ?_
  obtain ⟨g_368, h⟩ := gd_of h
  obtain ⟨M_369, eM_369, h⟩ := be_of h
  refine A_newa0 hG hEn rfl rfl (by decide) eM_369 g_368 dX7_init_703 ?_
  obtain ⟨g_370, h⟩ := gd_of h
  obtain ⟨M_371, eM_371, h⟩ := be_of h
  refine pf_X7_54 hN hG (hI rfl) g_370 eM_371 dX7_init_705 ?_
  have g_372 : mT M_371 p0 = 6 := by rw [eM_371]; exact g_370
  refine V_aload_n hG 0 rfl dX7_init_708 ?_
  refine V_bipush hG 24 (by decide) dX7_init_709 ?_
  obtain ⟨g_373, h⟩ := gd_of h
  obtain ⟨M_374, eM_374, h⟩ := be_of h
  refine A_newa0 hG hEn rfl rfl (by decide) eM_374 g_373 dX7_init_711 ?_
  obtain ⟨g_375, h⟩ := gd_of h
  obtain ⟨M_376, eM_376, h⟩ := be_of h
  refine pf_X7_57 hN hG (hI rfl) g_375 eM_376 dX7_init_713 ?_
  have g_377 : mT M_376 p0 = 6 := by rw [eM_376]; exact g_375
  unfold f_X7_init_c3 at h
  refine V_aload_n hG 0 rfl dX7_init_716 ?_
  refine V_bipush hG 24 (by decide) dX7_init_717 ?_
  obtain ⟨g_378, h⟩ := gd_of h
  obtain ⟨M_379, eM_379, h⟩ := be_of h
  refine A_newa0 hG hEn rfl rfl (by decide) eM_379 g_378 dX7_init_719 ?_
  obtain ⟨g_380, h⟩ := gd_of h
  obtain ⟨M_381, eM_381, h⟩ := be_of h
  refine pf_X7_60 hN hG (hI rfl) g_380 eM_381 dX7_init_721 ?_
  have g_382 : mT M_381 p0 = 6 := by rw [eM_381]; exact g_380
  refine V_aload_n hG 0 rfl dX7_init_724 ?_
  refine V_bipush hG 6 (by decide) dX7_init_725 ?_
  obtain ⟨g_383, h⟩ := gd_of h
  obtain ⟨M_384, eM_384, h⟩ := be_of h
  refine A_newa2 hG hEn rfl rfl (by decide) eM_384 g_383 dX7_init_727 ?_
  obtain ⟨g_385, h⟩ := gd_of h
  obtain ⟨M_386, eM_386, h⟩ := be_of h
  refine pf_X7_63 hN hG (hI rfl) g_385 eM_386 dX7_init_729 ?_
  have g_387 : mT M_386 p0 = 6 := by rw [eM_386]; exact g_385
  refine V_aload_n hG 0 rfl dX7_init_732 ?_
  refine V_bipush hG 6 (by decide) dX7_init_733 ?_
  obtain ⟨g_388, h⟩ := gd_of h
  obtain ⟨M_389, eM_389, h⟩ := be_of h
  refine A_newa0 hG hEn rfl rfl (by decide) eM_389 g_388 dX7_init_735 ?_
  obtain ⟨g_390, h⟩ := gd_of h
  obtain ⟨M_391, eM_391, h⟩ := be_of h
  refine pf_X7_66 hN hG (hI rfl) g_390 eM_391 dX7_init_737 ?_
  have g_392 : mT M_391 p0 = 6 := by rw [eM_391]; exact g_390
  refine V_aload_n hG 0 rfl dX7_init_740 ?_
  refine V_bipush hG 6 (by decide) dX7_init_741 ?_
  obtain ⟨g_393, h⟩ := gd_of h
  obtain ⟨M_394, eM_394, h⟩ := be_of h
  refine A_newa0 hG hEn rfl rfl (by decide) eM_394 g_393 dX7_init_743 ?_
  obtain ⟨g_395, h⟩ := gd_of h
  obtain ⟨M_396, eM_396, h⟩ := be_of h
  refine pf_X7_69 hN hG (hI rfl) g_395 eM_396 dX7_init_745 ?_
  have g_397 : mT M_396 p0 = 6 := by rw [eM_396]; exact g_395
  refine V_aload_n hG 0 rfl dX7_init_748 ?_
  refine V_sipush hG 128 (by decide) dX7_init_749 ?_
  obtain ⟨g_398, h⟩ := gd_of h
  obtain ⟨M_399, eM_399, h⟩ := be_of h
  refine A_newa0 hG hEn rfl rfl (by decide) eM_399 g_398 dX7_init_752 ?_
  obtain ⟨g_400, h⟩ := gd_of h
  obtain ⟨M_401, eM_401, h⟩ := be_of h
  refine pf_X7_72 hN hG (hI rfl) g_400 eM_401 dX7_init_754 ?_
  have g_402 : mT M_401 p0 = 6 := by rw [eM_401]; exact g_400
  refine V_aload_n hG 0 rfl dX7_init_757 ?_
  refine V_sipush hG 128 (by decide) dX7_init_758 ?_
  obtain ⟨g_403, h⟩ := gd_of h
  obtain ⟨M_404, eM_404, h⟩ := be_of h
  refine A_newa0 hG hEn rfl rfl (by decide) eM_404 g_403 dX7_init_761 ?_
  obtain ⟨g_405, h⟩ := gd_of h
  obtain ⟨M_406, eM_406, h⟩ := be_of h
  refine pf_X7_75 hN hG (hI rfl) g_405 eM_406 dX7_init_763 ?_
  have g_407 : mT M_406 p0 = 6 := by rw [eM_406]; exact g_405
  refine V_aload_n hG 0 rfl dX7_init_766 ?_
  refine V_sipush hG 128 (by decide) dX7_init_767 ?_
  obtain ⟨g_408, h⟩ := gd_of h
  obtain ⟨M_409, eM_409, h⟩ := be_of h
  refine A_newa0 hG hEn rfl rfl (by decide) eM_409 g_408 dX7_init_770 ?_
  obtain ⟨g_410, h⟩ := gd_of h
  obtain ⟨M_411, eM_411, h⟩ := be_of h
  refine pf_X7_78 hN hG (hI rfl) g_410 eM_411 dX7_init_772 ?_
  have g_412 : mT M_411 p0 = 6 := by rw [eM_411]; exact g_410
  unfold f_X7_init_c4 at h
  refine V_aload_n hG 0 rfl dX7_init_775 ?_
  refine V_bipush hG 96 (by decide) dX7_init_776 ?_
  obtain ⟨g_413, h⟩ := gd_of h
  obtain ⟨M_414, eM_414, h⟩ := be_of h
  refine A_newa0 hG hEn rfl rfl (by decide) eM_414 g_413 dX7_init_778 ?_
  obtain ⟨g_415, h⟩ := gd_of h
  obtain ⟨M_416, eM_416, h⟩ := be_of h
  refine pf_X7_81 hN hG (hI rfl) g_415 eM_416 dX7_init_780 ?_
  have g_417 : mT M_416 p0 = 6 := by rw [eM_416]; exact g_415
  refine V_aload_n hG 0 rfl dX7_init_783 ?_
  refine V_bipush hG 96 (by decide) dX7_init_784 ?_
  obtain ⟨g_418, h⟩ := gd_of h
  obtain ⟨M_419, eM_419, h⟩ := be_of h
  refine A_newa0 hG hEn rfl rfl (by decide) eM_419 g_418 dX7_init_786 ?_
  obtain ⟨g_420, h⟩ := gd_of h
  obtain ⟨M_421, eM_421, h⟩ := be_of h
  refine pf_X7_84 hN hG (hI rfl) g_420 eM_421 dX7_init_788 ?_
  have g_422 : mT M_421 p0 = 6 := by rw [eM_421]; exact g_420
  refine V_aload_n hG 0 rfl dX7_init_791 ?_
  refine V_bipush hG 7 (by decide) dX7_init_792 ?_
  obtain ⟨g_423, h⟩ := gd_of h
  obtain ⟨M_424, eM_424, h⟩ := be_of h
  refine A_newa3 hG hEn rfl rfl (by decide) eM_424 g_423 dX7_init_794 ?_
  obtain ⟨g_425, h⟩ := gd_of h
  obtain ⟨M_426, eM_426, h⟩ := be_of h
  refine pf_X7_87 hN hG (hI rfl) g_425 eM_426 dX7_init_796 ?_
  have g_427 : mT M_426 p0 = 6 := by rw [eM_426]; exact g_425
  refine V_aload_n hG 0 rfl dX7_init_799 ?_
  refine V_bipush hG 64 (by decide) dX7_init_800 ?_
  obtain ⟨g_428, h⟩ := gd_of h
  obtain ⟨M_429, eM_429, h⟩ := be_of h
  refine A_newa3 hG hEn rfl rfl (by decide) eM_429 g_428 dX7_init_802 ?_
  obtain ⟨g_430, h⟩ := gd_of h
  obtain ⟨M_431, eM_431, h⟩ := be_of h
  refine pf_X7_91 hN hG (hI rfl) g_430 eM_431 dX7_init_804 ?_
  have g_432 : mT M_431 p0 = 6 := by rw [eM_431]; exact g_430
  refine V_aload_n hG 0 rfl dX7_init_807 ?_
  refine V_bipush hG 12 (by decide) dX7_init_808 ?_
  obtain ⟨g_433, h⟩ := gd_of h
  obtain ⟨M_434, eM_434, h⟩ := be_of h
  refine A_newa0 hG hEn rfl rfl (by decide) eM_434 g_433 dX7_init_810 ?_
  obtain ⟨g_435, h⟩ := gd_of h
  obtain ⟨M_436, eM_436, h⟩ := be_of h
  refine pf_X7_94 hN hG (hI rfl) g_435 eM_436 dX7_init_812 ?_
  have g_437 : mT M_436 p0 = 6 := by rw [eM_436]; exact g_435
  refine V_aload_n hG 0 rfl dX7_init_815 ?_
  refine V_bipush hG 12 (by decide) dX7_init_816 ?_
  obtain ⟨g_438, h⟩ := gd_of h
  obtain ⟨M_439, eM_439, h⟩ := be_of h
  refine A_newa0 hG hEn rfl rfl (by decide) eM_439 g_438 dX7_init_818 ?_
  obtain ⟨g_440, h⟩ := gd_of h
  obtain ⟨M_441, eM_441, h⟩ := be_of h
  refine pf_X7_97 hN hG (hI rfl) g_440 eM_441 dX7_init_820 ?_
  have g_442 : mT M_441 p0 = 6 := by rw [eM_441]; exact g_440
  refine V_aload_n hG 0 rfl dX7_init_823 ?_
  refine V_bipush hG 12 (by decide) dX7_init_824 ?_
  obtain ⟨g_443, h⟩ := gd_of h
  obtain ⟨M_444, eM_444, h⟩ := be_of h
  refine A_newa0 hG hEn rfl rfl (by decide) eM_444 g_443 dX7_init_826 ?_
  obtain ⟨g_445, h⟩ := gd_of h
  obtain ⟨M_446, eM_446, h⟩ := be_of h
  refine pf_X7_100 hN hG (hI rfl) g_445 eM_446 dX7_init_828 ?_
  have g_447 : mT M_446 p0 = 6 := by rw [eM_446]; exact g_445
  unfold f_X7_init_c5 at h
  refine V_aload_n hG 0 rfl dX7_init_831 ?_
  refine V_bipush hG 12 (by decide) dX7_init_832 ?_
  obtain ⟨g_448, h⟩ := gd_of h
  obtain ⟨M_449, eM_449, h⟩ := be_of h
  refine A_newa0 hG hEn rfl rfl (by decide) eM_449 g_448 dX7_init_834 ?_
  obtain ⟨g_450, h⟩ := gd_of h
  obtain ⟨M_451, eM_451, h⟩ := be_of h
  refine pf_X7_103 hN hG (hI rfl) g_450 eM_451 dX7_init_836 ?_
  have g_452 : mT M_451 p0 = 6 := by rw [eM_451]; exact g_450
  refine V_aload_n hG 0 rfl dX7_init_839 ?_
  refine V_bipush hG 12 (by decide) dX7_init_840 ?_
  obtain ⟨g_453, h⟩ := gd_of h
  obtain ⟨M_454, eM_454, h⟩ := be_of h
  refine A_newa2 hG hEn rfl rfl (by decide) eM_454 g_453 dX7_init_842 ?_
  obtain ⟨g_455, h⟩ := gd_of h
  obtain ⟨M_456, eM_456, h⟩ := be_of h
  refine pf_X7_106 hN hG (hI rfl) g_455 eM_456 dX7_init_844 ?_
  have g_457 : mT M_456 p0 = 6 := by rw [eM_456]; exact g_455
  refine V_aload_n hG 0 rfl dX7_init_847 ?_
  refine V_bipush hG 12 (by decide) dX7_init_848 ?_
  obtain ⟨g_458, h⟩ := gd_of h
  obtain ⟨M_459, eM_459, h⟩ := be_of h
  refine A_newa0 hG hEn rfl rfl (by decide) eM_459 g_458 dX7_init_850 ?_
  obtain ⟨g_460, h⟩ := gd_of h
  obtain ⟨M_461, eM_461, h⟩ := be_of h
  refine pf_X7_109 hN hG (hI rfl) g_460 eM_461 dX7_init_852 ?_
  have g_462 : mT M_461 p0 = 6 := by rw [eM_461]; exact g_460
  refine V_aload_n hG 0 rfl dX7_init_855 ?_
  refine V_bipush hG 12 (by decide) dX7_init_856 ?_
  obtain ⟨g_463, h⟩ := gd_of h
  obtain ⟨M_464, eM_464, h⟩ := be_of h
  refine A_newa0 hG hEn rfl rfl (by decide) eM_464 g_463 dX7_init_858 ?_
  obtain ⟨g_465, h⟩ := gd_of h
  obtain ⟨M_466, eM_466, h⟩ := be_of h
  refine pf_X7_112 hN hG (hI rfl) g_465 eM_466 dX7_init_860 ?_
  have g_467 : mT M_466 p0 = 6 := by rw [eM_466]; exact g_465
  refine V_aload_n hG 0 rfl dX7_init_863 ?_
  refine V_iconst hG 2 rfl dX7_init_864 ?_
  obtain ⟨g_468, h⟩ := gd_of h
  obtain ⟨M_469, eM_469, h⟩ := be_of h
  refine A_newa0 hG hEn rfl rfl (by decide) eM_469 g_468 dX7_init_865 ?_
  obtain ⟨g_470, h⟩ := gd_of h
  obtain ⟨M_471, eM_471, h⟩ := be_of h
  refine pf_X7_115 hN hG (hI rfl) g_470 eM_471 dX7_init_867 ?_
  have g_472 : mT M_471 p0 = 6 := by rw [eM_471]; exact g_470
  refine V_aload_n hG 0 rfl dX7_init_870 ?_
  refine V_iconst hG 2 rfl dX7_init_871 ?_
  obtain ⟨g_473, h⟩ := gd_of h
  obtain ⟨M_474, eM_474, h⟩ := be_of h
  refine A_newa0 hG hEn rfl rfl (by decide) eM_474 g_473 dX7_init_872 ?_
  obtain ⟨g_475, h⟩ := gd_of h
  obtain ⟨M_476, eM_476, h⟩ := be_of h
  refine pf_X7_118 hN hG (hI rfl) g_475 eM_476 dX7_init_874 ?_
  have g_477 : mT M_476 p0 = 6 := by rw [eM_476]; exact g_475
  refine V_aload_n hG 0 rfl dX7_init_877 ?_
  refine V_iconst hG 2 rfl dX7_init_878 ?_
  obtain ⟨g_478, h⟩ := gd_of h
  obtain ⟨M_479, eM_479, h⟩ := be_of h
  refine A_newa0 hG hEn rfl rfl (by decide) eM_479 g_478 dX7_init_879 ?_
  obtain ⟨g_480, h⟩ := gd_of h
  obtain ⟨M_481, eM_481, h⟩ := be_of h
  refine pf_X7_121 hN hG (hI rfl) g_480 eM_481 dX7_init_881 ?_
  have g_482 : mT M_481 p0 = 6 := by rw [eM_481]; exact g_480
  unfold f_X7_init_c6 at h
  refine V_aload_n hG 0 rfl dX7_init_884 ?_
  refine V_iconst hG 2 rfl dX7_init_885 ?_
  obtain ⟨g_483, h⟩ := gd_of h
  obtain ⟨M_484, eM_484, h⟩ := be_of h
  refine A_newa0 hG hEn rfl rfl (by decide) eM_484 g_483 dX7_init_886 ?_
  obtain ⟨g_485, h⟩ := gd_of h
  obtain ⟨M_486, eM_486, h⟩ := be_of h
  refine pf_X7_124 hN hG (hI rfl) g_485 eM_486 dX7_init_888 ?_
  have g_487 : mT M_486 p0 = 6 := by rw [eM_486]; exact g_485
  refine V_aload_n hG 0 rfl dX7_init_891 ?_
  refine V_iconst hG 2 rfl dX7_init_892 ?_
  obtain ⟨g_488, h⟩ := gd_of h
  obtain ⟨M_489, eM_489, h⟩ := be_of h
  refine A_newa0 hG hEn rfl rfl (by decide) eM_489 g_488 dX7_init_893 ?_
  obtain ⟨g_490, h⟩ := gd_of h
  obtain ⟨M_491, eM_491, h⟩ := be_of h
  refine pf_X7_127 hN hG (hI rfl) g_490 eM_491 dX7_init_895 ?_
  have g_492 : mT M_491 p0 = 6 := by rw [eM_491]; exact g_490
  refine V_aload_n hG 0 rfl dX7_init_898 ?_
  refine V_iconst hG 2 rfl dX7_init_899 ?_
  obtain ⟨g_493, h⟩ := gd_of h
  obtain ⟨M_494, eM_494, h⟩ := be_of h
  refine A_newa0 hG hEn rfl rfl (by decide) eM_494 g_493 dX7_init_900 ?_
  obtain ⟨g_495, h⟩ := gd_of h
  obtain ⟨M_496, eM_496, h⟩ := be_of h
  refine pf_X7_130 hN hG (hI rfl) g_495 eM_496 dX7_init_902 ?_
  have g_497 : mT M_496 p0 = 6 := by rw [eM_496]; exact g_495
  refine V_aload_n hG 0 rfl dX7_init_905 ?_
  refine V_bipush hG 12 (by decide) dX7_init_906 ?_
  obtain ⟨g_498, h⟩ := gd_of h
  obtain ⟨M_499, eM_499, h⟩ := be_of h
  refine A_newa0 hG hEn rfl rfl (by decide) eM_499 g_498 dX7_init_908 ?_
  obtain ⟨g_500, h⟩ := gd_of h
  obtain ⟨M_501, eM_501, h⟩ := be_of h
  refine pf_X7_133 hN hG (hI rfl) g_500 eM_501 dX7_init_910 ?_
  have g_502 : mT M_501 p0 = 6 := by rw [eM_501]; exact g_500
  refine V_aload_n hG 0 rfl dX7_init_913 ?_
  refine V_iconst hG (-1) rfl dX7_init_914 ?_
  obtain ⟨M_503, eM_503, h⟩ := be_of h
  refine pf_X7_136 hN hG g_502 eM_503 dX7_init_915 ?_
  have g_504 : mT M_503 p0 = 6 := by rw [eM_503]; exact g_502
  refine V_aload_n hG 0 rfl dX7_init_918 ?_
  refine V_bipush hG 96 (by decide) dX7_init_919 ?_
  obtain ⟨g_505, h⟩ := gd_of h
  obtain ⟨M_506, eM_506, h⟩ := be_of h
  refine A_newa0 hG hEn rfl rfl (by decide) eM_506 g_505 dX7_init_921 ?_
  obtain ⟨g_507, h⟩ := gd_of h
  obtain ⟨M_508, eM_508, h⟩ := be_of h
  refine pf_X7_139 hN hG (hI rfl) g_507 eM_508 dX7_init_923 ?_
  have g_509 : mT M_508 p0 = 6 := by rw [eM_508]; exact g_507
  refine V_aload_n hG 0 rfl dX7_init_926 ?_
  refine V_bipush hG 24 (by decide) dX7_init_927 ?_
  obtain ⟨g_510, h⟩ := gd_of h
  obtain ⟨M_511, eM_511, h⟩ := be_of h
  refine A_newa2 hG hEn rfl rfl (by decide) eM_511 g_510 dX7_init_929 ?_
  obtain ⟨g_512, h⟩ := gd_of h
  obtain ⟨M_513, eM_513, h⟩ := be_of h
  refine pf_X7_142 hN hG (hI rfl) g_512 eM_513 dX7_init_931 ?_
  have g_514 : mT M_513 p0 = 6 := by rw [eM_513]; exact g_512
  refine V_aload_n hG 0 rfl dX7_init_934 ?_
  refine V_sipush hG 360 (by decide) dX7_init_935 ?_
  obtain ⟨g_515, h⟩ := gd_of h
  obtain ⟨M_516, eM_516, h⟩ := be_of h
  refine A_newa0 hG hEn rfl rfl (by decide) eM_516 g_515 dX7_init_938 ?_
  obtain ⟨g_517, h⟩ := gd_of h
  obtain ⟨M_518, eM_518, h⟩ := be_of h
  refine pf_X7_145 hN hG (hI rfl) g_517 eM_518 dX7_init_940 ?_
  have g_519 : mT M_518 p0 = 6 := by rw [eM_518]; exact g_517
  unfold f_X7_init_c7 at h
  refine V_aload_n hG 0 rfl dX7_init_943 ?_
  refine V_bipush hG 18 (by decide) dX7_init_944 ?_
  obtain ⟨g_520, h⟩ := gd_of h
  obtain ⟨M_521, eM_521, h⟩ := be_of h
  refine A_newa0 hG hEn rfl rfl (by decide) eM_521 g_520 dX7_init_946 ?_
  obtain ⟨g_522, h⟩ := gd_of h
  obtain ⟨M_523, eM_523, h⟩ := be_of h
  refine pf_X7_148 hN hG (hI rfl) g_522 eM_523 dX7_init_948 ?_
  have g_524 : mT M_523 p0 = 6 := by rw [eM_523]; exact g_522
  refine V_aload_n hG 0 rfl dX7_init_951 ?_
  refine V_bipush hG 30 (by decide) dX7_init_952 ?_
  obtain ⟨g_525, h⟩ := gd_of h
  obtain ⟨M_526, eM_526, h⟩ := be_of h
  refine A_newa0 hG hEn rfl rfl (by decide) eM_526 g_525 dX7_init_954 ?_
  obtain ⟨g_527, h⟩ := gd_of h
  obtain ⟨M_528, eM_528, h⟩ := be_of h
  refine pf_X7_151 hN hG (hI rfl) g_527 eM_528 dX7_init_956 ?_
  have g_529 : mT M_528 p0 = 6 := by rw [eM_528]; exact g_527
  refine V_aload_n hG 0 rfl dX7_init_959 ?_
  obtain ⟨g_530, h⟩ := gd_of h
  refine V_narrow hEn (fun n1 n2 n3 => ?_)
  obtain ⟨M_532, hc_531, h⟩ := bd_of h
  refine V_callV hE hG (ci := 6) (As := []) (rest := []) (ok_f_X7_plain hE hN hc_531) g_529 (by decide) rfl hw_X7_154 hdv_X7_plain ⟨Nat.le_of_ble_eq_true rfl, Nat.le_of_ble_eq_true rfl⟩ rfl rfl (Nat.le_of_ble_eq_true rfl) ⟨by show _ + 0 ≤ LC - mN M; omega, by show _ + 0 ≤ LZ - mZ M; omega⟩ dX7_init_960 ?_
  refine V_aload_n hG 0 rfl dX7_init_963 ?_
  obtain ⟨g_533, h⟩ := gd_of h
  obtain ⟨g_534, h⟩ := gd_of h
  refine V_narrow hEn (fun n1 n2 n3 => ?_)
  obtain ⟨M_536, hc_535, h⟩ := bd_of h
  refine V_callV hE hG (ci := 6) (As := []) (rest := []) (ok_f_X7_keepText hE hN hc_535) g_533 (by decide) rfl hw_X7_157 hdv_X7_keepText ⟨Nat.le_of_ble_eq_true rfl, Nat.le_of_ble_eq_true rfl⟩ rfl rfl (Nat.le_of_ble_eq_true rfl) ⟨by show _ + 0 ≤ LC - mN M; omega, by show _ + 0 ≤ LZ - mZ M; omega⟩ dX7_init_964 ?_
  obtain ⟨g_537, h⟩ := gd_of h
  refine V_narrow hEn (fun n1 n2 n3 => V_widen (k := LC - mN M) (n := LZ - mZ M) (by omega) (by omega) ?_)
  cases h
  subst eQ
  exact V_vret hG dX7_init_967

