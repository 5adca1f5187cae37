/-! ===== the model's memory: S.1 j i: int field or element i of cell j (0: the object), S.2 the longs ===== -/
set_option maxRecDepth 100000
abbrev TS : Type := (Nat → Nat → Int32) × (Nat → Nat → Int64)
def tI (S : TS) : Nat → Nat → Int32 := S.1
def tL (S : TS) : Nat → Nat → Int64 := S.2
def tsI (S : TS) (j k : Nat) (v : Int32) : TS := (u2 (tI S) j k v, tL S)
def tsL (S : TS) (j k : Nat) (v : Int64) : TS := (tI S, u2 (tL S) j k v)
def tyL : List Nat := [9, 0, 0, 2, 0, 0, 0, 0, 0, 0, 0, 0, 0, 0, 0, 0, 0, 2, 0, 0, 0, 0, 0, 0, 0, 3, 3, 0, 0, 0, 0, 2, 0, 0, 0, 0, 0, 0, 0, 0, 0, 0, 2, 0, 0, 0]
def lnL : List Nat := [0, 700, 99, 2, 4, 12, 12, 12, 12, 12, 12, 12, 12, 12, 24, 24, 24, 6, 6, 6, 128, 128, 128, 96, 96, 7, 64, 12, 12, 12, 12, 12, 12, 12, 2, 2, 2, 2, 2, 2, 12, 96, 24, 360, 18, 30]
def tyA (j : Nat) : Nat := tyL.getD j 9
def lenA (j : Nat) : Nat := lnL.getD j 0
/-- which cell an array field leads to -/
def fldA (k : Nat) : Nat := match k with
  | 0 => 1
  | 3 => 2
  | 23 => 3
  | 24 => 4
  | 25 => 5
  | 26 => 6
  | 27 => 7
  | 28 => 8
  | 29 => 9
  | 30 => 10
  | 31 => 11
  | 32 => 12
  | 33 => 13
  | 34 => 14
  | 35 => 15
  | 36 => 16
  | 37 => 17
  | 38 => 18
  | 39 => 19
  | 40 => 20
  | 41 => 21
  | 42 => 22
  | 43 => 23
  | 44 => 24
  | 51 => 25
  | 52 => 26
  | 54 => 27
  | 55 => 28
  | 56 => 29
  | 57 => 30
  | 58 => 31
  | 59 => 32
  | 60 => 33
  | 61 => 34
  | 62 => 35
  | 63 => 36
  | 64 => 37
  | 65 => 38
  | 66 => 39
  | 73 => 40
  | 76 => 41
  | 77 => 42
  | 79 => 43
  | 81 => 44
  | 82 => 45
  | _ => 0
def tw (o : Nat) (S : TS) (M0 : Mem) : Mem := (mN M0, mT M0, mLn M0, fun a k => if o ≤ a ∧ a < o + 46 then tI S (a - o) k else mI M0 a k, fun a k => if o ≤ a ∧ a < o + 46 then tL S (a - o) k else mL M0 a k, mR M0)
def TwS (o : Nat) (M0 : Mem) : Prop := mT M0 o = 6 ∧ (∀ j, tyA j < 9 → mT M0 (o + j) = 100 + tyA j ∧ mLn M0 (o + j) = lenA j) ∧ ∀ k, fldA k ≠ 0 → mR M0 o k = some (o + fldA k)
theorem tyA_in {j : Nat} (h : tyA j < 9) : j < 46 := by
  rcases Nat.lt_or_ge j 46 with g | g
  · exact g
  · unfold tyA at h
    rw [List.getD_eq_getElem?_getD, List.getElem?_eq_none (by exact g)] at h
    exact absurd h (by decide)
theorem tw_I {o j k : Nat} {S : TS} {M0 : Mem} (h : j < 46) : mI (tw o S M0) (o + j) k = tI S j k := by
  show (if o ≤ o + j ∧ o + j < o + 46 then _ else _) = _
  rw [if_pos ⟨by omega, by omega⟩, Nat.add_sub_cancel_left]
theorem tw_L {o j k : Nat} {S : TS} {M0 : Mem} (h : j < 46) : mL (tw o S M0) (o + j) k = tL S j k := by
  show (if o ≤ o + j ∧ o + j < o + 46 then _ else _) = _
  rw [if_pos ⟨by omega, by omega⟩, Nat.add_sub_cancel_left]
theorem tw_sI {o j k : Nat} {S : TS} {M0 : Mem} {v : Int32} (h : j < 46) : sI (tw o S M0) (o + j) k v = tw o (tsI S j k v) M0 := by
  have e : u2 (mI (tw o S M0)) (o + j) k v = mI (tw o (tsI S j k v) M0) := by
    funext a b
    show (if a = o + j ∧ b = k then v else if o ≤ a ∧ a < o + 46 then tI S (a - o) b else mI M0 a b) = if o ≤ a ∧ a < o + 46 then (if a - o = j ∧ b = k then v else tI S (a - o) b) else mI M0 a b
    by_cases h1 : o ≤ a ∧ a < o + 46
    · rw [if_pos h1, if_pos h1]
      by_cases h2 : a = o + j ∧ b = k
      · rw [if_pos h2, if_pos ⟨by omega, h2.2⟩]
      · rw [if_neg h2, if_neg (fun h => h2 ⟨by omega, h.2⟩)]
    · rw [if_neg h1, if_neg h1, if_neg (fun h => h1 ⟨by omega, by omega⟩)]
  show (mN M0, mT M0, mLn M0, u2 (mI (tw o S M0)) (o + j) k v, mL (tw o S M0), mR M0) = (mN M0, mT M0, mLn M0, mI (tw o (tsI S j k v) M0), mL (tw o (tsI S j k v) M0), mR M0)
  rw [e]
  rfl
theorem tw_sL {o j k : Nat} {S : TS} {M0 : Mem} {v : Int64} (h : j < 46) : sL (tw o S M0) (o + j) k v = tw o (tsL S j k v) M0 := by
  have e : u2 (mL (tw o S M0)) (o + j) k v = mL (tw o (tsL S j k v) M0) := by
    funext a b
    show (if a = o + j ∧ b = k then v else if o ≤ a ∧ a < o + 46 then tL S (a - o) b else mL M0 a b) = if o ≤ a ∧ a < o + 46 then (if a - o = j ∧ b = k then v else tL S (a - o) b) else mL M0 a b
    by_cases h1 : o ≤ a ∧ a < o + 46
    · rw [if_pos h1, if_pos h1]
      by_cases h2 : a = o + j ∧ b = k
      · rw [if_pos h2, if_pos ⟨by omega, h2.2⟩]
      · rw [if_neg h2, if_neg (fun h => h2 ⟨by omega, h.2⟩)]
    · rw [if_neg h1, if_neg h1, if_neg (fun h => h1 ⟨by omega, by omega⟩)]
  show (mN M0, mT M0, mLn M0, mI (tw o S M0), u2 (mL (tw o S M0)) (o + j) k v, mR M0) = (mN M0, mT M0, mLn M0, mI (tw o (tsL S j k v) M0), mL (tw o (tsL S j k v) M0), mR M0)
  rw [e]
  rfl
abbrev inb (i : Int32) (n : Nat) : Prop := ¬ (i < 0 ∨ n ≤ i.toNatClampNeg)
section TR
variable {E : En} {G : Ctx} {o : Nat} {S : TS} {M0 : Mem} {cells slots nL pc : Nat} {lv lv' : List (Nat × Value)} {st : List Value} {Q : State → Prop} {cc : ByteArray} {ret : Option FieldType} {rm0 : Room}
theorem T_getI (hM : TwS o M0) (hG : Cx E G cc nL ret RX7 rm0) (k : Nat) {idx : Nat} (hk : k < 84) (hkd : (kd 6)[k]? = some 0) (q : Cond.fieldLink RX7 idx (TX7 k).1 (TX7 k).2.1 (TX7 k).2.2.1 ∈ lw_all) (d : decode cc pc = .ok (.getfield idx, 3)) (kk : V E G (tw o S M0) cells slots nL (pc + 3) lv (.int (tI S 0 k) :: st) Q) : V E G (tw o S M0) cells slots nL pc lv (rf E o :: st) Q :=
  V_getI hG (a := o) (ci := 6) (C := RX7) (T := TX7) (N := 84) hM.1 (by decide) rfl in_X7 hk hkd q d (by rw [show mI (tw o S M0) o k = tI S 0 k from tw_I (j := 0) (by decide)]; exact kk)
theorem T_getL (hM : TwS o M0) (hG : Cx E G cc nL ret RX7 rm0) (k : Nat) {idx : Nat} (hk : k < 84) (hkd : (kd 6)[k]? = some 1) (q : Cond.fieldLink RX7 idx (TX7 k).1 (TX7 k).2.1 (TX7 k).2.2.1 ∈ lw_all) (d : decode cc pc = .ok (.getfield idx, 3)) (kk : V E G (tw o S M0) cells slots nL (pc + 3) lv (.long (tL S 0 k) :: st) Q) : V E G (tw o S M0) cells slots nL pc lv (rf E o :: st) Q :=
  V_getL hG (a := o) (ci := 6) (C := RX7) (T := TX7) (N := 84) hM.1 (by decide) rfl in_X7 hk hkd q d (by rw [show mL (tw o S M0) o k = tL S 0 k from tw_L (j := 0) (by decide)]; exact kk)
theorem T_getA (hM : TwS o M0) (hG : Cx E G cc nL ret RX7 rm0) (k : Nat) {idx j : Nat} (hk : k < 84) (hj : fldA k = j) (hj0 : j ≠ 0) (hkd : (kd 6)[k]? = some 2) (q : Cond.fieldLink RX7 idx (TX7 k).1 (TX7 k).2.1 (TX7 k).2.2.1 ∈ lw_all) (d : decode cc pc = .ok (.getfield idx, 3)) (kk : V E G (tw o S M0) cells slots nL (pc + 3) lv (rf E (o + j) :: st) Q) : V E G (tw o S M0) cells slots nL pc lv (rf E o :: st) Q :=
  V_getR hG (a := o) (ci := 6) (C := RX7) (T := TX7) (N := 84) hM.1 (by decide) rfl in_X7 hk (r := o + j) (by subst hj; exact hM.2.2 k hj0) hkd q d kk
theorem T_putI (hM : TwS o M0) (hG : Cx E G cc nL ret RX7 rm0) (k : Nat) {idx : Nat} {x : Int32} {S1 : TS} (hS1 : S1 = tsI S 0 k x) (hk : k < 84) (hkd : (kd 6)[k]? = some 0) (hd : parseFieldDescriptor (TX7 k).2.2.1 = some .int) (hf : (TX7 k).2.2.2 = false) (q : Cond.fieldLink RX7 idx (TX7 k).1 (TX7 k).2.1 (TX7 k).2.2.1 ∈ lw_all) (d : decode cc pc = .ok (.putfield idx, 3)) (kk : V E G (tw o S1 M0) cells slots nL (pc + 3) lv st Q) : V E G (tw o S M0) cells slots nL pc lv (.int x :: rf E o :: st) Q :=
  V_putI (M := tw o S M0) hG (a := o) (ci := 6) (C := RX7) (T := TX7) (N := 84) hM.1 (by decide) rfl in_X7 hk tyX7 tyX7_ok nmX7 hf hd hkd q d (by rw [show sI (tw o S M0) o k x = tw o (tsI S 0 k x) M0 from tw_sI (j := 0) (by decide), ← hS1]; exact kk)
theorem T_putZ (hM : TwS o M0) (hG : Cx E G cc nL ret RX7 rm0) (k : Nat) {idx : Nat} {x : Int32} {S1 : TS} (hS1 : S1 = tsI S 0 k x) (h01 : x = 0 ∨ x = 1) (hk : k < 84) (hkd : (kd 6)[k]? = some 0) (hd : parseFieldDescriptor (TX7 k).2.2.1 = some .boolean) (hf : (TX7 k).2.2.2 = false) (q : Cond.fieldLink RX7 idx (TX7 k).1 (TX7 k).2.1 (TX7 k).2.2.1 ∈ lw_all) (d : decode cc pc = .ok (.putfield idx, 3)) (kk : V E G (tw o S1 M0) cells slots nL (pc + 3) lv st Q) : V E G (tw o S M0) cells slots nL pc lv (.int x :: rf E o :: st) Q :=
  V_putZ (M := tw o S M0) hG (a := o) (ci := 6) (C := RX7) (T := TX7) (N := 84) hM.1 (by decide) rfl in_X7 hk tyX7 tyX7_ok nmX7 hf hd h01 hkd q d (by rw [show sI (tw o S M0) o k x = tw o (tsI S 0 k x) M0 from tw_sI (j := 0) (by decide), ← hS1]; exact kk)
theorem T_putL (hM : TwS o M0) (hG : Cx E G cc nL ret RX7 rm0) (k : Nat) {idx : Nat} {x : Int64} {S1 : TS} (hS1 : S1 = tsL S 0 k x) (hk : k < 84) (hkd : (kd 6)[k]? = some 1) (hd : parseFieldDescriptor (TX7 k).2.2.1 = some .long) (hf : (TX7 k).2.2.2 = false) (q : Cond.fieldLink RX7 idx (TX7 k).1 (TX7 k).2.1 (TX7 k).2.2.1 ∈ lw_all) (d : decode cc pc = .ok (.putfield idx, 3)) (kk : V E G (tw o S1 M0) cells slots nL (pc + 3) lv st Q) : V E G (tw o S M0) cells slots nL pc lv (.long x :: rf E o :: st) Q :=
  V_putL (M := tw o S M0) hG (a := o) (ci := 6) (C := RX7) (T := TX7) (N := 84) hM.1 (by decide) rfl in_X7 hk tyX7 tyX7_ok nmX7 hf hd hkd q d (by rw [show sL (tw o S M0) o k x = tw o (tsL S 0 k x) M0 from tw_sL (j := 0) (by decide), ← hS1]; exact kk)
theorem T_iaload (hM : TwS o M0) (hG : Cx E G cc nL ret RX7 rm0) {j : Nat} {i : Int32} (ht : tyA j = 0) (hi : inb i (lenA j)) (d : decode cc pc = .ok (.iaload, 1)) (kk : V E G (tw o S M0) cells slots nL (pc + 1) lv (.int (tI S j i.toNatClampNeg) :: st) Q) : V E G (tw o S M0) cells slots nL pc lv (.int i :: rf E (o + j) :: st) Q := by
  have h9 : tyA j < 9 := by rw [ht]; decide
  obtain ⟨g1, g2⟩ := hM.2.1 j h9
  rw [ht] at g1
  exact V_iaload (M := tw o S M0) hG (a := o + j) g1 (by show ¬ (i < 0 ∨ mLn M0 (o + j) ≤ _); rw [g2]; exact hi) d (by rw [show mI (tw o S M0) (o + j) i.toNatClampNeg = tI S j i.toNatClampNeg from tw_I (tyA_in h9)]; exact kk)
theorem T_zaload (hM : TwS o M0) (hG : Cx E G cc nL ret RX7 rm0) {j : Nat} {i : Int32} (ht : tyA j = 2) (hi : inb i (lenA j)) (d : decode cc pc = .ok (.baload, 1)) (kk : V E G (tw o S M0) cells slots nL (pc + 1) lv (.int (tI S j i.toNatClampNeg) :: st) Q) : V E G (tw o S M0) cells slots nL pc lv (.int i :: rf E (o + j) :: st) Q := by
  have h9 : tyA j < 9 := by rw [ht]; decide
  obtain ⟨g1, g2⟩ := hM.2.1 j h9
  rw [ht] at g1
  exact V_zaload (M := tw o S M0) hG (a := o + j) g1 (by show ¬ (i < 0 ∨ mLn M0 (o + j) ≤ _); rw [g2]; exact hi) d (by rw [show mI (tw o S M0) (o + j) i.toNatClampNeg = tI S j i.toNatClampNeg from tw_I (tyA_in h9)]; exact kk)
theorem T_laload (hM : TwS o M0) (hG : Cx E G cc nL ret RX7 rm0) {j : Nat} {i : Int32} (ht : tyA j = 3) (hi : inb i (lenA j)) (d : decode cc pc = .ok (.laload, 1)) (kk : V E G (tw o S M0) cells slots nL (pc + 1) lv (.long (tL S j i.toNatClampNeg) :: st) Q) : V E G (tw o S M0) cells slots nL pc lv (.int i :: rf E (o + j) :: st) Q := by
  have h9 : tyA j < 9 := by rw [ht]; decide
  obtain ⟨g1, g2⟩ := hM.2.1 j h9
  rw [ht] at g1
  exact V_laload (M := tw o S M0) hG (a := o + j) g1 (by show ¬ (i < 0 ∨ mLn M0 (o + j) ≤ _); rw [g2]; exact hi) d (by rw [show mL (tw o S M0) (o + j) i.toNatClampNeg = tL S j i.toNatClampNeg from tw_L (tyA_in h9)]; exact kk)
theorem T_iastore (hM : TwS o M0) (hG : Cx E G cc nL ret RX7 rm0) {j : Nat} {i : Int32} {x : Int32} {S1 : TS} (hS1 : S1 = tsI S j i.toNatClampNeg x)  (ht : tyA j = 0) (hi : inb i (lenA j)) (d : decode cc pc = .ok (.iastore, 1)) (kk : V E G (tw o S1 M0) cells slots nL (pc + 1) lv st Q) : V E G (tw o S M0) cells slots nL pc lv (.int x :: .int i :: rf E (o + j) :: st) Q := by
  have h9 : tyA j < 9 := by rw [ht]; decide
  obtain ⟨g1, g2⟩ := hM.2.1 j h9
  rw [ht] at g1
  exact V_iastore (M := tw o S M0) hG (a := o + j) g1 (by show ¬ (i < 0 ∨ mLn M0 (o + j) ≤ _); rw [g2]; exact hi)  d (by rw [show sI (tw o S M0) (o + j) i.toNatClampNeg x = tw o (tsI S j i.toNatClampNeg x) M0 from tw_sI (tyA_in h9), ← hS1]; exact kk)
theorem T_zastore (hM : TwS o M0) (hG : Cx E G cc nL ret RX7 rm0) {j : Nat} {i : Int32} {x : Int32} {S1 : TS} (hS1 : S1 = tsI S j i.toNatClampNeg x) (h01 : x = 0 ∨ x = 1) (ht : tyA j = 2) (hi : inb i (lenA j)) (d : decode cc pc = .ok (.bastore, 1)) (kk : V E G (tw o S1 M0) cells slots nL (pc + 1) lv st Q) : V E G (tw o S M0) cells slots nL pc lv (.int x :: .int i :: rf E (o + j) :: st) Q := by
  have h9 : tyA j < 9 := by rw [ht]; decide
  obtain ⟨g1, g2⟩ := hM.2.1 j h9
  rw [ht] at g1
  exact V_zastore (M := tw o S M0) hG (a := o + j) g1 (by show ¬ (i < 0 ∨ mLn M0 (o + j) ≤ _); rw [g2]; exact hi) h01 d (by rw [show sI (tw o S M0) (o + j) i.toNatClampNeg x = tw o (tsI S j i.toNatClampNeg x) M0 from tw_sI (tyA_in h9), ← hS1]; exact kk)
theorem T_lastore (hM : TwS o M0) (hG : Cx E G cc nL ret RX7 rm0) {j : Nat} {i : Int32} {x : Int64} {S1 : TS} (hS1 : S1 = tsL S j i.toNatClampNeg x)  (ht : tyA j = 3) (hi : inb i (lenA j)) (d : decode cc pc = .ok (.lastore, 1)) (kk : V E G (tw o S1 M0) cells slots nL (pc + 1) lv st Q) : V E G (tw o S M0) cells slots nL pc lv (.long x :: .int i :: rf E (o + j) :: st) Q := by
  have h9 : tyA j < 9 := by rw [ht]; decide
  obtain ⟨g1, g2⟩ := hM.2.1 j h9
  rw [ht] at g1
  exact V_lastore (M := tw o S M0) hG (a := o + j) g1 (by show ¬ (i < 0 ∨ mLn M0 (o + j) ≤ _); rw [g2]; exact hi)  d (by rw [show sL (tw o S M0) (o + j) i.toNatClampNeg x = tw o (tsL S j i.toNatClampNeg x) M0 from tw_sL (tyA_in h9), ← hS1]; exact kk)
theorem T_alen (hM : TwS o M0) (hG : Cx E G cc nL ret RX7 rm0) {j : Nat} (ht : tyA j < 7) (d : decode cc pc = .ok (.arraylength, 1)) (kk : V E G (tw o S M0) cells slots nL (pc + 1) lv (.int (Int32.ofNat (lenA j)) :: st) Q) : V E G (tw o S M0) cells slots nL pc lv (rf E (o + j) :: st) Q := by
  obtain ⟨g1, g2⟩ := hM.2.1 j (by omega)
  exact V_alen hG (a := o + j) (t := tyA j) g1 ht d (by rw [show mLn (tw o S M0) (o + j) = lenA j from g2]; exact kk)
theorem g7_7 (hM : TwS o M0) (hG : Cx E G cc nL ret RX7 rm0) (d : decode cc pc = .ok (.getfield 7, 3)) (kk : V E G (tw o S M0) cells slots nL (pc + 3) lv (rf E (o + 1) :: st) Q) : V E G (tw o S M0) cells slots nL pc lv (rf E o :: st) Q := T_getA hM hG 0 (by decide) rfl (by decide) rfl q1561 d kk
theorem g7_13 (hM : TwS o M0) (hG : Cx E G cc nL ret RX7 rm0) (d : decode cc pc = .ok (.getfield 13, 3)) (kk : V E G (tw o S M0) cells slots nL (pc + 3) lv (rf E (o + 2) :: st) Q) : V E G (tw o S M0) cells slots nL pc lv (rf E o :: st) Q := T_getA hM hG 3 (by decide) rfl (by decide) rfl q1564 d kk
theorem g7_16 (hM : TwS o M0) (hG : Cx E G cc nL ret RX7 rm0) (d : decode cc pc = .ok (.getfield 16, 3)) (kk : V E G (tw o S M0) cells slots nL (pc + 3) lv (.int (tI S 0 5) :: st) Q) : V E G (tw o S M0) cells slots nL pc lv (rf E o :: st) Q := T_getI hM hG 5 (by decide) rfl q1566 d kk
theorem p7_16 (hM : TwS o M0) (hG : Cx E G cc nL ret RX7 rm0) {x : Int32} {S1 : TS} (hS1 : S1 = tsI S 0 5 x) (d : decode cc pc = .ok (.putfield 16, 3)) (kk : V E G (tw o S1 M0) cells slots nL (pc + 3) lv st Q) : V E G (tw o S M0) cells slots nL pc lv (.int x :: rf E o :: st) Q := T_putI hM hG 5 hS1 (by decide) rfl (by decide +kernel) rfl q1566 d kk
theorem g7_20 (hM : TwS o M0) (hG : Cx E G cc nL ret RX7 rm0) (d : decode cc pc = .ok (.getfield 20, 3)) (kk : V E G (tw o S M0) cells slots nL (pc + 3) lv (rf E (o + 3) :: st) Q) : V E G (tw o S M0) cells slots nL pc lv (rf E o :: st) Q := T_getA hM hG 23 (by decide) rfl (by decide) rfl q1584 d kk
theorem g7_24 (hM : TwS o M0) (hG : Cx E G cc nL ret RX7 rm0) (d : decode cc pc = .ok (.getfield 24, 3)) (kk : V E G (tw o S M0) cells slots nL (pc + 3) lv (rf E (o + 4) :: st) Q) : V E G (tw o S M0) cells slots nL pc lv (rf E o :: st) Q := T_getA hM hG 24 (by decide) rfl (by decide) rfl q1585 d kk
theorem g7_27 (hM : TwS o M0) (hG : Cx E G cc nL ret RX7 rm0) (d : decode cc pc = .ok (.getfield 27, 3)) (kk : V E G (tw o S M0) cells slots nL (pc + 3) lv (rf E (o + 5) :: st) Q) : V E G (tw o S M0) cells slots nL pc lv (rf E o :: st) Q := T_getA hM hG 25 (by decide) rfl (by decide) rfl q1586 d kk
theorem g7_30 (hM : TwS o M0) (hG : Cx E G cc nL ret RX7 rm0) (d : decode cc pc = .ok (.getfield 30, 3)) (kk : V E G (tw o S M0) cells slots nL (pc + 3) lv (rf E (o + 6) :: st) Q) : V E G (tw o S M0) cells slots nL pc lv (rf E o :: st) Q := T_getA hM hG 26 (by decide) rfl (by decide) rfl q1587 d kk
theorem g7_33 (hM : TwS o M0) (hG : Cx E G cc nL ret RX7 rm0) (d : decode cc pc = .ok (.getfield 33, 3)) (kk : V E G (tw o S M0) cells slots nL (pc + 3) lv (rf E (o + 7) :: st) Q) : V E G (tw o S M0) cells slots nL pc lv (rf E o :: st) Q := T_getA hM hG 27 (by decide) rfl (by decide) rfl q1588 d kk
theorem g7_36 (hM : TwS o M0) (hG : Cx E G cc nL ret RX7 rm0) (d : decode cc pc = .ok (.getfield 36, 3)) (kk : V E G (tw o S M0) cells slots nL (pc + 3) lv (rf E (o + 8) :: st) Q) : V E G (tw o S M0) cells slots nL pc lv (rf E o :: st) Q := T_getA hM hG 28 (by decide) rfl (by decide) rfl q1589 d kk
theorem g7_39 (hM : TwS o M0) (hG : Cx E G cc nL ret RX7 rm0) (d : decode cc pc = .ok (.getfield 39, 3)) (kk : V E G (tw o S M0) cells slots nL (pc + 3) lv (rf E (o + 9) :: st) Q) : V E G (tw o S M0) cells slots nL pc lv (rf E o :: st) Q := T_getA hM hG 29 (by decide) rfl (by decide) rfl q1590 d kk
theorem g7_42 (hM : TwS o M0) (hG : Cx E G cc nL ret RX7 rm0) (d : decode cc pc = .ok (.getfield 42, 3)) (kk : V E G (tw o S M0) cells slots nL (pc + 3) lv (rf E (o + 10) :: st) Q) : V E G (tw o S M0) cells slots nL pc lv (rf E o :: st) Q := T_getA hM hG 30 (by decide) rfl (by decide) rfl q1591 d kk
theorem g7_45 (hM : TwS o M0) (hG : Cx E G cc nL ret RX7 rm0) (d : decode cc pc = .ok (.getfield 45, 3)) (kk : V E G (tw o S M0) cells slots nL (pc + 3) lv (rf E (o + 11) :: st) Q) : V E G (tw o S M0) cells slots nL pc lv (rf E o :: st) Q := T_getA hM hG 31 (by decide) rfl (by decide) rfl q1592 d kk
theorem g7_48 (hM : TwS o M0) (hG : Cx E G cc nL ret RX7 rm0) (d : decode cc pc = .ok (.getfield 48, 3)) (kk : V E G (tw o S M0) cells slots nL (pc + 3) lv (rf E (o + 12) :: st) Q) : V E G (tw o S M0) cells slots nL pc lv (rf E o :: st) Q := T_getA hM hG 32 (by decide) rfl (by decide) rfl q1593 d kk
theorem g7_51 (hM : TwS o M0) (hG : Cx E G cc nL ret RX7 rm0) (d : decode cc pc = .ok (.getfield 51, 3)) (kk : V E G (tw o S M0) cells slots nL (pc + 3) lv (rf E (o + 13) :: st) Q) : V E G (tw o S M0) cells slots nL pc lv (rf E o :: st) Q := T_getA hM hG 33 (by decide) rfl (by decide) rfl q1594 d kk
theorem g7_54 (hM : TwS o M0) (hG : Cx E G cc nL ret RX7 rm0) (d : decode cc pc = .ok (.getfield 54, 3)) (kk : V E G (tw o S M0) cells slots nL (pc + 3) lv (rf E (o + 14) :: st) Q) : V E G (tw o S M0) cells slots nL pc lv (rf E o :: st) Q := T_getA hM hG 34 (by decide) rfl (by decide) rfl q1595 d kk
theorem g7_57 (hM : TwS o M0) (hG : Cx E G cc nL ret RX7 rm0) (d : decode cc pc = .ok (.getfield 57, 3)) (kk : V E G (tw o S M0) cells slots nL (pc + 3) lv (rf E (o + 15) :: st) Q) : V E G (tw o S M0) cells slots nL pc lv (rf E o :: st) Q := T_getA hM hG 35 (by decide) rfl (by decide) rfl q1596 d kk
theorem g7_60 (hM : TwS o M0) (hG : Cx E G cc nL ret RX7 rm0) (d : decode cc pc = .ok (.getfield 60, 3)) (kk : V E G (tw o S M0) cells slots nL (pc + 3) lv (rf E (o + 16) :: st) Q) : V E G (tw o S M0) cells slots nL pc lv (rf E o :: st) Q := T_getA hM hG 36 (by decide) rfl (by decide) rfl q1597 d kk
theorem g7_63 (hM : TwS o M0) (hG : Cx E G cc nL ret RX7 rm0) (d : decode cc pc = .ok (.getfield 63, 3)) (kk : V E G (tw o S M0) cells slots nL (pc + 3) lv (rf E (o + 17) :: st) Q) : V E G (tw o S M0) cells slots nL pc lv (rf E o :: st) Q := T_getA hM hG 37 (by decide) rfl (by decide) rfl q1598 d kk
theorem g7_66 (hM : TwS o M0) (hG : Cx E G cc nL ret RX7 rm0) (d : decode cc pc = .ok (.getfield 66, 3)) (kk : V E G (tw o S M0) cells slots nL (pc + 3) lv (rf E (o + 18) :: st) Q) : V E G (tw o S M0) cells slots nL pc lv (rf E o :: st) Q := T_getA hM hG 38 (by decide) rfl (by decide) rfl q1599 d kk
theorem g7_69 (hM : TwS o M0) (hG : Cx E G cc nL ret RX7 rm0) (d : decode cc pc = .ok (.getfield 69, 3)) (kk : V E G (tw o S M0) cells slots nL (pc + 3) lv (rf E (o + 19) :: st) Q) : V E G (tw o S M0) cells slots nL pc lv (rf E o :: st) Q := T_getA hM hG 39 (by decide) rfl (by decide) rfl q1600 d kk
theorem g7_72 (hM : TwS o M0) (hG : Cx E G cc nL ret RX7 rm0) (d : decode cc pc = .ok (.getfield 72, 3)) (kk : V E G (tw o S M0) cells slots nL (pc + 3) lv (rf E (o + 20) :: st) Q) : V E G (tw o S M0) cells slots nL pc lv (rf E o :: st) Q := T_getA hM hG 40 (by decide) rfl (by decide) rfl q1601 d kk
theorem g7_75 (hM : TwS o M0) (hG : Cx E G cc nL ret RX7 rm0) (d : decode cc pc = .ok (.getfield 75, 3)) (kk : V E G (tw o S M0) cells slots nL (pc + 3) lv (rf E (o + 21) :: st) Q) : V E G (tw o S M0) cells slots nL pc lv (rf E o :: st) Q := T_getA hM hG 41 (by decide) rfl (by decide) rfl q1602 d kk
theorem g7_78 (hM : TwS o M0) (hG : Cx E G cc nL ret RX7 rm0) (d : decode cc pc = .ok (.getfield 78, 3)) (kk : V E G (tw o S M0) cells slots nL (pc + 3) lv (rf E (o + 22) :: st) Q) : V E G (tw o S M0) cells slots nL pc lv (rf E o :: st) Q := T_getA hM hG 42 (by decide) rfl (by decide) rfl q1603 d kk
theorem g7_81 (hM : TwS o M0) (hG : Cx E G cc nL ret RX7 rm0) (d : decode cc pc = .ok (.getfield 81, 3)) (kk : V E G (tw o S M0) cells slots nL (pc + 3) lv (rf E (o + 23) :: st) Q) : V E G (tw o S M0) cells slots nL pc lv (rf E o :: st) Q := T_getA hM hG 43 (by decide) rfl (by decide) rfl q1604 d kk
theorem g7_84 (hM : TwS o M0) (hG : Cx E G cc nL ret RX7 rm0) (d : decode cc pc = .ok (.getfield 84, 3)) (kk : V E G (tw o S M0) cells slots nL (pc + 3) lv (rf E (o + 24) :: st) Q) : V E G (tw o S M0) cells slots nL pc lv (rf E o :: st) Q := T_getA hM hG 44 (by decide) rfl (by decide) rfl q1605 d kk
theorem g7_87 (hM : TwS o M0) (hG : Cx E G cc nL ret RX7 rm0) (d : decode cc pc = .ok (.getfield 87, 3)) (kk : V E G (tw o S M0) cells slots nL (pc + 3) lv (rf E (o + 25) :: st) Q) : V E G (tw o S M0) cells slots nL pc lv (rf E o :: st) Q := T_getA hM hG 51 (by decide) rfl (by decide) rfl q1612 d kk
theorem g7_91 (hM : TwS o M0) (hG : Cx E G cc nL ret RX7 rm0) (d : decode cc pc = .ok (.getfield 91, 3)) (kk : V E G (tw o S M0) cells slots nL (pc + 3) lv (rf E (o + 26) :: st) Q) : V E G (tw o S M0) cells slots nL pc lv (rf E o :: st) Q := T_getA hM hG 52 (by decide) rfl (by decide) rfl q1613 d kk
theorem g7_94 (hM : TwS o M0) (hG : Cx E G cc nL ret RX7 rm0) (d : decode cc pc = .ok (.getfield 94, 3)) (kk : V E G (tw o S M0) cells slots nL (pc + 3) lv (rf E (o + 27) :: st) Q) : V E G (tw o S M0) cells slots nL pc lv (rf E o :: st) Q := T_getA hM hG 54 (by decide) rfl (by decide) rfl q1615 d kk
theorem g7_97 (hM : TwS o M0) (hG : Cx E G cc nL ret RX7 rm0) (d : decode cc pc = .ok (.getfield 97, 3)) (kk : V E G (tw o S M0) cells slots nL (pc + 3) lv (rf E (o + 28) :: st) Q) : V E G (tw o S M0) cells slots nL pc lv (rf E o :: st) Q := T_getA hM hG 55 (by decide) rfl (by decide) rfl q1616 d kk
theorem g7_100 (hM : TwS o M0) (hG : Cx E G cc nL ret RX7 rm0) (d : decode cc pc = .ok (.getfield 100, 3)) (kk : V E G (tw o S M0) cells slots nL (pc + 3) lv (rf E (o + 29) :: st) Q) : V E G (tw o S M0) cells slots nL pc lv (rf E o :: st) Q := T_getA hM hG 56 (by decide) rfl (by decide) rfl q1617 d kk
theorem g7_103 (hM : TwS o M0) (hG : Cx E G cc nL ret RX7 rm0) (d : decode cc pc = .ok (.getfield 103, 3)) (kk : V E G (tw o S M0) cells slots nL (pc + 3) lv (rf E (o + 30) :: st) Q) : V E G (tw o S M0) cells slots nL pc lv (rf E o :: st) Q := T_getA hM hG 57 (by decide) rfl (by decide) rfl q1618 d kk
theorem g7_106 (hM : TwS o M0) (hG : Cx E G cc nL ret RX7 rm0) (d : decode cc pc = .ok (.getfield 106, 3)) (kk : V E G (tw o S M0) cells slots nL (pc + 3) lv (rf E (o + 31) :: st) Q) : V E G (tw o S M0) cells slots nL pc lv (rf E o :: st) Q := T_getA hM hG 58 (by decide) rfl (by decide) rfl q1619 d kk
theorem g7_109 (hM : TwS o M0) (hG : Cx E G cc nL ret RX7 rm0) (d : decode cc pc = .ok (.getfield 109, 3)) (kk : V E G (tw o S M0) cells slots nL (pc + 3) lv (rf E (o + 32) :: st) Q) : V E G (tw o S M0) cells slots nL pc lv (rf E o :: st) Q := T_getA hM hG 59 (by decide) rfl (by decide) rfl q1620 d kk
theorem g7_112 (hM : TwS o M0) (hG : Cx E G cc nL ret RX7 rm0) (d : decode cc pc = .ok (.getfield 112, 3)) (kk : V E G (tw o S M0) cells slots nL (pc + 3) lv (rf E (o + 33) :: st) Q) : V E G (tw o S M0) cells slots nL pc lv (rf E o :: st) Q := T_getA hM hG 60 (by decide) rfl (by decide) rfl q1621 d kk
theorem g7_115 (hM : TwS o M0) (hG : Cx E G cc nL ret RX7 rm0) (d : decode cc pc = .ok (.getfield 115, 3)) (kk : V E G (tw o S M0) cells slots nL (pc + 3) lv (rf E (o + 34) :: st) Q) : V E G (tw o S M0) cells slots nL pc lv (rf E o :: st) Q := T_getA hM hG 61 (by decide) rfl (by decide) rfl q1622 d kk
theorem g7_118 (hM : TwS o M0) (hG : Cx E G cc nL ret RX7 rm0) (d : decode cc pc = .ok (.getfield 118, 3)) (kk : V E G (tw o S M0) cells slots nL (pc + 3) lv (rf E (o + 35) :: st) Q) : V E G (tw o S M0) cells slots nL pc lv (rf E o :: st) Q := T_getA hM hG 62 (by decide) rfl (by decide) rfl q1623 d kk
theorem g7_121 (hM : TwS o M0) (hG : Cx E G cc nL ret RX7 rm0) (d : decode cc pc = .ok (.getfield 121, 3)) (kk : V E G (tw o S M0) cells slots nL (pc + 3) lv (rf E (o + 36) :: st) Q) : V E G (tw o S M0) cells slots nL pc lv (rf E o :: st) Q := T_getA hM hG 63 (by decide) rfl (by decide) rfl q1624 d kk
theorem g7_124 (hM : TwS o M0) (hG : Cx E G cc nL ret RX7 rm0) (d : decode cc pc = .ok (.getfield 124, 3)) (kk : V E G (tw o S M0) cells slots nL (pc + 3) lv (rf E (o + 37) :: st) Q) : V E G (tw o S M0) cells slots nL pc lv (rf E o :: st) Q := T_getA hM hG 64 (by decide) rfl (by decide) rfl q1625 d kk
theorem g7_127 (hM : TwS o M0) (hG : Cx E G cc nL ret RX7 rm0) (d : decode cc pc = .ok (.getfield 127, 3)) (kk : V E G (tw o S M0) cells slots nL (pc + 3) lv (rf E (o + 38) :: st) Q) : V E G (tw o S M0) cells slots nL pc lv (rf E o :: st) Q := T_getA hM hG 65 (by decide) rfl (by decide) rfl q1626 d kk
theorem g7_130 (hM : TwS o M0) (hG : Cx E G cc nL ret RX7 rm0) (d : decode cc pc = .ok (.getfield 130, 3)) (kk : V E G (tw o S M0) cells slots nL (pc + 3) lv (rf E (o + 39) :: st) Q) : V E G (tw o S M0) cells slots nL pc lv (rf E o :: st) Q := T_getA hM hG 66 (by decide) rfl (by decide) rfl q1627 d kk
theorem g7_133 (hM : TwS o M0) (hG : Cx E G cc nL ret RX7 rm0) (d : decode cc pc = .ok (.getfield 133, 3)) (kk : V E G (tw o S M0) cells slots nL (pc + 3) lv (rf E (o + 40) :: st) Q) : V E G (tw o S M0) cells slots nL pc lv (rf E o :: st) Q := T_getA hM hG 73 (by decide) rfl (by decide) rfl q1634 d kk
theorem g7_136 (hM : TwS o M0) (hG : Cx E G cc nL ret RX7 rm0) (d : decode cc pc = .ok (.getfield 136, 3)) (kk : V E G (tw o S M0) cells slots nL (pc + 3) lv (.int (tI S 0 75) :: st) Q) : V E G (tw o S M0) cells slots nL pc lv (rf E o :: st) Q := T_getI hM hG 75 (by decide) rfl q1636 d kk
theorem p7_136 (hM : TwS o M0) (hG : Cx E G cc nL ret RX7 rm0) {x : Int32} {S1 : TS} (hS1 : S1 = tsI S 0 75 x) (d : decode cc pc = .ok (.putfield 136, 3)) (kk : V E G (tw o S1 M0) cells slots nL (pc + 3) lv st Q) : V E G (tw o S M0) cells slots nL pc lv (.int x :: rf E o :: st) Q := T_putI hM hG 75 hS1 (by decide) rfl (by decide +kernel) rfl q1636 d kk
theorem g7_139 (hM : TwS o M0) (hG : Cx E G cc nL ret RX7 rm0) (d : decode cc pc = .ok (.getfield 139, 3)) (kk : V E G (tw o S M0) cells slots nL (pc + 3) lv (rf E (o + 41) :: st) Q) : V E G (tw o S M0) cells slots nL pc lv (rf E o :: st) Q := T_getA hM hG 76 (by decide) rfl (by decide) rfl q1637 d kk
theorem g7_142 (hM : TwS o M0) (hG : Cx E G cc nL ret RX7 rm0) (d : decode cc pc = .ok (.getfield 142, 3)) (kk : V E G (tw o S M0) cells slots nL (pc + 3) lv (rf E (o + 42) :: st) Q) : V E G (tw o S M0) cells slots nL pc lv (rf E o :: st) Q := T_getA hM hG 77 (by decide) rfl (by decide) rfl q1638 d kk
theorem g7_145 (hM : TwS o M0) (hG : Cx E G cc nL ret RX7 rm0) (d : decode cc pc = .ok (.getfield 145, 3)) (kk : V E G (tw o S M0) cells slots nL (pc + 3) lv (rf E (o + 43) :: st) Q) : V E G (tw o S M0) cells slots nL pc lv (rf E o :: st) Q := T_getA hM hG 79 (by decide) rfl (by decide) rfl q1640 d kk
theorem g7_148 (hM : TwS o M0) (hG : Cx E G cc nL ret RX7 rm0) (d : decode cc pc = .ok (.getfield 148, 3)) (kk : V E G (tw o S M0) cells slots nL (pc + 3) lv (rf E (o + 44) :: st) Q) : V E G (tw o S M0) cells slots nL pc lv (rf E o :: st) Q := T_getA hM hG 81 (by decide) rfl (by decide) rfl q1642 d kk
theorem g7_151 (hM : TwS o M0) (hG : Cx E G cc nL ret RX7 rm0) (d : decode cc pc = .ok (.getfield 151, 3)) (kk : V E G (tw o S M0) cells slots nL (pc + 3) lv (rf E (o + 45) :: st) Q) : V E G (tw o S M0) cells slots nL pc lv (rf E o :: st) Q := T_getA hM hG 82 (by decide) rfl (by decide) rfl q1643 d kk
theorem g7_160 (hM : TwS o M0) (hG : Cx E G cc nL ret RX7 rm0) (d : decode cc pc = .ok (.getfield 160, 3)) (kk : V E G (tw o S M0) cells slots nL (pc + 3) lv (.int (tI S 0 2) :: st) Q) : V E G (tw o S M0) cells slots nL pc lv (rf E o :: st) Q := T_getI hM hG 2 (by decide) rfl q1563 d kk
theorem p7_160 (hM : TwS o M0) (hG : Cx E G cc nL ret RX7 rm0) {x : Int32} {S1 : TS} (hS1 : S1 = tsI S 0 2 x) (d : decode cc pc = .ok (.putfield 160, 3)) (kk : V E G (tw o S1 M0) cells slots nL (pc + 3) lv st Q) : V E G (tw o S M0) cells slots nL pc lv (.int x :: rf E o :: st) Q := T_putI hM hG 2 hS1 (by decide) rfl (by decide +kernel) rfl q1563 d kk
theorem g7_163 (hM : TwS o M0) (hG : Cx E G cc nL ret RX7 rm0) (d : decode cc pc = .ok (.getfield 163, 3)) (kk : V E G (tw o S M0) cells slots nL (pc + 3) lv (.int (tI S 0 1) :: st) Q) : V E G (tw o S M0) cells slots nL pc lv (rf E o :: st) Q := T_getI hM hG 1 (by decide) rfl q1562 d kk
theorem p7_163 (hM : TwS o M0) (hG : Cx E G cc nL ret RX7 rm0) {x : Int32} {S1 : TS} (hS1 : S1 = tsI S 0 1 x) (d : decode cc pc = .ok (.putfield 163, 3)) (kk : V E G (tw o S1 M0) cells slots nL (pc + 3) lv st Q) : V E G (tw o S M0) cells slots nL pc lv (.int x :: rf E o :: st) Q := T_putI hM hG 1 hS1 (by decide) rfl (by decide +kernel) rfl q1562 d kk
theorem g7_166 (hM : TwS o M0) (hG : Cx E G cc nL ret RX7 rm0) (d : decode cc pc = .ok (.getfield 166, 3)) (kk : V E G (tw o S M0) cells slots nL (pc + 3) lv (.int (tI S 0 4) :: st) Q) : V E G (tw o S M0) cells slots nL pc lv (rf E o :: st) Q := T_getI hM hG 4 (by decide) rfl q1565 d kk
theorem p7_166 (hM : TwS o M0) (hG : Cx E G cc nL ret RX7 rm0) {x : Int32} {S1 : TS} (hS1 : S1 = tsI S 0 4 x) (d : decode cc pc = .ok (.putfield 166, 3)) (kk : V E G (tw o S1 M0) cells slots nL (pc + 3) lv st Q) : V E G (tw o S M0) cells slots nL pc lv (.int x :: rf E o :: st) Q := T_putI hM hG 4 hS1 (by decide) rfl (by decide +kernel) rfl q1565 d kk
theorem g7_169 (hM : TwS o M0) (hG : Cx E G cc nL ret RX7 rm0) (d : decode cc pc = .ok (.getfield 169, 3)) (kk : V E G (tw o S M0) cells slots nL (pc + 3) lv (.int (tI S 0 10) :: st) Q) : V E G (tw o S M0) cells slots nL pc lv (rf E o :: st) Q := T_getI hM hG 10 (by decide) rfl q1571 d kk
theorem p7_169 (hM : TwS o M0) (hG : Cx E G cc nL ret RX7 rm0) {x : Int32} {S1 : TS} (hS1 : S1 = tsI S 0 10 x) (d : decode cc pc = .ok (.putfield 169, 3)) (kk : V E G (tw o S1 M0) cells slots nL (pc + 3) lv st Q) : V E G (tw o S M0) cells slots nL pc lv (.int x :: rf E o :: st) Q := T_putI hM hG 10 hS1 (by decide) rfl (by decide +kernel) rfl q1571 d kk
theorem g7_172 (hM : TwS o M0) (hG : Cx E G cc nL ret RX7 rm0) (d : decode cc pc = .ok (.getfield 172, 3)) (kk : V E G (tw o S M0) cells slots nL (pc + 3) lv (.int (tI S 0 6) :: st) Q) : V E G (tw o S M0) cells slots nL pc lv (rf E o :: st) Q := T_getI hM hG 6 (by decide) rfl q1567 d kk
theorem p7_172 (hM : TwS o M0) (hG : Cx E G cc nL ret RX7 rm0) {x : Int32} {S1 : TS} (hS1 : S1 = tsI S 0 6 x) (d : decode cc pc = .ok (.putfield 172, 3)) (kk : V E G (tw o S1 M0) cells slots nL (pc + 3) lv st Q) : V E G (tw o S M0) cells slots nL pc lv (.int x :: rf E o :: st) Q := T_putI hM hG 6 hS1 (by decide) rfl (by decide +kernel) rfl q1567 d kk
theorem g7_175 (hM : TwS o M0) (hG : Cx E G cc nL ret RX7 rm0) (d : decode cc pc = .ok (.getfield 175, 3)) (kk : V E G (tw o S M0) cells slots nL (pc + 3) lv (.int (tI S 0 7) :: st) Q) : V E G (tw o S M0) cells slots nL pc lv (rf E o :: st) Q := T_getI hM hG 7 (by decide) rfl q1568 d kk
theorem p7_175 (hM : TwS o M0) (hG : Cx E G cc nL ret RX7 rm0) {x : Int32} {S1 : TS} (hS1 : S1 = tsI S 0 7 x) (d : decode cc pc = .ok (.putfield 175, 3)) (kk : V E G (tw o S1 M0) cells slots nL (pc + 3) lv st Q) : V E G (tw o S M0) cells slots nL pc lv (.int x :: rf E o :: st) Q := T_putI hM hG 7 hS1 (by decide) rfl (by decide +kernel) rfl q1568 d kk
theorem g7_178 (hM : TwS o M0) (hG : Cx E G cc nL ret RX7 rm0) (d : decode cc pc = .ok (.getfield 178, 3)) (kk : V E G (tw o S M0) cells slots nL (pc + 3) lv (.int (tI S 0 8) :: st) Q) : V E G (tw o S M0) cells slots nL pc lv (rf E o :: st) Q := T_getI hM hG 8 (by decide) rfl q1569 d kk
theorem p7_178 (hM : TwS o M0) (hG : Cx E G cc nL ret RX7 rm0) {x : Int32} {S1 : TS} (hS1 : S1 = tsI S 0 8 x) (d : decode cc pc = .ok (.putfield 178, 3)) (kk : V E G (tw o S1 M0) cells slots nL (pc + 3) lv st Q) : V E G (tw o S M0) cells slots nL pc lv (.int x :: rf E o :: st) Q := T_putI hM hG 8 hS1 (by decide) rfl (by decide +kernel) rfl q1569 d kk
theorem g7_189 (hM : TwS o M0) (hG : Cx E G cc nL ret RX7 rm0) (d : decode cc pc = .ok (.getfield 189, 3)) (kk : V E G (tw o S M0) cells slots nL (pc + 3) lv (.int (tI S 0 9) :: st) Q) : V E G (tw o S M0) cells slots nL pc lv (rf E o :: st) Q := T_getI hM hG 9 (by decide) rfl q1570 d kk
theorem p7_189 (hM : TwS o M0) (hG : Cx E G cc nL ret RX7 rm0) {x : Int32} {S1 : TS} (hS1 : S1 = tsI S 0 9 x) (d : decode cc pc = .ok (.putfield 189, 3)) (kk : V E G (tw o S1 M0) cells slots nL (pc + 3) lv st Q) : V E G (tw o S M0) cells slots nL pc lv (.int x :: rf E o :: st) Q := T_putI hM hG 9 hS1 (by decide) rfl (by decide +kernel) rfl q1570 d kk
theorem g7_209 (hM : TwS o M0) (hG : Cx E G cc nL ret RX7 rm0) (d : decode cc pc = .ok (.getfield 209, 3)) (kk : V E G (tw o S M0) cells slots nL (pc + 3) lv (.int (tI S 0 11) :: st) Q) : V E G (tw o S M0) cells slots nL pc lv (rf E o :: st) Q := T_getI hM hG 11 (by decide) rfl q1572 d kk
theorem p7_209 (hM : TwS o M0) (hG : Cx E G cc nL ret RX7 rm0) {x : Int32} {S1 : TS} (hS1 : S1 = tsI S 0 11 x) (d : decode cc pc = .ok (.putfield 209, 3)) (kk : V E G (tw o S1 M0) cells slots nL (pc + 3) lv st Q) : V E G (tw o S M0) cells slots nL pc lv (.int x :: rf E o :: st) Q := T_putI hM hG 11 hS1 (by decide) rfl (by decide +kernel) rfl q1572 d kk
theorem g7_222 (hM : TwS o M0) (hG : Cx E G cc nL ret RX7 rm0) (d : decode cc pc = .ok (.getfield 222, 3)) (kk : V E G (tw o S M0) cells slots nL (pc + 3) lv (.int (tI S 0 17) :: st) Q) : V E G (tw o S M0) cells slots nL pc lv (rf E o :: st) Q := T_getI hM hG 17 (by decide) rfl q1578 d kk
theorem p7_222 (hM : TwS o M0) (hG : Cx E G cc nL ret RX7 rm0) {x : Int32} {S1 : TS} (hS1 : S1 = tsI S 0 17 x) (d : decode cc pc = .ok (.putfield 222, 3)) (kk : V E G (tw o S1 M0) cells slots nL (pc + 3) lv st Q) : V E G (tw o S M0) cells slots nL pc lv (.int x :: rf E o :: st) Q := T_putI hM hG 17 hS1 (by decide) rfl (by decide +kernel) rfl q1578 d kk
theorem g7_225 (hM : TwS o M0) (hG : Cx E G cc nL ret RX7 rm0) (d : decode cc pc = .ok (.getfield 225, 3)) (kk : V E G (tw o S M0) cells slots nL (pc + 3) lv (.int (tI S 0 18) :: st) Q) : V E G (tw o S M0) cells slots nL pc lv (rf E o :: st) Q := T_getI hM hG 18 (by decide) rfl q1579 d kk
theorem p7_225 (hM : TwS o M0) (hG : Cx E G cc nL ret RX7 rm0) {x : Int32} {S1 : TS} (hS1 : S1 = tsI S 0 18 x) (d : decode cc pc = .ok (.putfield 225, 3)) (kk : V E G (tw o S1 M0) cells slots nL (pc + 3) lv st Q) : V E G (tw o S M0) cells slots nL pc lv (.int x :: rf E o :: st) Q := T_putI hM hG 18 hS1 (by decide) rfl (by decide +kernel) rfl q1579 d kk
theorem g7_228 (hM : TwS o M0) (hG : Cx E G cc nL ret RX7 rm0) (d : decode cc pc = .ok (.getfield 228, 3)) (kk : V E G (tw o S M0) cells slots nL (pc + 3) lv (.int (tI S 0 19) :: st) Q) : V E G (tw o S M0) cells slots nL pc lv (rf E o :: st) Q := T_getI hM hG 19 (by decide) rfl q1580 d kk
theorem p7_228 (hM : TwS o M0) (hG : Cx E G cc nL ret RX7 rm0) {x : Int32} {S1 : TS} (hS1 : S1 = tsI S 0 19 x) (d : decode cc pc = .ok (.putfield 228, 3)) (kk : V E G (tw o S1 M0) cells slots nL (pc + 3) lv st Q) : V E G (tw o S M0) cells slots nL pc lv (.int x :: rf E o :: st) Q := T_putI hM hG 19 hS1 (by decide) rfl (by decide +kernel) rfl q1580 d kk
theorem g7_231 (hM : TwS o M0) (hG : Cx E G cc nL ret RX7 rm0) (d : decode cc pc = .ok (.getfield 231, 3)) (kk : V E G (tw o S M0) cells slots nL (pc + 3) lv (.int (tI S 0 20) :: st) Q) : V E G (tw o S M0) cells slots nL pc lv (rf E o :: st) Q := T_getI hM hG 20 (by decide) rfl q1581 d kk
theorem p7_231 (hM : TwS o M0) (hG : Cx E G cc nL ret RX7 rm0) {x : Int32} {S1 : TS} (hS1 : S1 = tsI S 0 20 x) (d : decode cc pc = .ok (.putfield 231, 3)) (kk : V E G (tw o S1 M0) cells slots nL (pc + 3) lv st Q) : V E G (tw o S M0) cells slots nL pc lv (.int x :: rf E o :: st) Q := T_putI hM hG 20 hS1 (by decide) rfl (by decide +kernel) rfl q1581 d kk
theorem g7_234 (hM : TwS o M0) (hG : Cx E G cc nL ret RX7 rm0) (d : decode cc pc = .ok (.getfield 234, 3)) (kk : V E G (tw o S M0) cells slots nL (pc + 3) lv (.int (tI S 0 21) :: st) Q) : V E G (tw o S M0) cells slots nL pc lv (rf E o :: st) Q := T_getI hM hG 21 (by decide) rfl q1582 d kk
theorem p7_234 (hM : TwS o M0) (hG : Cx E G cc nL ret RX7 rm0) {x : Int32} {S1 : TS} (hS1 : S1 = tsI S 0 21 x) (d : decode cc pc = .ok (.putfield 234, 3)) (kk : V E G (tw o S1 M0) cells slots nL (pc + 3) lv st Q) : V E G (tw o S M0) cells slots nL pc lv (.int x :: rf E o :: st) Q := T_putI hM hG 21 hS1 (by decide) rfl (by decide +kernel) rfl q1582 d kk
theorem g7_237 (hM : TwS o M0) (hG : Cx E G cc nL ret RX7 rm0) (d : decode cc pc = .ok (.getfield 237, 3)) (kk : V E G (tw o S M0) cells slots nL (pc + 3) lv (.int (tI S 0 22) :: st) Q) : V E G (tw o S M0) cells slots nL pc lv (rf E o :: st) Q := T_getI hM hG 22 (by decide) rfl q1583 d kk
theorem p7_237 (hM : TwS o M0) (hG : Cx E G cc nL ret RX7 rm0) {x : Int32} {S1 : TS} (hS1 : S1 = tsI S 0 22 x) (d : decode cc pc = .ok (.putfield 237, 3)) (kk : V E G (tw o S1 M0) cells slots nL (pc + 3) lv st Q) : V E G (tw o S M0) cells slots nL pc lv (.int x :: rf E o :: st) Q := T_putI hM hG 22 hS1 (by decide) rfl (by decide +kernel) rfl q1583 d kk
theorem g7_240 (hM : TwS o M0) (hG : Cx E G cc nL ret RX7 rm0) (d : decode cc pc = .ok (.getfield 240, 3)) (kk : V E G (tw o S M0) cells slots nL (pc + 3) lv (.int (tI S 0 48) :: st) Q) : V E G (tw o S M0) cells slots nL pc lv (rf E o :: st) Q := T_getI hM hG 48 (by decide) rfl q1609 d kk
theorem p7_240 (hM : TwS o M0) (hG : Cx E G cc nL ret RX7 rm0) {x : Int32} {S1 : TS} (hS1 : S1 = tsI S 0 48 x) (d : decode cc pc = .ok (.putfield 240, 3)) (kk : V E G (tw o S1 M0) cells slots nL (pc + 3) lv st Q) : V E G (tw o S M0) cells slots nL pc lv (.int x :: rf E o :: st) Q := T_putI hM hG 48 hS1 (by decide) rfl (by decide +kernel) rfl q1609 d kk
theorem g7_243 (hM : TwS o M0) (hG : Cx E G cc nL ret RX7 rm0) (d : decode cc pc = .ok (.getfield 243, 3)) (kk : V E G (tw o S M0) cells slots nL (pc + 3) lv (.int (tI S 0 12) :: st) Q) : V E G (tw o S M0) cells slots nL pc lv (rf E o :: st) Q := T_getI hM hG 12 (by decide) rfl q1573 d kk
theorem p7_243 (hM : TwS o M0) (hG : Cx E G cc nL ret RX7 rm0) {x : Int32} {S1 : TS} (hS1 : S1 = tsI S 0 12 x) (d : decode cc pc = .ok (.putfield 243, 3)) (kk : V E G (tw o S1 M0) cells slots nL (pc + 3) lv st Q) : V E G (tw o S M0) cells slots nL pc lv (.int x :: rf E o :: st) Q := T_putI hM hG 12 hS1 (by decide) rfl (by decide +kernel) rfl q1573 d kk
theorem g7_246 (hM : TwS o M0) (hG : Cx E G cc nL ret RX7 rm0) (d : decode cc pc = .ok (.getfield 246, 3)) (kk : V E G (tw o S M0) cells slots nL (pc + 3) lv (.int (tI S 0 13) :: st) Q) : V E G (tw o S M0) cells slots nL pc lv (rf E o :: st) Q := T_getI hM hG 13 (by decide) rfl q1574 d kk
theorem p7_246 (hM : TwS o M0) (hG : Cx E G cc nL ret RX7 rm0) {x : Int32} {S1 : TS} (hS1 : S1 = tsI S 0 13 x) (d : decode cc pc = .ok (.putfield 246, 3)) (kk : V E G (tw o S1 M0) cells slots nL (pc + 3) lv st Q) : V E G (tw o S M0) cells slots nL pc lv (.int x :: rf E o :: st) Q := T_putI hM hG 13 hS1 (by decide) rfl (by decide +kernel) rfl q1574 d kk
theorem g7_249 (hM : TwS o M0) (hG : Cx E G cc nL ret RX7 rm0) (d : decode cc pc = .ok (.getfield 249, 3)) (kk : V E G (tw o S M0) cells slots nL (pc + 3) lv (.int (tI S 0 14) :: st) Q) : V E G (tw o S M0) cells slots nL pc lv (rf E o :: st) Q := T_getI hM hG 14 (by decide) rfl q1575 d kk
theorem p7_249 (hM : TwS o M0) (hG : Cx E G cc nL ret RX7 rm0) {x : Int32} {S1 : TS} (hS1 : S1 = tsI S 0 14 x) (d : decode cc pc = .ok (.putfield 249, 3)) (kk : V E G (tw o S1 M0) cells slots nL (pc + 3) lv st Q) : V E G (tw o S M0) cells slots nL pc lv (.int x :: rf E o :: st) Q := T_putI hM hG 14 hS1 (by decide) rfl (by decide +kernel) rfl q1575 d kk
theorem g7_252 (hM : TwS o M0) (hG : Cx E G cc nL ret RX7 rm0) (d : decode cc pc = .ok (.getfield 252, 3)) (kk : V E G (tw o S M0) cells slots nL (pc + 3) lv (.int (tI S 0 15) :: st) Q) : V E G (tw o S M0) cells slots nL pc lv (rf E o :: st) Q := T_getI hM hG 15 (by decide) rfl q1576 d kk
theorem p7_252 (hM : TwS o M0) (hG : Cx E G cc nL ret RX7 rm0) {x : Int32} {S1 : TS} (hS1 : S1 = tsI S 0 15 x) (d : decode cc pc = .ok (.putfield 252, 3)) (kk : V E G (tw o S1 M0) cells slots nL (pc + 3) lv st Q) : V E G (tw o S M0) cells slots nL pc lv (.int x :: rf E o :: st) Q := T_putI hM hG 15 hS1 (by decide) rfl (by decide +kernel) rfl q1576 d kk
theorem g7_255 (hM : TwS o M0) (hG : Cx E G cc nL ret RX7 rm0) (d : decode cc pc = .ok (.getfield 255, 3)) (kk : V E G (tw o S M0) cells slots nL (pc + 3) lv (.int (tI S 0 16) :: st) Q) : V E G (tw o S M0) cells slots nL pc lv (rf E o :: st) Q := T_getI hM hG 16 (by decide) rfl q1577 d kk
theorem p7_255 (hM : TwS o M0) (hG : Cx E G cc nL ret RX7 rm0) {x : Int32} {S1 : TS} (hS1 : S1 = tsI S 0 16 x) (d : decode cc pc = .ok (.putfield 255, 3)) (kk : V E G (tw o S1 M0) cells slots nL (pc + 3) lv st Q) : V E G (tw o S M0) cells slots nL pc lv (.int x :: rf E o :: st) Q := T_putI hM hG 16 hS1 (by decide) rfl (by decide +kernel) rfl q1577 d kk
theorem g7_298 (hM : TwS o M0) (hG : Cx E G cc nL ret RX7 rm0) (d : decode cc pc = .ok (.getfield 298, 3)) (kk : V E G (tw o S M0) cells slots nL (pc + 3) lv (.int (tI S 0 46) :: st) Q) : V E G (tw o S M0) cells slots nL pc lv (rf E o :: st) Q := T_getI hM hG 46 (by decide) rfl q1607 d kk
theorem p7_298 (hM : TwS o M0) (hG : Cx E G cc nL ret RX7 rm0) {x : Int32} {S1 : TS} (hS1 : S1 = tsI S 0 46 x) (d : decode cc pc = .ok (.putfield 298, 3)) (kk : V E G (tw o S1 M0) cells slots nL (pc + 3) lv st Q) : V E G (tw o S M0) cells slots nL pc lv (.int x :: rf E o :: st) Q := T_putI hM hG 46 hS1 (by decide) rfl (by decide +kernel) rfl q1607 d kk
theorem g7_301 (hM : TwS o M0) (hG : Cx E G cc nL ret RX7 rm0) (d : decode cc pc = .ok (.getfield 301, 3)) (kk : V E G (tw o S M0) cells slots nL (pc + 3) lv (.int (tI S 0 45) :: st) Q) : V E G (tw o S M0) cells slots nL pc lv (rf E o :: st) Q := T_getI hM hG 45 (by decide) rfl q1606 d kk
theorem p7_301 (hM : TwS o M0) (hG : Cx E G cc nL ret RX7 rm0) {x : Int32} {S1 : TS} (hS1 : S1 = tsI S 0 45 x) (d : decode cc pc = .ok (.putfield 301, 3)) (kk : V E G (tw o S1 M0) cells slots nL (pc + 3) lv st Q) : V E G (tw o S M0) cells slots nL pc lv (.int x :: rf E o :: st) Q := T_putI hM hG 45 hS1 (by decide) rfl (by decide +kernel) rfl q1606 d kk
theorem g7_316 (hM : TwS o M0) (hG : Cx E G cc nL ret RX7 rm0) (d : decode cc pc = .ok (.getfield 316, 3)) (kk : V E G (tw o S M0) cells slots nL (pc + 3) lv (.int (tI S 0 47) :: st) Q) : V E G (tw o S M0) cells slots nL pc lv (rf E o :: st) Q := T_getI hM hG 47 (by decide) rfl q1608 d kk
theorem p7_316 (hM : TwS o M0) (hG : Cx E G cc nL ret RX7 rm0) {x : Int32} {S1 : TS} (hS1 : S1 = tsI S 0 47 x) (d : decode cc pc = .ok (.putfield 316, 3)) (kk : V E G (tw o S1 M0) cells slots nL (pc + 3) lv st Q) : V E G (tw o S M0) cells slots nL pc lv (.int x :: rf E o :: st) Q := T_putI hM hG 47 hS1 (by decide) rfl (by decide +kernel) rfl q1608 d kk
theorem g7_323 (hM : TwS o M0) (hG : Cx E G cc nL ret RX7 rm0) (d : decode cc pc = .ok (.getfield 323, 3)) (kk : V E G (tw o S M0) cells slots nL (pc + 3) lv (.int (tI S 0 50) :: st) Q) : V E G (tw o S M0) cells slots nL pc lv (rf E o :: st) Q := T_getI hM hG 50 (by decide) rfl q1611 d kk
theorem p7_323 (hM : TwS o M0) (hG : Cx E G cc nL ret RX7 rm0) {x : Int32} {S1 : TS} (hS1 : S1 = tsI S 0 50 x) (h01 : x = 0 ∨ x = 1) (d : decode cc pc = .ok (.putfield 323, 3)) (kk : V E G (tw o S1 M0) cells slots nL (pc + 3) lv st Q) : V E G (tw o S M0) cells slots nL pc lv (.int x :: rf E o :: st) Q := T_putZ hM hG 50 hS1 h01 (by decide) rfl (by decide +kernel) rfl q1611 d kk
theorem g7_336 (hM : TwS o M0) (hG : Cx E G cc nL ret RX7 rm0) (d : decode cc pc = .ok (.getfield 336, 3)) (kk : V E G (tw o S M0) cells slots nL (pc + 3) lv (.int (tI S 0 49) :: st) Q) : V E G (tw o S M0) cells slots nL pc lv (rf E o :: st) Q := T_getI hM hG 49 (by decide) rfl q1610 d kk
theorem p7_336 (hM : TwS o M0) (hG : Cx E G cc nL ret RX7 rm0) {x : Int32} {S1 : TS} (hS1 : S1 = tsI S 0 49 x) (h01 : x = 0 ∨ x = 1) (d : decode cc pc = .ok (.putfield 336, 3)) (kk : V E G (tw o S1 M0) cells slots nL (pc + 3) lv st Q) : V E G (tw o S M0) cells slots nL pc lv (.int x :: rf E o :: st) Q := T_putZ hM hG 49 hS1 h01 (by decide) rfl (by decide +kernel) rfl q1610 d kk
theorem g7_348 (hM : TwS o M0) (hG : Cx E G cc nL ret RX7 rm0) (d : decode cc pc = .ok (.getfield 348, 3)) (kk : V E G (tw o S M0) cells slots nL (pc + 3) lv (.int (tI S 0 53) :: st) Q) : V E G (tw o S M0) cells slots nL pc lv (rf E o :: st) Q := T_getI hM hG 53 (by decide) rfl q1614 d kk
theorem p7_348 (hM : TwS o M0) (hG : Cx E G cc nL ret RX7 rm0) {x : Int32} {S1 : TS} (hS1 : S1 = tsI S 0 53 x) (h01 : x = 0 ∨ x = 1) (d : decode cc pc = .ok (.putfield 348, 3)) (kk : V E G (tw o S1 M0) cells slots nL (pc + 3) lv st Q) : V E G (tw o S M0) cells slots nL pc lv (.int x :: rf E o :: st) Q := T_putZ hM hG 53 hS1 h01 (by decide) rfl (by decide +kernel) rfl q1614 d kk
theorem g7_370 (hM : TwS o M0) (hG : Cx E G cc nL ret RX7 rm0) (d : decode cc pc = .ok (.getfield 370, 3)) (kk : V E G (tw o S M0) cells slots nL (pc + 3) lv (.long (tL S 0 67) :: st) Q) : V E G (tw o S M0) cells slots nL pc lv (rf E o :: st) Q := T_getL hM hG 67 (by decide) rfl q1628 d kk
theorem p7_370 (hM : TwS o M0) (hG : Cx E G cc nL ret RX7 rm0) {x : Int64} {S1 : TS} (hS1 : S1 = tsL S 0 67 x) (d : decode cc pc = .ok (.putfield 370, 3)) (kk : V E G (tw o S1 M0) cells slots nL (pc + 3) lv st Q) : V E G (tw o S M0) cells slots nL pc lv (.long x :: rf E o :: st) Q := T_putL hM hG 67 hS1 (by decide) rfl (by decide +kernel) rfl q1628 d kk
theorem g7_377 (hM : TwS o M0) (hG : Cx E G cc nL ret RX7 rm0) (d : decode cc pc = .ok (.getfield 377, 3)) (kk : V E G (tw o S M0) cells slots nL (pc + 3) lv (.int (tI S 0 74) :: st) Q) : V E G (tw o S M0) cells slots nL pc lv (rf E o :: st) Q := T_getI hM hG 74 (by decide) rfl q1635 d kk
theorem p7_377 (hM : TwS o M0) (hG : Cx E G cc nL ret RX7 rm0) {x : Int32} {S1 : TS} (hS1 : S1 = tsI S 0 74 x) (d : decode cc pc = .ok (.putfield 377, 3)) (kk : V E G (tw o S1 M0) cells slots nL (pc + 3) lv st Q) : V E G (tw o S M0) cells slots nL pc lv (.int x :: rf E o :: st) Q := T_putI hM hG 74 hS1 (by decide) rfl (by decide +kernel) rfl q1635 d kk
theorem g7_380 (hM : TwS o M0) (hG : Cx E G cc nL ret RX7 rm0) (d : decode cc pc = .ok (.getfield 380, 3)) (kk : V E G (tw o S M0) cells slots nL (pc + 3) lv (.int (tI S 0 78) :: st) Q) : V E G (tw o S M0) cells slots nL pc lv (rf E o :: st) Q := T_getI hM hG 78 (by decide) rfl q1639 d kk
theorem p7_380 (hM : TwS o M0) (hG : Cx E G cc nL ret RX7 rm0) {x : Int32} {S1 : TS} (hS1 : S1 = tsI S 0 78 x) (d : decode cc pc = .ok (.putfield 380, 3)) (kk : V E G (tw o S1 M0) cells slots nL (pc + 3) lv st Q) : V E G (tw o S M0) cells slots nL pc lv (.int x :: rf E o :: st) Q := T_putI hM hG 78 hS1 (by decide) rfl (by decide +kernel) rfl q1639 d kk
theorem g7_383 (hM : TwS o M0) (hG : Cx E G cc nL ret RX7 rm0) (d : decode cc pc = .ok (.getfield 383, 3)) (kk : V E G (tw o S M0) cells slots nL (pc + 3) lv (.int (tI S 0 80) :: st) Q) : V E G (tw o S M0) cells slots nL pc lv (rf E o :: st) Q := T_getI hM hG 80 (by decide) rfl q1641 d kk
theorem p7_383 (hM : TwS o M0) (hG : Cx E G cc nL ret RX7 rm0) {x : Int32} {S1 : TS} (hS1 : S1 = tsI S 0 80 x) (h01 : x = 0 ∨ x = 1) (d : decode cc pc = .ok (.putfield 383, 3)) (kk : V E G (tw o S1 M0) cells slots nL (pc + 3) lv st Q) : V E G (tw o S M0) cells slots nL pc lv (.int x :: rf E o :: st) Q := T_putZ hM hG 80 hS1 h01 (by decide) rfl (by decide +kernel) rfl q1641 d kk
theorem g7_386 (hM : TwS o M0) (hG : Cx E G cc nL ret RX7 rm0) (d : decode cc pc = .ok (.getfield 386, 3)) (kk : V E G (tw o S M0) cells slots nL (pc + 3) lv (.int (tI S 0 69) :: st) Q) : V E G (tw o S M0) cells slots nL pc lv (rf E o :: st) Q := T_getI hM hG 69 (by decide) rfl q1630 d kk
theorem p7_386 (hM : TwS o M0) (hG : Cx E G cc nL ret RX7 rm0) {x : Int32} {S1 : TS} (hS1 : S1 = tsI S 0 69 x) (h01 : x = 0 ∨ x = 1) (d : decode cc pc = .ok (.putfield 386, 3)) (kk : V E G (tw o S1 M0) cells slots nL (pc + 3) lv st Q) : V E G (tw o S M0) cells slots nL pc lv (.int x :: rf E o :: st) Q := T_putZ hM hG 69 hS1 h01 (by decide) rfl (by decide +kernel) rfl q1630 d kk
theorem g7_389 (hM : TwS o M0) (hG : Cx E G cc nL ret RX7 rm0) (d : decode cc pc = .ok (.getfield 389, 3)) (kk : V E G (tw o S M0) cells slots nL (pc + 3) lv (.int (tI S 0 70) :: st) Q) : V E G (tw o S M0) cells slots nL pc lv (rf E o :: st) Q := T_getI hM hG 70 (by decide) rfl q1631 d kk
theorem p7_389 (hM : TwS o M0) (hG : Cx E G cc nL ret RX7 rm0) {x : Int32} {S1 : TS} (hS1 : S1 = tsI S 0 70 x) (h01 : x = 0 ∨ x = 1) (d : decode cc pc = .ok (.putfield 389, 3)) (kk : V E G (tw o S1 M0) cells slots nL (pc + 3) lv st Q) : V E G (tw o S M0) cells slots nL pc lv (.int x :: rf E o :: st) Q := T_putZ hM hG 70 hS1 h01 (by decide) rfl (by decide +kernel) rfl q1631 d kk
theorem g7_392 (hM : TwS o M0) (hG : Cx E G cc nL ret RX7 rm0) (d : decode cc pc = .ok (.getfield 392, 3)) (kk : V E G (tw o S M0) cells slots nL (pc + 3) lv (.int (tI S 0 71) :: st) Q) : V E G (tw o S M0) cells slots nL pc lv (rf E o :: st) Q := T_getI hM hG 71 (by decide) rfl q1632 d kk
theorem p7_392 (hM : TwS o M0) (hG : Cx E G cc nL ret RX7 rm0) {x : Int32} {S1 : TS} (hS1 : S1 = tsI S 0 71 x) (h01 : x = 0 ∨ x = 1) (d : decode cc pc = .ok (.putfield 392, 3)) (kk : V E G (tw o S1 M0) cells slots nL (pc + 3) lv st Q) : V E G (tw o S M0) cells slots nL pc lv (.int x :: rf E o :: st) Q := T_putZ hM hG 71 hS1 h01 (by decide) rfl (by decide +kernel) rfl q1632 d kk
theorem g7_395 (hM : TwS o M0) (hG : Cx E G cc nL ret RX7 rm0) (d : decode cc pc = .ok (.getfield 395, 3)) (kk : V E G (tw o S M0) cells slots nL (pc + 3) lv (.int (tI S 0 72) :: st) Q) : V E G (tw o S M0) cells slots nL pc lv (rf E o :: st) Q := T_getI hM hG 72 (by decide) rfl q1633 d kk
theorem p7_395 (hM : TwS o M0) (hG : Cx E G cc nL ret RX7 rm0) {x : Int32} {S1 : TS} (hS1 : S1 = tsI S 0 72 x) (h01 : x = 0 ∨ x = 1) (d : decode cc pc = .ok (.putfield 395, 3)) (kk : V E G (tw o S1 M0) cells slots nL (pc + 3) lv st Q) : V E G (tw o S M0) cells slots nL pc lv (.int x :: rf E o :: st) Q := T_putZ hM hG 72 hS1 h01 (by decide) rfl (by decide +kernel) rfl q1633 d kk
theorem g7_438 (hM : TwS o M0) (hG : Cx E G cc nL ret RX7 rm0) (d : decode cc pc = .ok (.getfield 438, 3)) (kk : V E G (tw o S M0) cells slots nL (pc + 3) lv (.int (tI S 0 68) :: st) Q) : V E G (tw o S M0) cells slots nL pc lv (rf E o :: st) Q := T_getI hM hG 68 (by decide) rfl q1629 d kk
theorem p7_438 (hM : TwS o M0) (hG : Cx E G cc nL ret RX7 rm0) {x : Int32} {S1 : TS} (hS1 : S1 = tsI S 0 68 x) (d : decode cc pc = .ok (.putfield 438, 3)) (kk : V E G (tw o S1 M0) cells slots nL (pc + 3) lv st Q) : V E G (tw o S M0) cells slots nL pc lv (.int x :: rf E o :: st) Q := T_putI hM hG 68 hS1 (by decide) rfl (by decide +kernel) rfl q1629 d kk
theorem g7_526 (hM : TwS o M0) (hG : Cx E G cc nL ret RX7 rm0) (d : decode cc pc = .ok (.getfield 526, 3)) (kk : V E G (tw o S M0) cells slots nL (pc + 3) lv (.long (tL S 0 83) :: st) Q) : V E G (tw o S M0) cells slots nL pc lv (rf E o :: st) Q := T_getL hM hG 83 (by decide) rfl q1644 d kk
theorem p7_526 (hM : TwS o M0) (hG : Cx E G cc nL ret RX7 rm0) {x : Int64} {S1 : TS} (hS1 : S1 = tsL S 0 83 x) (d : decode cc pc = .ok (.putfield 526, 3)) (kk : V E G (tw o S1 M0) cells slots nL (pc + 3) lv st Q) : V E G (tw o S M0) cells slots nL pc lv (.long x :: rf E o :: st) Q := T_putL hM hG 83 hS1 (by decide) rfl (by decide +kernel) rfl q1644 d kk
end TR
