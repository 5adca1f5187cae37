set_option maxRecDepth 100000
set_option maxHeartbeats 4000000
theorem hdc_X14_init : yX14_init.cls ≠ "java/lang/invoke/MethodHandle" ∧ yX14_init.cls ≠ "java/lang/invoke/VarHandle" ∧ (parseMethodDescriptor yX14_init.desc).map (fun d => d.parameters.length) = some 0 := by decide +kernel
theorem pf_X15_7 {E : En} {G : Ctx} {M M1 : Mem} {cells slots nL pc : Nat} {lv : List (Nat × Value)} {st : List Value} {Q : State → Prop} {cc : ByteArray} {ret : Option FieldType} {rm0 : Room} (hN : NOk E) (hG : Cx E G cc nL ret RX15 rm0) (hI : IsInit G) {a : Nat} {x : Int32} (hT : mT M a = 10) (hM1 : M1 = sI M a 0 x) (d : decode cc pc = .ok (.putfield 7, 3)) (kk : V E G M1 cells slots nL (pc + 3) lv st Q) : V E G M cells slots nL pc lv (.int x :: rf E a :: st) Q := V_putIF (M := M) hG (a := a) (ci := 10) (C := RX15) (T := TX15) (N := 1) (k := 0) hT (by decide) rfl in_X15 (by decide) tyX15 tyX15_ok nmX15 rfl rfl hI (by decide +kernel) rfl q957 d (by rw [← hM1]; exact kk)
theorem pf_X16_7 {E : En} {G : Ctx} {M M1 : Mem} {cells slots nL pc : Nat} {lv : List (Nat × Value)} {st : List Value} {Q : State → Prop} {cc : ByteArray} {ret : Option FieldType} {rm0 : Room} (hN : NOk E) (hG : Cx E G cc nL ret RX16 rm0) (hI : IsInit G) {a : Nat} {x : Int32} (hT : mT M a = 11) (hM1 : M1 = sI M a 0 x) (d : decode cc pc = .ok (.putfield 7, 3)) (kk : V E G M1 cells slots nL (pc + 3) lv st Q) : V E G M cells slots nL pc lv (.int x :: rf E a :: st) Q := V_putIF (M := M) hG (a := a) (ci := 11) (C := RX16) (T := TX16) (N := 1) (k := 0) hT (by decide) rfl in_X16 (by decide) tyX16 tyX16_ok nmX16 rfl rfl hI (by decide +kernel) rfl q967 d (by rw [← hM1]; exact kk)
theorem pf_X17_7 {E : En} {G : Ctx} {M M1 : Mem} {cells slots nL pc : Nat} {lv : List (Nat × Value)} {st : List Value} {Q : State → Prop} {cc : ByteArray} {ret : Option FieldType} {rm0 : Room} (hN : NOk E) (hG : Cx E G cc nL ret RX17 rm0) (hI : IsInit G) {a : Nat} {x : Nat} (hT : mT M a = 12 ∨ mT M a = 13) (hM1 : M1 = sR M a 0 (some x)) (d : decode cc pc = .ok (.putfield 7, 3)) (kk : V E G M1 cells slots nL (pc + 3) lv st Q) : V E G M cells slots nL pc lv (rf E x :: rf E a :: st) Q := by
  rcases hT with hT | hT
  · exact V_putQF (M := M) hG (a := a) (ci := 12) (C := RX17) (T := TX17) (N := 1) (k := 0) (x := some x) (ty := .object "TroughTreaty$Part") hT (by decide) rfl in_X17 (by decide) tyX17 tyX17_ok nmX17 rfl rfl hI (by decide +kernel) (Or.inl ⟨_, rfl⟩) rfl q982 d (by rw [← hM1]; exact kk)
  · exact V_putQF (M := M) hG (a := a) (ci := 13) (C := RX18) (T := TX18) (N := 3) (k := 0) (x := some x) (ty := .object "TroughTreaty$Part") hT (by decide) rfl in_X18 (by decide) tyX18 tyX18_ok nmX18 rfl rfl hI (by decide +kernel) (Or.inl ⟨_, rfl⟩) rfl q982 d (by rw [← hM1]; exact kk)
theorem hdc_X17_init : yX17_init.cls ≠ "java/lang/invoke/MethodHandle" ∧ yX17_init.cls ≠ "java/lang/invoke/VarHandle" ∧ (parseMethodDescriptor yX17_init.desc).map (fun d => d.parameters.length) = some 1 := by decide +kernel
theorem pf_X18_9 {E : En} {G : Ctx} {M M1 : Mem} {cells slots nL pc : Nat} {lv : List (Nat × Value)} {st : List Value} {Q : State → Prop} {cc : ByteArray} {ret : Option FieldType} {rm0 : Room} (hN : NOk E) (hG : Cx E G cc nL ret RX18 rm0) (hI : IsInit G) {a : Nat} {x : Int32} (hT : mT M a = 13) (hM1 : M1 = sI M a 1 x) (d : decode cc pc = .ok (.putfield 9, 3)) (kk : V E G M1 cells slots nL (pc + 3) lv st Q) : V E G M cells slots nL pc lv (.int x :: rf E a :: st) Q := V_putIF (M := M) hG (a := a) (ci := 13) (C := RX18) (T := TX18) (N := 3) (k := 1) hT (by decide) rfl in_X18 (by decide) tyX18 tyX18_ok nmX18 rfl rfl hI (by decide +kernel) rfl q980 d (by rw [← hM1]; exact kk)
theorem pf_X18_15 {E : En} {G : Ctx} {M M1 : Mem} {cells slots nL pc : Nat} {lv : List (Nat × Value)} {st : List Value} {Q : State → Prop} {cc : ByteArray} {ret : Option FieldType} {rm0 : Room} (hN : NOk E) (hG : Cx E G cc nL ret RX18 rm0) (hI : IsInit G) {a : Nat} {x : Nat} (hT : mT M a = 13) (hM1 : M1 = sR M a 2 (some x)) (d : decode cc pc = .ok (.putfield 15, 3)) (kk : V E G M1 cells slots nL (pc + 3) lv st Q) : V E G M cells slots nL pc lv (rf E x :: rf E a :: st) Q := V_putQF (M := M) hG (a := a) (ci := 13) (C := RX18) (T := TX18) (N := 3) (k := 2) (x := some x) (ty := .object "TroughTreaty$Part") hT (by decide) rfl in_X18 (by decide) tyX18 tyX18_ok nmX18 rfl rfl hI (by decide +kernel) (Or.inl ⟨_, rfl⟩) rfl q981 d (by rw [← hM1]; exact kk)
theorem hdc_J11_init : yJ11_init.cls ≠ "java/lang/invoke/MethodHandle" ∧ yJ11_init.cls ≠ "java/lang/invoke/VarHandle" ∧ (parseMethodDescriptor yJ11_init.desc).map (fun d => d.parameters.length) = some 4 := by decide +kernel
theorem pf_X8_7 {E : En} {G : Ctx} {M M1 : Mem} {cells slots nL pc : Nat} {lv : List (Nat × Value)} {st : List Value} {Q : State → Prop} {cc : ByteArray} {ret : Option FieldType} {rm0 : Room} (hN : NOk E) (hG : Cx E G cc nL ret RX8 rm0) (hI : IsInit G) {a : Nat} {x : Int32} (hT : mT M a = 16) (hM1 : M1 = sI M a 6 x) (d : decode cc pc = .ok (.putfield 7, 3)) (kk : V E G M1 cells slots nL (pc + 3) lv st Q) : V E G M cells slots nL pc lv (.int x :: rf E a :: st) Q := V_putIF (M := M) hG (a := a) (ci := 16) (C := RX8) (T := TX8) (N := 8) (k := 6) hT (by decide) rfl in_X8 (by decide) tyX8 tyX8_ok nmX8 rfl rfl hI (by decide +kernel) rfl q709 d (by rw [← hM1]; exact kk)
theorem pf_X8_13 {E : En} {G : Ctx} {M M1 : Mem} {cells slots nL pc : Nat} {lv : List (Nat × Value)} {st : List Value} {Q : State → Prop} {cc : ByteArray} {ret : Option FieldType} {rm0 : Room} (hN : NOk E) (hG : Cx E G cc nL ret RX8 rm0) (hI : IsInit G) {a : Nat} {x : Int32} (hT : mT M a = 16) (hM1 : M1 = sI M a 7 x) (d : decode cc pc = .ok (.putfield 13, 3)) (kk : V E G M1 cells slots nL (pc + 3) lv st Q) : V E G M cells slots nL pc lv (.int x :: rf E a :: st) Q := V_putIF (M := M) hG (a := a) (ci := 16) (C := RX8) (T := TX8) (N := 8) (k := 7) hT (by decide) rfl in_X8 (by decide) tyX8 tyX8_ok nmX8 rfl rfl hI (by decide +kernel) rfl q711 d (by rw [← hM1]; exact kk)
theorem nw_X2_80 {E : En} {G : Ctx} {M M1 : Mem} {cells slots nL pc : Nat} {lv : List (Nat × Value)} {st : List Value} {Q : State → Prop} {cc : ByteArray} {ret : Option FieldType} {rm0 : Room} (hG : Cx E G cc nL ret RX2 rm0) {Me : Mem} (hEn : Ent E G Me) {LC LZ : Nat} (hrc : rm0.cells = LC - mN Me) (hrs : rm0.slots = LZ - mZ Me) (hM1 : M1 = nw M 16 8) (hg : mN M + 1 ≤ LC ∧ mZ M + 8 ≤ LZ) (d : decode cc pc = .ok (.new 80, 3)) (kk : V E G M1 (mN M1 - mN Me) (mZ M1 - mZ Me) nL (pc + 3) lv (rf E (mN M) :: st) Q) : V E G M cells slots nL pc lv st Q := by
  subst hM1
  refine V_narrow hEn (fun h1 h2 h3 => ?_)
  exact V_new hG (ci := 16) (C := RX8) (T := TX8) (N := 8) (by decide) rfl in_X8 tyX8 tyX8_ok (by decide +kernel) q659 q660 q142 (by rw [hrc]; omega) (by rw [hrs]; omega) d (V_narrow hEn (fun _ _ _ => kk))
theorem gf_X2_30 {E : En} {G : Ctx} {M : Mem} {cells slots nL pc : Nat} {lv : List (Nat × Value)} {st : List Value} {Q : State → Prop} {cc : ByteArray} {ret : Option FieldType} {rm0 : Room} (hN : NOk E) (hG : Cx E G cc nL ret RX2 rm0) {a : Nat} (hT : mT M a = 1) (d : decode cc pc = .ok (.getfield 30, 3)) (kk : V E G M cells slots nL (pc + 3) lv (.int (mI M a 2) :: st) Q) : V E G M cells slots nL pc lv (rf E a :: st) Q := W_getPI hG (ci := 1) (C := RX2) (T := TX2) (N := 9) (k := 2) hT (by decide) rfl in_X2 (by decide) (Or.inl rfl)  rfl q180 d kk
theorem hdc_X8_init : yX8_init.cls ≠ "java/lang/invoke/MethodHandle" ∧ yX8_init.cls ≠ "java/lang/invoke/VarHandle" ∧ (parseMethodDescriptor yX8_init.desc).map (fun d => d.parameters.length) = some 2 := by decide +kernel
theorem gf_X2_15 {E : En} {G : Ctx} {M : Mem} {cells slots nL pc : Nat} {lv : List (Nat × Value)} {st : List Value} {Q : State → Prop} {cc : ByteArray} {ret : Option FieldType} {rm0 : Room} (hN : NOk E) (hG : Cx E G cc nL ret RX2 rm0) {a : Nat} (hT : mT M a = 1) (d : decode cc pc = .ok (.getfield 15, 3)) (kk : V E G M cells slots nL (pc + 3) lv (.int (mI M a 0) :: st) Q) : V E G M cells slots nL pc lv (rf E a :: st) Q := W_getPI hG (ci := 1) (C := RX2) (T := TX2) (N := 9) (k := 0) hT (by decide) rfl in_X2 (by decide) (Or.inl rfl)  rfl q178 d kk
theorem gf_X2_3 {E : En} {G : Ctx} {M : Mem} {cells slots nL pc : Nat} {lv : List (Nat × Value)} {st : List Value} {Q : State → Prop} {cc : ByteArray} {ret : Option FieldType} {rm0 : Room} (hN : NOk E) (hG : Cx E G cc nL ret RX2 rm0) {a : Nat} (hT : mT M a = 1) {r : Nat} (hr : mR M a 8 = some r) (d : decode cc pc = .ok (.getfield 3, 3)) (kk : V E G M cells slots nL (pc + 3) lv (rf E r :: st) Q) : V E G M cells slots nL pc lv (rf E a :: st) Q := W_getPR hG (ci := 1) (C := RX2) (T := TX2) (N := 9) (k := 8) hT (by decide) rfl in_X2 (by decide) (Or.inl rfl) hr rfl q186 d kk
theorem gf_X2_22 {E : En} {G : Ctx} {M : Mem} {cells slots nL pc : Nat} {lv : List (Nat × Value)} {st : List Value} {Q : State → Prop} {cc : ByteArray} {ret : Option FieldType} {rm0 : Room} (hN : NOk E) (hG : Cx E G cc nL ret RX2 rm0) {a : Nat} (hT : mT M a = 0) {r : Nat} (hr : mR M a 0 = some r) (d : decode cc pc = .ok (.getfield 22, 3)) (kk : V E G M cells slots nL (pc + 3) lv (rf E r :: st) Q) : V E G M cells slots nL pc lv (rf E a :: st) Q := W_getNR hG (ci := 0) (C := RX1) (T := TX1) (N := 19) (k := 0) hT (by decide) rfl in_X1 (by decide) (Or.inl rfl) hr rfl hN q428 d kk
theorem gf_X2_19 {E : En} {G : Ctx} {M : Mem} {cells slots nL pc : Nat} {lv : List (Nat × Value)} {st : List Value} {Q : State → Prop} {cc : ByteArray} {ret : Option FieldType} {rm0 : Room} (hN : NOk E) (hG : Cx E G cc nL ret RX2 rm0) {a : Nat} (hT : mT M a = 1) (d : decode cc pc = .ok (.getfield 19, 3)) (kk : V E G M cells slots nL (pc + 3) lv (.int (mI M a 1) :: st) Q) : V E G M cells slots nL pc lv (rf E a :: st) Q := W_getPI hG (ci := 1) (C := RX2) (T := TX2) (N := 9) (k := 1) hT (by decide) rfl in_X2 (by decide) (Or.inl rfl)  rfl q179 d kk
theorem hdc_X2_here : yX2_here.cls ≠ "java/lang/invoke/MethodHandle" ∧ yX2_here.cls ≠ "java/lang/invoke/VarHandle" ∧ (parseMethodDescriptor yX2_here.desc).map (fun d => d.parameters.length) = some 0 := by decide +kernel
theorem hdv_X2_here : yX2_here.cls = RX2 ∧ yX2_here.cls ≠ "java/lang/invoke/MethodHandle" ∧ yX2_here.cls ≠ "java/lang/invoke/VarHandle" ∧ (parseMethodDescriptor yX2_here.desc).map (fun d => d.parameters.length) = some 0 := by decide +kernel
theorem hw_X2_26 : GoodIn lw_all (wsV RX2 26 RX2 yX2_here (ws_ yX2_here cX2_here 1 (some .int))) := lw_V q517 q519 qs6 q124 q520
theorem pf_X2_15 {E : En} {G : Ctx} {M M1 : Mem} {cells slots nL pc : Nat} {lv : List (Nat × Value)} {st : List Value} {Q : State → Prop} {cc : ByteArray} {ret : Option FieldType} {rm0 : Room} (hN : NOk E) (hG : Cx E G cc nL ret RX2 rm0) {a : Nat} {x : Int32} (hT : mT M a = 1) (hM1 : M1 = sI M a 0 x) (d : decode cc pc = .ok (.putfield 15, 3)) (kk : V E G M1 cells slots nL (pc + 3) lv st Q) : V E G M cells slots nL pc lv (.int x :: rf E a :: st) Q := W_putPI hG (ci := 1) (C := RX2) (T := TX2) (N := 9) (k := 0) hT (by decide) rfl in_X2 (by decide) (Or.inl rfl) tyX2 tyX2_ok nmX2 rfl (by decide +kernel) rfl q178 M1 hM1 d kk
theorem pf_X2_33 {E : En} {G : Ctx} {M M1 : Mem} {cells slots nL pc : Nat} {lv : List (Nat × Value)} {st : List Value} {Q : State → Prop} {cc : ByteArray} {ret : Option FieldType} {rm0 : Room} (hN : NOk E) (hG : Cx E G cc nL ret RX2 rm0) {a : Nat} {x : Int32} (hT : mT M a = 1) (hM1 : M1 = sI M a 3 x) (d : decode cc pc = .ok (.putfield 33, 3)) (kk : V E G M1 cells slots nL (pc + 3) lv st Q) : V E G M cells slots nL pc lv (.int x :: rf E a :: st) Q := W_putPI hG (ci := 1) (C := RX2) (T := TX2) (N := 9) (k := 3) hT (by decide) rfl in_X2 (by decide) (Or.inl rfl) tyX2 tyX2_ok nmX2 rfl (by decide +kernel) rfl q181 M1 hM1 d kk
theorem pf_X2_47 {E : En} {G : Ctx} {M M1 : Mem} {cells slots nL pc : Nat} {lv : List (Nat × Value)} {st : List Value} {Q : State → Prop} {cc : ByteArray} {ret : Option FieldType} {rm0 : Room} (hN : NOk E) (hG : Cx E G cc nL ret RX2 rm0) {a : Nat} {x : Int32} (hT : mT M a = 1) (hM1 : M1 = sI M a 4 x) (d : decode cc pc = .ok (.putfield 47, 3)) (kk : V E G M1 cells slots nL (pc + 3) lv st Q) : V E G M cells slots nL pc lv (.int x :: rf E a :: st) Q := W_putPI hG (ci := 1) (C := RX2) (T := TX2) (N := 9) (k := 4) hT (by decide) rfl in_X2 (by decide) (Or.inl rfl) tyX2 tyX2_ok nmX2 rfl (by decide +kernel) rfl q182 M1 hM1 d kk
theorem gf_X2_47 {E : En} {G : Ctx} {M : Mem} {cells slots nL pc : Nat} {lv : List (Nat × Value)} {st : List Value} {Q : State → Prop} {cc : ByteArray} {ret : Option FieldType} {rm0 : Room} (hN : NOk E) (hG : Cx E G cc nL ret RX2 rm0) {a : Nat} (hT : mT M a = 1) (d : decode cc pc = .ok (.getfield 47, 3)) (kk : V E G M cells slots nL (pc + 3) lv (.int (mI M a 4) :: st) Q) : V E G M cells slots nL pc lv (rf E a :: st) Q := W_getPI hG (ci := 1) (C := RX2) (T := TX2) (N := 9) (k := 4) hT (by decide) rfl in_X2 (by decide) (Or.inl rfl)  rfl q182 d kk
theorem pf_X2_30 {E : En} {G : Ctx} {M M1 : Mem} {cells slots nL pc : Nat} {lv : List (Nat × Value)} {st : List Value} {Q : State → Prop} {cc : ByteArray} {ret : Option FieldType} {rm0 : Room} (hN : NOk E) (hG : Cx E G cc nL ret RX2 rm0) {a : Nat} {x : Int32} (hT : mT M a = 1) (hM1 : M1 = sI M a 2 x) (d : decode cc pc = .ok (.putfield 30, 3)) (kk : V E G M1 cells slots nL (pc + 3) lv st Q) : V E G M cells slots nL pc lv (.int x :: rf E a :: st) Q := W_putPI hG (ci := 1) (C := RX2) (T := TX2) (N := 9) (k := 2) hT (by decide) rfl in_X2 (by decide) (Or.inl rfl) tyX2 tyX2_ok nmX2 rfl (by decide +kernel) rfl q180 M1 hM1 d kk
theorem hdc_X2_sign : yX2_sign.cls ≠ "java/lang/invoke/MethodHandle" ∧ yX2_sign.cls ≠ "java/lang/invoke/VarHandle" ∧ (parseMethodDescriptor yX2_sign.desc).map (fun d => d.parameters.length) = some 0 := by decide +kernel
theorem hdv_X2_sign : yX2_sign.cls = RX2 ∧ yX2_sign.cls ≠ "java/lang/invoke/MethodHandle" ∧ yX2_sign.cls ≠ "java/lang/invoke/VarHandle" ∧ (parseMethodDescriptor yX2_sign.desc).map (fun d => d.parameters.length) = some 0 := by decide +kernel
theorem hw_X2_58 : GoodIn lw_all (wsV RX2 58 RX2 yX2_sign (ws_ yX2_sign cX2_sign 2 none)) := lw_V q583 q585 qs9 q124 q586
theorem hdc_X2_word : yX2_word.cls ≠ "java/lang/invoke/MethodHandle" ∧ yX2_word.cls ≠ "java/lang/invoke/VarHandle" ∧ (parseMethodDescriptor yX2_word.desc).map (fun d => d.parameters.length) = some 0 := by decide +kernel
theorem hdv_X2_word : yX2_word.cls = RX2 ∧ yX2_word.cls ≠ "java/lang/invoke/MethodHandle" ∧ yX2_word.cls ≠ "java/lang/invoke/VarHandle" ∧ (parseMethodDescriptor yX2_word.desc).map (fun d => d.parameters.length) = some 0 := by decide +kernel
theorem hw_X2_44 : GoodIn lw_all (wsV RX2 44 RX2 yX2_word (ws_ yX2_word cX2_word 3 (some .int))) := lw_V q524 q526 qs7 q124 q527
theorem gf_X2_33 {E : En} {G : Ctx} {M : Mem} {cells slots nL pc : Nat} {lv : List (Nat × Value)} {st : List Value} {Q : State → Prop} {cc : ByteArray} {ret : Option FieldType} {rm0 : Room} (hN : NOk E) (hG : Cx E G cc nL ret RX2 rm0) {a : Nat} (hT : mT M a = 1) (d : decode cc pc = .ok (.getfield 33, 3)) (kk : V E G M cells slots nL (pc + 3) lv (.int (mI M a 3) :: st) Q) : V E G M cells slots nL pc lv (rf E a :: st) Q := W_getPI hG (ci := 1) (C := RX2) (T := TX2) (N := 9) (k := 3) hT (by decide) rfl in_X2 (by decide) (Or.inl rfl)  rfl q181 d kk
theorem hdc_X2_name : yX2_name.cls ≠ "java/lang/invoke/MethodHandle" ∧ yX2_name.cls ≠ "java/lang/invoke/VarHandle" ∧ (parseMethodDescriptor yX2_name.desc).map (fun d => d.parameters.length) = some 0 := by decide +kernel
theorem hdv_X2_name : yX2_name.cls = RX2 ∧ yX2_name.cls ≠ "java/lang/invoke/MethodHandle" ∧ yX2_name.cls ≠ "java/lang/invoke/VarHandle" ∧ (parseMethodDescriptor yX2_name.desc).map (fun d => d.parameters.length) = some 0 := by decide +kernel
theorem hw_X2_50 : GoodIn lw_all (wsV RX2 50 RX2 yX2_name (ws_ yX2_name cX2_name 2 none)) := lw_V q576 q578 qs8 q124 q579
theorem hw_X2_96 : GoodIn lw_all (va_wsS RX2 96 yX9_find (ws_ yX9_find cX9_find 3 (some .int))) := lw_S q753 q754 q143 q755
theorem hdc_X2_next : yX2_next.cls ≠ "java/lang/invoke/MethodHandle" ∧ yX2_next.cls ≠ "java/lang/invoke/VarHandle" ∧ (parseMethodDescriptor yX2_next.desc).map (fun d => d.parameters.length) = some 0 := by decide +kernel
theorem hdv_X2_next : yX2_next.cls = RX2 ∧ yX2_next.cls ≠ "java/lang/invoke/MethodHandle" ∧ yX2_next.cls ≠ "java/lang/invoke/VarHandle" ∧ (parseMethodDescriptor yX2_next.desc).map (fun d => d.parameters.length) = some 0 := by decide +kernel
theorem hw_X2_93 : GoodIn lw_all (wsV RX2 93 RX2 yX2_next (ws_ yX2_next cX2_next 1 none)) := lw_V q513 q515 qs5 q124 q516
theorem hdc_X2_wrong : yX2_wrong.cls ≠ "java/lang/invoke/MethodHandle" ∧ yX2_wrong.cls ≠ "java/lang/invoke/VarHandle" ∧ (parseMethodDescriptor yX2_wrong.desc).map (fun d => d.parameters.length) = some 1 := by decide +kernel
theorem hdv_X2_wrong : yX2_wrong.cls = RX2 ∧ yX2_wrong.cls ≠ "java/lang/invoke/MethodHandle" ∧ yX2_wrong.cls ≠ "java/lang/invoke/VarHandle" ∧ (parseMethodDescriptor yX2_wrong.desc).map (fun d => d.parameters.length) = some 1 := by decide +kernel
theorem hw_X2_85 : GoodIn lw_all (wsV RX2 85 RX2 yX2_wrong (ws_ yX2_wrong cX2_wrong 2 (some (.object "TroughTreaty$Fault")))) := lw_V q655 q657 qs12 q124 q658
theorem gf_X2_111 {E : En} {G : Ctx} {M : Mem} {cells slots nL pc : Nat} {lv : List (Nat × Value)} {st : List Value} {Q : State → Prop} {cc : ByteArray} {ret : Option FieldType} {rm0 : Room} (hN : NOk E) (hG : Cx E G cc nL ret RX2 rm0) {a : Nat} (hT : mT M a = 1) {r : Nat} (hr : mR M a 7 = some r) (d : decode cc pc = .ok (.getfield 111, 3)) (kk : V E G M cells slots nL (pc + 3) lv (rf E r :: st) Q) : V E G M cells slots nL pc lv (rf E a :: st) Q := W_getPR hG (ci := 1) (C := RX2) (T := TX2) (N := 9) (k := 7) hT (by decide) rfl in_X2 (by decide) (Or.inl rfl) hr rfl q185 d kk
theorem gf_X2_216 {E : En} {G : Ctx} {M : Mem} {cells slots nL pc : Nat} {lv : List (Nat × Value)} {st : List Value} {Q : State → Prop} {cc : ByteArray} {ret : Option FieldType} {rm0 : Room} (hN : NOk E) (hG : Cx E G cc nL ret RX2 rm0) {a : Nat} (hT : mT M a = 2) (d : decode cc pc = .ok (.getfield 216, 3)) (kk : V E G M cells slots nL (pc + 3) lv (.int (mI M a 7) :: st) Q) : V E G M cells slots nL pc lv (rf E a :: st) Q := W_getNI hG (ci := 2) (C := RX3) (T := TX3) (N := 9) (k := 7) hT (by decide) rfl in_X3 (by decide) (Or.inl rfl)  rfl hN q265 d kk
theorem pf_X2_216 {E : En} {G : Ctx} {M M1 : Mem} {cells slots nL pc : Nat} {lv : List (Nat × Value)} {st : List Value} {Q : State → Prop} {cc : ByteArray} {ret : Option FieldType} {rm0 : Room} (hN : NOk E) (hG : Cx E G cc nL ret RX2 rm0) {a : Nat} {x : Int32} (hT : mT M a = 2) (hM1 : M1 = sI M a 7 x) (d : decode cc pc = .ok (.putfield 216, 3)) (kk : V E G M1 cells slots nL (pc + 3) lv st Q) : V E G M cells slots nL pc lv (.int x :: rf E a :: st) Q := W_putNI hG (ci := 2) (C := RX3) (T := TX3) (N := 9) (k := 7) hT (by decide) rfl in_X3 (by decide) (Or.inl rfl) tyX3 tyX3_ok nmX3 rfl (by decide +kernel) rfl hN q265 M1 hM1 d kk
theorem hdc_X2_not : yX2_not.cls ≠ "java/lang/invoke/MethodHandle" ∧ yX2_not.cls ≠ "java/lang/invoke/VarHandle" ∧ (parseMethodDescriptor yX2_not.desc).map (fun d => d.parameters.length) = some 0 := by decide +kernel
theorem hdv_X2_not : yX2_not.cls = RX2 ∧ yX2_not.cls ≠ "java/lang/invoke/MethodHandle" ∧ yX2_not.cls ≠ "java/lang/invoke/VarHandle" ∧ (parseMethodDescriptor yX2_not.desc).map (fun d => d.parameters.length) = some 0 := by decide +kernel
theorem hw_X2_230 : GoodIn lw_all (wsV RX2 230 RX2 yX2_not (ws_ yX2_not cX2_not 1 (some (.object "TroughTreaty$Part")))) := lw_V q920 q922 qs26 q124 q923
theorem hdc_X2_isWord : yX2_isWord.cls ≠ "java/lang/invoke/MethodHandle" ∧ yX2_isWord.cls ≠ "java/lang/invoke/VarHandle" ∧ (parseMethodDescriptor yX2_isWord.desc).map (fun d => d.parameters.length) = some 2 := by decide +kernel
theorem hdv_X2_isWord : yX2_isWord.cls = RX2 ∧ yX2_isWord.cls ≠ "java/lang/invoke/MethodHandle" ∧ yX2_isWord.cls ≠ "java/lang/invoke/VarHandle" ∧ (parseMethodDescriptor yX2_isWord.desc).map (fun d => d.parameters.length) = some 2 := by decide +kernel
theorem hw_X2_132 : GoodIn lw_all (wsV RX2 132 RX2 yX2_isWord (ws_ yX2_isWord cX2_isWord 3 (some .boolean))) := lw_V q651 q653 qs11 q124 q654
theorem hdc_X2_knot : yX2_knot.cls ≠ "java/lang/invoke/MethodHandle" ∧ yX2_knot.cls ≠ "java/lang/invoke/VarHandle" ∧ (parseMethodDescriptor yX2_knot.desc).map (fun d => d.parameters.length) = some 0 := by decide +kernel
theorem hdv_X2_knot : yX2_knot.cls = RX2 ∧ yX2_knot.cls ≠ "java/lang/invoke/MethodHandle" ∧ yX2_knot.cls ≠ "java/lang/invoke/VarHandle" ∧ (parseMethodDescriptor yX2_knot.desc).map (fun d => d.parameters.length) = some 0 := by decide +kernel
theorem hw_X2_222 : GoodIn lw_all (wsV RX2 222 RX2 yX2_knot (ws_ yX2_knot cX2_knot 2 (some .int))) := lw_V q946 q948 qs32 q124 q949
theorem nw_X2_225 {E : En} {G : Ctx} {M M1 : Mem} {cells slots nL pc : Nat} {lv : List (Nat × Value)} {st : List Value} {Q : State → Prop} {cc : ByteArray} {ret : Option FieldType} {rm0 : Room} (hG : Cx E G cc nL ret RX2 rm0) {Me : Mem} (hEn : Ent E G Me) {LC LZ : Nat} (hrc : rm0.cells = LC - mN Me) (hrs : rm0.slots = LZ - mZ Me) (hM1 : M1 = nw M 13 3) (hg : mN M + 1 ≤ LC ∧ mZ M + 3 ≤ LZ) (d : decode cc pc = .ok (.new 225, 3)) (kk : V E G M1 (mN M1 - mN Me) (mZ M1 - mZ Me) nL (pc + 3) lv (rf E (mN M) :: st) Q) : V E G M cells slots nL pc lv st Q := by
  subst hM1
  refine V_narrow hEn (fun h1 h2 h3 => ?_)
  exact V_new hG (ci := 13) (C := RX18) (T := TX18) (N := 3) (by decide) rfl in_X18 tyX18 tyX18_ok (by decide +kernel) q971 q972 q155 (by rw [hrc]; omega) (by rw [hrs]; omega) d (V_narrow hEn (fun _ _ _ => kk))
theorem hdc_X18_init : yX18_init.cls ≠ "java/lang/invoke/MethodHandle" ∧ yX18_init.cls ≠ "java/lang/invoke/VarHandle" ∧ (parseMethodDescriptor yX18_init.desc).map (fun d => d.parameters.length) = some 3 := by decide +kernel
theorem hdc_X2_sum : yX2_sum.cls ≠ "java/lang/invoke/MethodHandle" ∧ yX2_sum.cls ≠ "java/lang/invoke/VarHandle" ∧ (parseMethodDescriptor yX2_sum.desc).map (fun d => d.parameters.length) = some 0 := by decide +kernel
theorem hdv_X2_sum : yX2_sum.cls = RX2 ∧ yX2_sum.cls ≠ "java/lang/invoke/MethodHandle" ∧ yX2_sum.cls ≠ "java/lang/invoke/VarHandle" ∧ (parseMethodDescriptor yX2_sum.desc).map (fun d => d.parameters.length) = some 0 := by decide +kernel
theorem hw_X2_241 : GoodIn lw_all (wsV RX2 241 RX2 yX2_sum (ws_ yX2_sum cX2_sum 3 (some (.object "TroughTreaty$Part")))) := lw_V q928 q930 qs28 q124 q931
theorem hdc_X2_isSign : yX2_isSign.cls ≠ "java/lang/invoke/MethodHandle" ∧ yX2_isSign.cls ≠ "java/lang/invoke/VarHandle" ∧ (parseMethodDescriptor yX2_isSign.desc).map (fun d => d.parameters.length) = some 1 := by decide +kernel
theorem hdv_X2_isSign : yX2_isSign.cls = RX2 ∧ yX2_isSign.cls ≠ "java/lang/invoke/MethodHandle" ∧ yX2_isSign.cls ≠ "java/lang/invoke/VarHandle" ∧ (parseMethodDescriptor yX2_isSign.desc).map (fun d => d.parameters.length) = some 1 := by decide +kernel
theorem hw_X2_181 : GoodIn lw_all (wsV RX2 181 RX2 yX2_isSign (ws_ yX2_isSign cX2_isSign 2 (some .boolean))) := lw_V q940 q942 qs31 q124 q943
theorem hdc_X2_numberAtHand : yX2_numberAtHand.cls ≠ "java/lang/invoke/MethodHandle" ∧ yX2_numberAtHand.cls ≠ "java/lang/invoke/VarHandle" ∧ (parseMethodDescriptor yX2_numberAtHand.desc).map (fun d => d.parameters.length) = some 2 := by decide +kernel
theorem hdv_X2_numberAtHand : yX2_numberAtHand.cls = RX2 ∧ yX2_numberAtHand.cls ≠ "java/lang/invoke/MethodHandle" ∧ yX2_numberAtHand.cls ≠ "java/lang/invoke/VarHandle" ∧ (parseMethodDescriptor yX2_numberAtHand.desc).map (fun d => d.parameters.length) = some 2 := by decide +kernel
theorem hw_X2_89 : GoodIn lw_all (wsV RX2 89 RX2 yX2_numberAtHand (ws_ yX2_numberAtHand cX2_numberAtHand 3 (some .int))) := lw_V q739 q741 qs16 q124 q742
theorem nw_X2_203 {E : En} {G : Ctx} {M M1 : Mem} {cells slots nL pc : Nat} {lv : List (Nat × Value)} {st : List Value} {Q : State → Prop} {cc : ByteArray} {ret : Option FieldType} {rm0 : Room} (hG : Cx E G cc nL ret RX2 rm0) {Me : Mem} (hEn : Ent E G Me) {LC LZ : Nat} (hrc : rm0.cells = LC - mN Me) (hrs : rm0.slots = LZ - mZ Me) (hM1 : M1 = nw M 8 5) (hg : mN M + 1 ≤ LC ∧ mZ M + 5 ≤ LZ) (d : decode cc pc = .ok (.new 203, 3)) (kk : V E G M1 (mN M1 - mN Me) (mZ M1 - mZ Me) nL (pc + 3) lv (rf E (mN M) :: st) Q) : V E G M cells slots nL pc lv st Q := by
  subst hM1
  refine V_narrow hEn (fun h1 h2 h3 => ?_)
  exact V_new hG (ci := 8) (C := RX12) (T := TX12) (N := 5) (by decide) rfl in_X12 tyX12 tyX12_ok (by decide +kernel) q866 q867 q149 (by rw [hrc]; omega) (by rw [hrs]; omega) d (V_narrow hEn (fun _ _ _ => kk))
theorem gf_X2_126 {E : En} {G : Ctx} {M : Mem} {cells slots nL pc : Nat} {lv : List (Nat × Value)} {st : List Value} {Q : State → Prop} {cc : ByteArray} {ret : Option FieldType} {rm0 : Room} (hN : NOk E) (hG : Cx E G cc nL ret RX2 rm0) {a : Nat} (hT : mT M a = 2) {r : Nat} (hr : mR M a 1 = some r) (d : decode cc pc = .ok (.getfield 126, 3)) (kk : V E G M cells slots nL (pc + 3) lv (rf E r :: st) Q) : V E G M cells slots nL pc lv (rf E a :: st) Q := W_getNR hG (ci := 2) (C := RX3) (T := TX3) (N := 9) (k := 1) hT (by decide) rfl in_X3 (by decide) (Or.inl rfl) hr rfl hN q249 d kk
theorem hdc_X2_fresh : yX2_fresh.cls ≠ "java/lang/invoke/MethodHandle" ∧ yX2_fresh.cls ≠ "java/lang/invoke/VarHandle" ∧ (parseMethodDescriptor yX2_fresh.desc).map (fun d => d.parameters.length) = some 1 := by decide +kernel
theorem hdv_X2_fresh : yX2_fresh.cls = RX2 ∧ yX2_fresh.cls ≠ "java/lang/invoke/MethodHandle" ∧ yX2_fresh.cls ≠ "java/lang/invoke/VarHandle" ∧ (parseMethodDescriptor yX2_fresh.desc).map (fun d => d.parameters.length) = some 1 := by decide +kernel
theorem hw_X2_186 : GoodIn lw_all (wsV RX2 186 RX2 yX2_fresh (ws_ yX2_fresh cX2_fresh 3 (some .int))) := lw_V q749 q751 qs18 q124 q752
theorem hdc_X12_init : yX12_init.cls ≠ "java/lang/invoke/MethodHandle" ∧ yX12_init.cls ≠ "java/lang/invoke/VarHandle" ∧ (parseMethodDescriptor yX12_init.desc).map (fun d => d.parameters.length) = some 1 := by decide +kernel
theorem hdc_X2_number : yX2_number.cls ≠ "java/lang/invoke/MethodHandle" ∧ yX2_number.cls ≠ "java/lang/invoke/VarHandle" ∧ (parseMethodDescriptor yX2_number.desc).map (fun d => d.parameters.length) = some 2 := by decide +kernel
theorem hdv_X2_number : yX2_number.cls = RX2 ∧ yX2_number.cls ≠ "java/lang/invoke/MethodHandle" ∧ yX2_number.cls ≠ "java/lang/invoke/VarHandle" ∧ (parseMethodDescriptor yX2_number.desc).map (fun d => d.parameters.length) = some 2 := by decide +kernel
theorem hw_X2_143 : GoodIn lw_all (wsV RX2 143 RX2 yX2_number (ws_ yX2_number cX2_number 4 (some .int))) := lw_V q735 q737 qs15 q124 q738
theorem pf_X2_206 {E : En} {G : Ctx} {M M1 : Mem} {cells slots nL pc : Nat} {lv : List (Nat × Value)} {st : List Value} {Q : State → Prop} {cc : ByteArray} {ret : Option FieldType} {rm0 : Room} (hN : NOk E) (hG : Cx E G cc nL ret RX2 rm0) {a : Nat} {x : Int32} (hT : mT M a = 8) (hM1 : M1 = sI M a 2 x) (d : decode cc pc = .ok (.putfield 206, 3)) (kk : V E G M1 cells slots nL (pc + 3) lv st Q) : V E G M cells slots nL pc lv (.int x :: rf E a :: st) Q := W_putNI hG (ci := 8) (C := RX12) (T := TX12) (N := 5) (k := 2) hT (by decide) rfl in_X12 (by decide) (Or.inl rfl) tyX12 tyX12_ok nmX12 rfl (by decide +kernel) rfl hN q873 M1 hM1 d kk
theorem gf_X2_146 {E : En} {G : Ctx} {M : Mem} {cells slots nL pc : Nat} {lv : List (Nat × Value)} {st : List Value} {Q : State → Prop} {cc : ByteArray} {ret : Option FieldType} {rm0 : Room} (hN : NOk E) (hG : Cx E G cc nL ret RX2 rm0) {a : Nat} (hT : mT M a = 2) (d : decode cc pc = .ok (.getfield 146, 3)) (kk : V E G M cells slots nL (pc + 3) lv (.int (mI M a 4) :: st) Q) : V E G M cells slots nL pc lv (rf E a :: st) Q := W_getNI hG (ci := 2) (C := RX3) (T := TX3) (N := 9) (k := 4) hT (by decide) rfl in_X3 (by decide) (Or.inl rfl)  rfl hN q258 d kk
theorem pf_X2_209 {E : En} {G : Ctx} {M M1 : Mem} {cells slots nL pc : Nat} {lv : List (Nat × Value)} {st : List Value} {Q : State → Prop} {cc : ByteArray} {ret : Option FieldType} {rm0 : Room} (hN : NOk E) (hG : Cx E G cc nL ret RX2 rm0) {a : Nat} {x : Int32} (hT : mT M a = 8) (hM1 : M1 = sI M a 0 x) (d : decode cc pc = .ok (.putfield 209, 3)) (kk : V E G M1 cells slots nL (pc + 3) lv st Q) : V E G M cells slots nL pc lv (.int x :: rf E a :: st) Q := W_putPI hG (ci := 8) (C := RX12) (T := TX12) (N := 5) (k := 0) hT (by decide) rfl in_X12 (by decide) (Or.inr q776) tyX12 tyX12_ok nmX12 rfl (by decide +kernel) rfl q780 M1 hM1 d kk
theorem pf_X2_210 {E : En} {G : Ctx} {M M1 : Mem} {cells slots nL pc : Nat} {lv : List (Nat × Value)} {st : List Value} {Q : State → Prop} {cc : ByteArray} {ret : Option FieldType} {rm0 : Room} (hN : NOk E) (hG : Cx E G cc nL ret RX2 rm0) {a : Nat} {x : Int32} (hT : mT M a = 8) (hM1 : M1 = sI M a 3 x) (d : decode cc pc = .ok (.putfield 210, 3)) (kk : V E G M1 cells slots nL (pc + 3) lv st Q) : V E G M cells slots nL pc lv (.int x :: rf E a :: st) Q := W_putNI hG (ci := 8) (C := RX12) (T := TX12) (N := 5) (k := 3) hT (by decide) rfl in_X12 (by decide) (Or.inl rfl) tyX12 tyX12_ok nmX12 rfl (by decide +kernel) rfl hN q876 M1 hM1 d kk
theorem pf_X2_213 {E : En} {G : Ctx} {M M1 : Mem} {cells slots nL pc : Nat} {lv : List (Nat × Value)} {st : List Value} {Q : State → Prop} {cc : ByteArray} {ret : Option FieldType} {rm0 : Room} (hN : NOk E) (hG : Cx E G cc nL ret RX2 rm0) {a : Nat} {x : Int32} (hT : mT M a = 8) (hM1 : M1 = sI M a 4 x) (d : decode cc pc = .ok (.putfield 213, 3)) (kk : V E G M1 cells slots nL (pc + 3) lv st Q) : V E G M cells slots nL pc lv (.int x :: rf E a :: st) Q := W_putNI hG (ci := 8) (C := RX12) (T := TX12) (N := 5) (k := 4) hT (by decide) rfl in_X12 (by decide) (Or.inl rfl) tyX12 tyX12_ok nmX12 rfl (by decide +kernel) rfl hN q878 M1 hM1 d kk
theorem hw_X2_163 : GoodIn lw_all (wsV RX2 163 RJ2 yJ2_add (ws_ yJ2_add cJ2_add 2 (some .boolean))) := lw_V q798 q799 q800 q128 q801
theorem pf_X2_3 {E : En} {G : Ctx} {M M1 : Mem} {cells slots nL pc : Nat} {lv : List (Nat × Value)} {st : List Value} {Q : State → Prop} {cc : ByteArray} {ret : Option FieldType} {rm0 : Room} (hN : NOk E) (hG : Cx E G cc nL ret RX2 rm0) (hI : IsInit G) {a : Nat} {x : Nat} (hT : mT M a = 1) (hM1 : M1 = sR M a 8 (some x)) (d : decode cc pc = .ok (.putfield 3, 3)) (kk : V E G M1 cells slots nL (pc + 3) lv st Q) : V E G M cells slots nL pc lv (rf E x :: rf E a :: st) Q := V_putQF (M := M) hG (a := a) (ci := 1) (C := RX2) (T := TX2) (N := 9) (k := 8) (x := some x) (ty := .object "TroughTreaty") hT (by decide) rfl in_X2 (by decide) tyX2 tyX2_ok nmX2 rfl rfl hI (by decide +kernel) (Or.inl ⟨_, rfl⟩) rfl q186 d (by rw [← hM1]; exact kk)
theorem gf_X2_129 {E : En} {G : Ctx} {M : Mem} {cells slots nL pc : Nat} {lv : List (Nat × Value)} {st : List Value} {Q : State → Prop} {cc : ByteArray} {ret : Option FieldType} {rm0 : Room} (hN : NOk E) (hG : Cx E G cc nL ret RX2 rm0) {a : Nat} (hT : mT M a = 2) {r : Nat} (hr : mR M a 2 = some r) (d : decode cc pc = .ok (.getfield 129, 3)) (kk : V E G M cells slots nL (pc + 3) lv (rf E r :: st) Q) : V E G M cells slots nL pc lv (rf E a :: st) Q := W_getNR hG (ci := 2) (C := RX3) (T := TX3) (N := 9) (k := 2) hT (by decide) rfl in_X3 (by decide) (Or.inl rfl) hr rfl hN q252 d kk
theorem hw_X2_122 : GoodIn lw_all (wsV RX2 122 RJ2 yJ2_size (ws_ yJ2_size cJ2_size 1 (some .int))) := lw_V q734 q397 q398 q128 q399
theorem gf_X2_118 {E : En} {G : Ctx} {M : Mem} {cells slots nL pc : Nat} {lv : List (Nat × Value)} {st : List Value} {Q : State → Prop} {cc : ByteArray} {ret : Option FieldType} {rm0 : Room} (hN : NOk E) (hG : Cx E G cc nL ret RX2 rm0) {a : Nat} (hT : mT M a = 2) {r : Nat} (hr : mR M a 0 = some r) (d : decode cc pc = .ok (.getfield 118, 3)) (kk : V E G M cells slots nL (pc + 3) lv (rf E r :: st) Q) : V E G M cells slots nL pc lv (rf E a :: st) Q := W_getNR hG (ci := 2) (C := RX3) (T := TX3) (N := 9) (k := 0) hT (by decide) rfl in_X3 (by decide) (Or.inl rfl) hr rfl hN q246 d kk
theorem nw_X2_236 {E : En} {G : Ctx} {M M1 : Mem} {cells slots nL pc : Nat} {lv : List (Nat × Value)} {st : List Value} {Q : State → Prop} {cc : ByteArray} {ret : Option FieldType} {rm0 : Room} (hG : Cx E G cc nL ret RX2 rm0) {Me : Mem} (hEn : Ent E G Me) {LC LZ : Nat} (hrc : rm0.cells = LC - mN Me) (hrs : rm0.slots = LZ - mZ Me) (hM1 : M1 = nw M 12 1) (hg : mN M + 1 ≤ LC ∧ mZ M + 1 ≤ LZ) (d : decode cc pc = .ok (.new 236, 3)) (kk : V E G M1 (mN M1 - mN Me) (mZ M1 - mZ Me) nL (pc + 3) lv (rf E (mN M) :: st) Q) : V E G M cells slots nL pc lv st Q := by
  subst hM1
  refine V_narrow hEn (fun h1 h2 h3 => ?_)
  exact V_new hG (ci := 12) (C := RX17) (T := TX17) (N := 1) (by decide) rfl in_X17 tyX17 tyX17_ok (by decide +kernel) q992 q993 q154 (by rw [hrc]; omega) (by rw [hrs]; omega) d (V_narrow hEn (fun _ _ _ => kk))
theorem hdc_X2_compare : yX2_compare.cls ≠ "java/lang/invoke/MethodHandle" ∧ yX2_compare.cls ≠ "java/lang/invoke/VarHandle" ∧ (parseMethodDescriptor yX2_compare.desc).map (fun d => d.parameters.length) = some 0 := by decide +kernel
theorem hdv_X2_compare : yX2_compare.cls = RX2 ∧ yX2_compare.cls ≠ "java/lang/invoke/MethodHandle" ∧ yX2_compare.cls ≠ "java/lang/invoke/VarHandle" ∧ (parseMethodDescriptor yX2_compare.desc).map (fun d => d.parameters.length) = some 0 := by decide +kernel
theorem hw_X2_233 : GoodIn lw_all (wsV RX2 233 RX2 yX2_compare (ws_ yX2_compare cX2_compare 3 (some (.object "TroughTreaty$Part")))) := lw_V q924 q926 qs27 q124 q927
theorem nw_X2_253 {E : En} {G : Ctx} {M M1 : Mem} {cells slots nL pc : Nat} {lv : List (Nat × Value)} {st : List Value} {Q : State → Prop} {cc : ByteArray} {ret : Option FieldType} {rm0 : Room} (hG : Cx E G cc nL ret RX2 rm0) {Me : Mem} (hEn : Ent E G Me) {LC LZ : Nat} (hrc : rm0.cells = LC - mN Me) (hrs : rm0.slots = LZ - mZ Me) (hM1 : M1 = nw M 11 1) (hg : mN M + 1 ≤ LC ∧ mZ M + 1 ≤ LZ) (d : decode cc pc = .ok (.new 253, 3)) (kk : V E G M1 (mN M1 - mN Me) (mZ M1 - mZ Me) nL (pc + 3) lv (rf E (mN M) :: st) Q) : V E G M cells slots nL pc lv st Q := by
  subst hM1
  refine V_narrow hEn (fun h1 h2 h3 => ?_)
  exact V_new hG (ci := 11) (C := RX16) (T := TX16) (N := 1) (by decide) rfl in_X16 tyX16 tyX16_ok (by decide +kernel) q961 q962 q153 (by rw [hrc]; omega) (by rw [hrs]; omega) d (V_narrow hEn (fun _ _ _ => kk))
theorem hdc_X16_init : yX16_init.cls ≠ "java/lang/invoke/MethodHandle" ∧ yX16_init.cls ≠ "java/lang/invoke/VarHandle" ∧ (parseMethodDescriptor yX16_init.desc).map (fun d => d.parameters.length) = some 1 := by decide +kernel
theorem nw_X2_250 {E : En} {G : Ctx} {M M1 : Mem} {cells slots nL pc : Nat} {lv : List (Nat × Value)} {st : List Value} {Q : State → Prop} {cc : ByteArray} {ret : Option FieldType} {rm0 : Room} (hG : Cx E G cc nL ret RX2 rm0) {Me : Mem} (hEn : Ent E G Me) {LC LZ : Nat} (hrc : rm0.cells = LC - mN Me) (hrs : rm0.slots = LZ - mZ Me) (hM1 : M1 = nw M 10 1) (hg : mN M + 1 ≤ LC ∧ mZ M + 1 ≤ LZ) (d : decode cc pc = .ok (.new 250, 3)) (kk : V E G M1 (mN M1 - mN Me) (mZ M1 - mZ Me) nL (pc + 3) lv (rf E (mN M) :: st) Q) : V E G M cells slots nL pc lv st Q := by
  subst hM1
  refine V_narrow hEn (fun h1 h2 h3 => ?_)
  exact V_new hG (ci := 10) (C := RX15) (T := TX15) (N := 1) (by decide) rfl in_X15 tyX15 tyX15_ok (by decide +kernel) q944 q945 q152 (by rw [hrc]; omega) (by rw [hrs]; omega) d (V_narrow hEn (fun _ _ _ => kk))
theorem hdc_X15_init : yX15_init.cls ≠ "java/lang/invoke/MethodHandle" ∧ yX15_init.cls ≠ "java/lang/invoke/VarHandle" ∧ (parseMethodDescriptor yX15_init.desc).map (fun d => d.parameters.length) = some 1 := by decide +kernel
theorem gf_X2_102 {E : En} {G : Ctx} {M : Mem} {cells slots nL pc : Nat} {lv : List (Nat × Value)} {st : List Value} {Q : State → Prop} {cc : ByteArray} {ret : Option FieldType} {rm0 : Room} (hN : NOk E) (hG : Cx E G cc nL ret RX2 rm0) {a : Nat} (hT : mT M a = 1) (d : decode cc pc = .ok (.getfield 102, 3)) (kk : V E G M cells slots nL (pc + 3) lv (.int (mI M a 5) :: st) Q) : V E G M cells slots nL pc lv (rf E a :: st) Q := W_getPI hG (ci := 1) (C := RX2) (T := TX2) (N := 9) (k := 5) hT (by decide) rfl in_X2 (by decide) (Or.inl rfl)  rfl q183 d kk
theorem pf_X2_102 {E : En} {G : Ctx} {M M1 : Mem} {cells slots nL pc : Nat} {lv : List (Nat × Value)} {st : List Value} {Q : State → Prop} {cc : ByteArray} {ret : Option FieldType} {rm0 : Room} (hN : NOk E) (hG : Cx E G cc nL ret RX2 rm0) {a : Nat} {x : Int32} (hT : mT M a = 1) (hM1 : M1 = sI M a 5 x) (d : decode cc pc = .ok (.putfield 102, 3)) (kk : V E G M1 cells slots nL (pc + 3) lv st Q) : V E G M cells slots nL pc lv (.int x :: rf E a :: st) Q := W_putPI hG (ci := 1) (C := RX2) (T := TX2) (N := 9) (k := 5) hT (by decide) rfl in_X2 (by decide) (Or.inl rfl) tyX2 tyX2_ok nmX2 rfl (by decide +kernel) rfl q183 M1 hM1 d kk
theorem hdc_X2_or : yX2_or.cls ≠ "java/lang/invoke/MethodHandle" ∧ yX2_or.cls ≠ "java/lang/invoke/VarHandle" ∧ (parseMethodDescriptor yX2_or.desc).map (fun d => d.parameters.length) = some 0 := by decide +kernel
theorem hdv_X2_or : yX2_or.cls = RX2 ∧ yX2_or.cls ≠ "java/lang/invoke/MethodHandle" ∧ yX2_or.cls ≠ "java/lang/invoke/VarHandle" ∧ (parseMethodDescriptor yX2_or.desc).map (fun d => d.parameters.length) = some 0 := by decide +kernel
theorem hw_X2_177 : GoodIn lw_all (wsV RX2 177 RX2 yX2_or (ws_ yX2_or cX2_or 3 (some (.object "TroughTreaty$Part")))) := lw_V q912 q914 qs24 q124 q915
theorem hdc_X2_and : yX2_and.cls ≠ "java/lang/invoke/MethodHandle" ∧ yX2_and.cls ≠ "java/lang/invoke/VarHandle" ∧ (parseMethodDescriptor yX2_and.desc).map (fun d => d.parameters.length) = some 0 := by decide +kernel
theorem hdv_X2_and : yX2_and.cls = RX2 ∧ yX2_and.cls ≠ "java/lang/invoke/MethodHandle" ∧ yX2_and.cls ≠ "java/lang/invoke/VarHandle" ∧ (parseMethodDescriptor yX2_and.desc).map (fun d => d.parameters.length) = some 0 := by decide +kernel
theorem hw_X2_219 : GoodIn lw_all (wsV RX2 219 RX2 yX2_and (ws_ yX2_and cX2_and 3 (some (.object "TroughTreaty$Part")))) := lw_V q916 q918 qs25 q124 q919
theorem hdc_X2_one : yX2_one.cls ≠ "java/lang/invoke/MethodHandle" ∧ yX2_one.cls ≠ "java/lang/invoke/VarHandle" ∧ (parseMethodDescriptor yX2_one.desc).map (fun d => d.parameters.length) = some 0 := by decide +kernel
theorem hdv_X2_one : yX2_one.cls = RX2 ∧ yX2_one.cls ≠ "java/lang/invoke/MethodHandle" ∧ yX2_one.cls ≠ "java/lang/invoke/VarHandle" ∧ (parseMethodDescriptor yX2_one.desc).map (fun d => d.parameters.length) = some 0 := by decide +kernel
theorem hw_X2_247 : GoodIn lw_all (wsV RX2 247 RX2 yX2_one (ws_ yX2_one cX2_one 2 (some (.object "TroughTreaty$Part")))) := lw_V q936 q938 qs30 q124 q939
theorem hdc_X2_product : yX2_product.cls ≠ "java/lang/invoke/MethodHandle" ∧ yX2_product.cls ≠ "java/lang/invoke/VarHandle" ∧ (parseMethodDescriptor yX2_product.desc).map (fun d => d.parameters.length) = some 0 := by decide +kernel
theorem hdv_X2_product : yX2_product.cls = RX2 ∧ yX2_product.cls ≠ "java/lang/invoke/MethodHandle" ∧ yX2_product.cls ≠ "java/lang/invoke/VarHandle" ∧ (parseMethodDescriptor yX2_product.desc).map (fun d => d.parameters.length) = some 0 := by decide +kernel
theorem hw_X2_244 : GoodIn lw_all (wsV RX2 244 RX2 yX2_product (ws_ yX2_product cX2_product 3 (some (.object "TroughTreaty$Part")))) := lw_V q932 q934 qs29 q124 q935
theorem nw_X2_184 {E : En} {G : Ctx} {M M1 : Mem} {cells slots nL pc : Nat} {lv : List (Nat × Value)} {st : List Value} {Q : State → Prop} {cc : ByteArray} {ret : Option FieldType} {rm0 : Room} (hG : Cx E G cc nL ret RX2 rm0) {Me : Mem} (hEn : Ent E G Me) {LC LZ : Nat} (hrc : rm0.cells = LC - mN Me) (hrs : rm0.slots = LZ - mZ Me) (hM1 : M1 = nw M 7 4) (hg : mN M + 1 ≤ LC ∧ mZ M + 4 ≤ LZ) (d : decode cc pc = .ok (.new 184, 3)) (kk : V E G M1 (mN M1 - mN Me) (mZ M1 - mZ Me) nL (pc + 3) lv (rf E (mN M) :: st) Q) : V E G M cells slots nL pc lv st Q := by
  subst hM1
  refine V_narrow hEn (fun h1 h2 h3 => ?_)
  exact V_new hG (ci := 7) (C := RX11) (T := TX11) (N := 4) (by decide) rfl in_X11 tyX11 tyX11_ok (by decide +kernel) q747 q748 q145 (by rw [hrc]; omega) (by rw [hrs]; omega) d (V_narrow hEn (fun _ _ _ => kk))
theorem hdc_X11_init : yX11_init.cls ≠ "java/lang/invoke/MethodHandle" ∧ yX11_init.cls ≠ "java/lang/invoke/VarHandle" ∧ (parseMethodDescriptor yX11_init.desc).map (fun d => d.parameters.length) = some 1 := by decide +kernel
theorem hw_X2_192 : GoodIn lw_all (va_wsS RX2 192 yX10_at (ws_ yX10_at cX10_at 3 (some .int))) := lw_S q792 q793 q144 q794
theorem pf_X2_196 {E : En} {G : Ctx} {M M1 : Mem} {cells slots nL pc : Nat} {lv : List (Nat × Value)} {st : List Value} {Q : State → Prop} {cc : ByteArray} {ret : Option FieldType} {rm0 : Room} (hN : NOk E) (hG : Cx E G cc nL ret RX2 rm0) {a : Nat} {x : Int32} (hT : mT M a = 7) (hM1 : M1 = sI M a 0 x) (d : decode cc pc = .ok (.putfield 196, 3)) (kk : V E G M1 cells slots nL (pc + 3) lv st Q) : V E G M cells slots nL pc lv (.int x :: rf E a :: st) Q := W_putPI hG (ci := 7) (C := RX11) (T := TX11) (N := 4) (k := 0) hT (by decide) rfl in_X11 (by decide) (Or.inr q778) tyX11 tyX11_ok nmX11 rfl (by decide +kernel) rfl q779 M1 hM1 d kk
theorem pf_X2_197 {E : En} {G : Ctx} {M M1 : Mem} {cells slots nL pc : Nat} {lv : List (Nat × Value)} {st : List Value} {Q : State → Prop} {cc : ByteArray} {ret : Option FieldType} {rm0 : Room} (hN : NOk E) (hG : Cx E G cc nL ret RX2 rm0) {a : Nat} {x : Int32} (hT : mT M a = 7) (hM1 : M1 = sI M a 2 x) (d : decode cc pc = .ok (.putfield 197, 3)) (kk : V E G M1 cells slots nL (pc + 3) lv st Q) : V E G M cells slots nL pc lv (.int x :: rf E a :: st) Q := W_putNI hG (ci := 7) (C := RX11) (T := TX11) (N := 4) (k := 2) hT (by decide) rfl in_X11 (by decide) (Or.inl rfl) tyX11 tyX11_ok nmX11 rfl (by decide +kernel) rfl hN q770 M1 hM1 d kk
theorem pf_X2_200 {E : En} {G : Ctx} {M M1 : Mem} {cells slots nL pc : Nat} {lv : List (Nat × Value)} {st : List Value} {Q : State → Prop} {cc : ByteArray} {ret : Option FieldType} {rm0 : Room} (hN : NOk E) (hG : Cx E G cc nL ret RX2 rm0) {a : Nat} {x : Int32} (hT : mT M a = 7) (hM1 : M1 = sI M a 3 x) (d : decode cc pc = .ok (.putfield 200, 3)) (kk : V E G M1 cells slots nL (pc + 3) lv st Q) : V E G M cells slots nL pc lv (.int x :: rf E a :: st) Q := W_putNI hG (ci := 7) (C := RX11) (T := TX11) (N := 4) (k := 3) hT (by decide) rfl in_X11 (by decide) (Or.inl rfl) tyX11 tyX11_ok nmX11 rfl (by decide +kernel) rfl hN q772 M1 hM1 d kk
theorem gf_X2_136 {E : En} {G : Ctx} {M : Mem} {cells slots nL pc : Nat} {lv : List (Nat × Value)} {st : List Value} {Q : State → Prop} {cc : ByteArray} {ret : Option FieldType} {rm0 : Room} (hN : NOk E) (hG : Cx E G cc nL ret RX2 rm0) {a : Nat} (hT : mT M a = 2) (d : decode cc pc = .ok (.getfield 136, 3)) (kk : V E G M cells slots nL (pc + 3) lv (.int (mI M a 8) :: st) Q) : V E G M cells slots nL pc lv (rf E a :: st) Q := W_getNI hG (ci := 2) (C := RX3) (T := TX3) (N := 9) (k := 8) hT (by decide) rfl in_X3 (by decide) (Or.inl rfl)  rfl hN q268 d kk
theorem hdc_X2_isFull : yX2_isFull.cls ≠ "java/lang/invoke/MethodHandle" ∧ yX2_isFull.cls ≠ "java/lang/invoke/VarHandle" ∧ (parseMethodDescriptor yX2_isFull.desc).map (fun d => d.parameters.length) = some 1 := by decide +kernel
theorem hdv_X2_isFull : yX2_isFull.cls = RX2 ∧ yX2_isFull.cls ≠ "java/lang/invoke/MethodHandle" ∧ yX2_isFull.cls ≠ "java/lang/invoke/VarHandle" ∧ (parseMethodDescriptor yX2_isFull.desc).map (fun d => d.parameters.length) = some 1 := by decide +kernel
theorem hw_X2_139 : GoodIn lw_all (wsV RX2 139 RX2 yX2_isFull (ws_ yX2_isFull cX2_isFull 2 (some .boolean))) := lw_V q730 q732 qs14 q124 q733
theorem gf_X2_105 {E : En} {G : Ctx} {M : Mem} {cells slots nL pc : Nat} {lv : List (Nat × Value)} {st : List Value} {Q : State → Prop} {cc : ByteArray} {ret : Option FieldType} {rm0 : Room} (hN : NOk E) (hG : Cx E G cc nL ret RX2 rm0) {a : Nat} (hT : mT M a = 1) (d : decode cc pc = .ok (.getfield 105, 3)) (kk : V E G M cells slots nL (pc + 3) lv (.int (mI M a 6) :: st) Q) : V E G M cells slots nL pc lv (rf E a :: st) Q := W_getPI hG (ci := 1) (C := RX2) (T := TX2) (N := 9) (k := 6) hT (by decide) rfl in_X2 (by decide) (Or.inl rfl)  rfl q184 d kk
theorem pf_X2_105 {E : En} {G : Ctx} {M M1 : Mem} {cells slots nL pc : Nat} {lv : List (Nat × Value)} {st : List Value} {Q : State → Prop} {cc : ByteArray} {ret : Option FieldType} {rm0 : Room} (hN : NOk E) (hG : Cx E G cc nL ret RX2 rm0) {a : Nat} {x : Int32} (hT : mT M a = 1) (hM1 : M1 = sI M a 6 x) (d : decode cc pc = .ok (.putfield 105, 3)) (kk : V E G M1 cells slots nL (pc + 3) lv st Q) : V E G M cells slots nL pc lv (.int x :: rf E a :: st) Q := W_putPI hG (ci := 1) (C := RX2) (T := TX2) (N := 9) (k := 6) hT (by decide) rfl in_X2 (by decide) (Or.inl rfl) tyX2 tyX2_ok nmX2 rfl (by decide +kernel) rfl q184 M1 hM1 d kk
theorem pf_X2_146 {E : En} {G : Ctx} {M M1 : Mem} {cells slots nL pc : Nat} {lv : List (Nat × Value)} {st : List Value} {Q : State → Prop} {cc : ByteArray} {ret : Option FieldType} {rm0 : Room} (hN : NOk E) (hG : Cx E G cc nL ret RX2 rm0) {a : Nat} {x : Int32} (hT : mT M a = 2) (hM1 : M1 = sI M a 4 x) (d : decode cc pc = .ok (.putfield 146, 3)) (kk : V E G M1 cells slots nL (pc + 3) lv st Q) : V E G M cells slots nL pc lv (.int x :: rf E a :: st) Q := W_putNI hG (ci := 2) (C := RX3) (T := TX3) (N := 9) (k := 4) hT (by decide) rfl in_X3 (by decide) (Or.inl rfl) tyX3 tyX3_ok nmX3 rfl (by decide +kernel) rfl hN q258 M1 hM1 d kk
theorem pf_X2_136 {E : En} {G : Ctx} {M M1 : Mem} {cells slots nL pc : Nat} {lv : List (Nat × Value)} {st : List Value} {Q : State → Prop} {cc : ByteArray} {ret : Option FieldType} {rm0 : Room} (hN : NOk E) (hG : Cx E G cc nL ret RX2 rm0) {a : Nat} {x : Int32} (hT : mT M a = 2) (hM1 : M1 = sI M a 8 x) (d : decode cc pc = .ok (.putfield 136, 3)) (kk : V E G M1 cells slots nL (pc + 3) lv st Q) : V E G M cells slots nL pc lv (.int x :: rf E a :: st) Q := W_putNI hG (ci := 2) (C := RX3) (T := TX3) (N := 9) (k := 8) hT (by decide) rfl in_X3 (by decide) (Or.inl rfl) tyX3 tyX3_ok nmX3 rfl (by decide +kernel) rfl hN q268 M1 hM1 d kk
theorem hdc_X2_trough : yX2_trough.cls ≠ "java/lang/invoke/MethodHandle" ∧ yX2_trough.cls ≠ "java/lang/invoke/VarHandle" ∧ (parseMethodDescriptor yX2_trough.desc).map (fun d => d.parameters.length) = some 0 := by decide +kernel
theorem hdv_X2_trough : yX2_trough.cls = RX2 ∧ yX2_trough.cls ≠ "java/lang/invoke/MethodHandle" ∧ yX2_trough.cls ≠ "java/lang/invoke/VarHandle" ∧ (parseMethodDescriptor yX2_trough.desc).map (fun d => d.parameters.length) = some 0 := by decide +kernel
theorem hw_X2_148 : GoodIn lw_all (wsV RX2 148 RX2 yX2_trough (ws_ yX2_trough cX2_trough 2 none)) := lw_V q743 q745 qs17 q124 q746
theorem hdc_X2_horse : yX2_horse.cls ≠ "java/lang/invoke/MethodHandle" ∧ yX2_horse.cls ≠ "java/lang/invoke/VarHandle" ∧ (parseMethodDescriptor yX2_horse.desc).map (fun d => d.parameters.length) = some 0 := by decide +kernel
theorem hdv_X2_horse : yX2_horse.cls = RX2 ∧ yX2_horse.cls ≠ "java/lang/invoke/MethodHandle" ∧ yX2_horse.cls ≠ "java/lang/invoke/VarHandle" ∧ (parseMethodDescriptor yX2_horse.desc).map (fun d => d.parameters.length) = some 0 := by decide +kernel
theorem hw_X2_151 : GoodIn lw_all (wsV RX2 151 RX2 yX2_horse (ws_ yX2_horse cX2_horse 2 none)) := lw_V q862 q864 qs22 q124 q865
theorem hdc_X2_ahead : yX2_ahead.cls ≠ "java/lang/invoke/MethodHandle" ∧ yX2_ahead.cls ≠ "java/lang/invoke/VarHandle" ∧ (parseMethodDescriptor yX2_ahead.desc).map (fun d => d.parameters.length) = some 1 := by decide +kernel
theorem hdv_X2_ahead : yX2_ahead.cls = RX2 ∧ yX2_ahead.cls ≠ "java/lang/invoke/MethodHandle" ∧ yX2_ahead.cls ≠ "java/lang/invoke/VarHandle" ∧ (parseMethodDescriptor yX2_ahead.desc).map (fun d => d.parameters.length) = some 1 := by decide +kernel
theorem hw_X2_154 : GoodIn lw_all (wsV RX2 154 RX2 yX2_ahead (ws_ yX2_ahead cX2_ahead 3 (some .int))) := lw_V q889 q891 qs23 q124 q892
theorem nw_X2_158 {E : En} {G : Ctx} {M M1 : Mem} {cells slots nL pc : Nat} {lv : List (Nat × Value)} {st : List Value} {Q : State → Prop} {cc : ByteArray} {ret : Option FieldType} {rm0 : Room} (hG : Cx E G cc nL ret RX2 rm0) {Me : Mem} (hEn : Ent E G Me) {LC LZ : Nat} (hrc : rm0.cells = LC - mN Me) (hrs : rm0.slots = LZ - mZ Me) (hM1 : M1 = nw M 9 3) (hg : mN M + 1 ≤ LC ∧ mZ M + 3 ≤ LZ) (d : decode cc pc = .ok (.new 158, 3)) (kk : V E G M1 (mN M1 - mN Me) (mZ M1 - mZ Me) nL (pc + 3) lv (rf E (mN M) :: st) Q) : V E G M cells slots nL pc lv st Q := by
  subst hM1
  refine V_narrow hEn (fun h1 h2 h3 => ?_)
  exact V_new hG (ci := 9) (C := RX13) (T := TX13) (N := 3) (by decide) rfl in_X13 tyX13 tyX13_ok (by decide +kernel) q893 q894 q150 (by rw [hrc]; omega) (by rw [hrs]; omega) d (V_narrow hEn (fun _ _ _ => kk))
theorem hdc_X13_init : yX13_init.cls ≠ "java/lang/invoke/MethodHandle" ∧ yX13_init.cls ≠ "java/lang/invoke/VarHandle" ∧ (parseMethodDescriptor yX13_init.desc).map (fun d => d.parameters.length) = some 3 := by decide +kernel
theorem pf_X2_167 {E : En} {G : Ctx} {M M1 : Mem} {cells slots nL pc : Nat} {lv : List (Nat × Value)} {st : List Value} {Q : State → Prop} {cc : ByteArray} {ret : Option FieldType} {rm0 : Room} (hN : NOk E) (hG : Cx E G cc nL ret RX2 rm0) {a : Nat} {x : Int32} (hT : mT M a = 2) (hM1 : M1 = sI M a 5 x) (d : decode cc pc = .ok (.putfield 167, 3)) (kk : V E G M1 cells slots nL (pc + 3) lv st Q) : V E G M cells slots nL pc lv (.int x :: rf E a :: st) Q := W_putNI hG (ci := 2) (C := RX3) (T := TX3) (N := 9) (k := 5) hT (by decide) rfl in_X3 (by decide) (Or.inl rfl) tyX3 tyX3_ok nmX3 rfl (by decide +kernel) rfl hN q261 M1 hM1 d kk
theorem pf_X2_170 {E : En} {G : Ctx} {M M1 : Mem} {cells slots nL pc : Nat} {lv : List (Nat × Value)} {st : List Value} {Q : State → Prop} {cc : ByteArray} {ret : Option FieldType} {rm0 : Room} (hN : NOk E) (hG : Cx E G cc nL ret RX2 rm0) {a : Nat} {x : Int32} (hT : mT M a = 2) (hM1 : M1 = sI M a 6 x) (d : decode cc pc = .ok (.putfield 170, 3)) (kk : V E G M1 cells slots nL (pc + 3) lv st Q) : V E G M cells slots nL pc lv (.int x :: rf E a :: st) Q := W_putNI hG (ci := 2) (C := RX3) (T := TX3) (N := 9) (k := 6) hT (by decide) rfl in_X3 (by decide) (Or.inl rfl) tyX3 tyX3_ok nmX3 rfl (by decide +kernel) rfl hN q264 M1 hM1 d kk
theorem gf_X2_173 {E : En} {G : Ctx} {M : Mem} {cells slots nL pc : Nat} {lv : List (Nat × Value)} {st : List Value} {Q : State → Prop} {cc : ByteArray} {ret : Option FieldType} {rm0 : Room} (hN : NOk E) (hG : Cx E G cc nL ret RX2 rm0) {a : Nat} (hT : mT M a = 2) {r : Nat} (hr : mR M a 3 = some r) (d : decode cc pc = .ok (.getfield 173, 3)) (kk : V E G M cells slots nL (pc + 3) lv (rf E r :: st) Q) : V E G M cells slots nL pc lv (rf E a :: st) Q := W_getNR hG (ci := 2) (C := RX3) (T := TX3) (N := 9) (k := 3) hT (by decide) rfl in_X3 (by decide) (Or.inl rfl) hr rfl hN q256 d kk
theorem as_5 {E : En} {G : Ctx} {M M1 : Mem} {cells slots nL pc : Nat} {lv : List (Nat × Value)} {st : List Value} {Q : State → Prop} {cc : ByteArray} {ret : Option FieldType} {rm0 : Room} {own : String} (hN : NOk E) (hG : Cx E G cc nL ret own rm0) {a r : Nat} {i : Int32} (hA : mT M a = 105) (hi : inb i (mLn M a)) (hT : mT M r = 10 ∨ mT M r = 11 ∨ mT M r = 12 ∨ mT M r = 13) (hM1 : M1 = sR M a i.toNatClampNeg (some r)) (d : decode cc pc = .ok (.aastore, 1)) (kk : V E G M1 cells slots nL (pc + 1) lv st Q) : V E G M cells slots nL pc lv (rf E r :: .int i :: rf E a :: st) Q := by
  rcases hT with hT | hT | hT | hT
  · exact W_aastore5 hG hN (ci := 10) (C := RX15) (T := TX15) (N := 1) hA hi hT (by decide) rfl q2295 M1 hM1 d kk
  · exact W_aastore5 hG hN (ci := 11) (C := RX16) (T := TX16) (N := 1) hA hi hT (by decide) rfl q2296 M1 hM1 d kk
  · exact W_aastore5 hG hN (ci := 12) (C := RX17) (T := TX17) (N := 1) hA hi hT (by decide) rfl q2298 M1 hM1 d kk
  · exact W_aastore5 hG hN (ci := 13) (C := RX18) (T := TX18) (N := 3) hA hi hT (by decide) rfl q2297 M1 hM1 d kk
theorem pf_X2_19 {E : En} {G : Ctx} {M M1 : Mem} {cells slots nL pc : Nat} {lv : List (Nat × Value)} {st : List Value} {Q : State → Prop} {cc : ByteArray} {ret : Option FieldType} {rm0 : Room} (hN : NOk E) (hG : Cx E G cc nL ret RX2 rm0) {a : Nat} {x : Int32} (hT : mT M a = 1) (hM1 : M1 = sI M a 1 x) (d : decode cc pc = .ok (.putfield 19, 3)) (kk : V E G M1 cells slots nL (pc + 3) lv st Q) : V E G M cells slots nL pc lv (.int x :: rf E a :: st) Q := W_putPI hG (ci := 1) (C := RX2) (T := TX2) (N := 9) (k := 1) hT (by decide) rfl in_X2 (by decide) (Or.inl rfl) tyX2 tyX2_ok nmX2 rfl (by decide +kernel) rfl q179 M1 hM1 d kk
theorem nw_X2_108 {E : En} {G : Ctx} {M M1 : Mem} {cells slots nL pc : Nat} {lv : List (Nat × Value)} {st : List Value} {Q : State → Prop} {cc : ByteArray} {ret : Option FieldType} {rm0 : Room} (hG : Cx E G cc nL ret RX2 rm0) {Me : Mem} (hEn : Ent E G Me) {LC LZ : Nat} (hrc : rm0.cells = LC - mN Me) (hrs : rm0.slots = LZ - mZ Me) (hM1 : M1 = nw M 2 9) (hg : mN M + 1 ≤ LC ∧ mZ M + 9 ≤ LZ) (d : decode cc pc = .ok (.new 108, 3)) (kk : V E G M1 (mN M1 - mN Me) (mZ M1 - mZ Me) nL (pc + 3) lv (rf E (mN M) :: st) Q) : V E G M cells slots nL pc lv st Q := by
  subst hM1
  refine V_narrow hEn (fun h1 h2 h3 => ?_)
  exact V_new hG (ci := 2) (C := RX3) (T := TX3) (N := 9) (by decide) rfl in_X3 tyX3 tyX3_ok (by decide +kernel) q511 q208 q125 (by rw [hrc]; omega) (by rw [hrs]; omega) d (V_narrow hEn (fun _ _ _ => kk))
theorem hdc_X3_init : yX3_init.cls ≠ "java/lang/invoke/MethodHandle" ∧ yX3_init.cls ≠ "java/lang/invoke/VarHandle" ∧ (parseMethodDescriptor yX3_init.desc).map (fun d => d.parameters.length) = some 0 := by decide +kernel
theorem pf_X2_111 {E : En} {G : Ctx} {M M1 : Mem} {cells slots nL pc : Nat} {lv : List (Nat × Value)} {st : List Value} {Q : State → Prop} {cc : ByteArray} {ret : Option FieldType} {rm0 : Room} (hN : NOk E) (hG : Cx E G cc nL ret RX2 rm0) {a : Nat} {x : Nat} (hT : mT M a = 1) (hM1 : M1 = sR M a 7 (some x)) (d : decode cc pc = .ok (.putfield 111, 3)) (kk : V E G M1 cells slots nL (pc + 3) lv st Q) : V E G M cells slots nL pc lv (rf E x :: rf E a :: st) Q := W_putPQ hG (ci := 1) (C := RX2) (T := TX2) (N := 9) (k := 7) (x := some x) (ty := .object "TroughTreaty$Road") hT (by decide) rfl in_X2 (by decide) (Or.inl rfl) tyX2 tyX2_ok nmX2 rfl (by decide +kernel) (Or.inl ⟨_, rfl⟩) rfl q185 M1 hM1 d kk
theorem hdc_X2_line : yX2_line.cls ≠ "java/lang/invoke/MethodHandle" ∧ yX2_line.cls ≠ "java/lang/invoke/VarHandle" ∧ (parseMethodDescriptor yX2_line.desc).map (fun d => d.parameters.length) = some 0 := by decide +kernel
theorem hdv_X2_line : yX2_line.cls = RX2 ∧ yX2_line.cls ≠ "java/lang/invoke/MethodHandle" ∧ yX2_line.cls ≠ "java/lang/invoke/VarHandle" ∧ (parseMethodDescriptor yX2_line.desc).map (fun d => d.parameters.length) = some 0 := by decide +kernel
theorem hw_X2_115 : GoodIn lw_all (wsV RX2 115 RX2 yX2_line (ws_ yX2_line cX2_line 5 none)) := lw_V q647 q649 qs10 q124 q650
def rmX (fr lo LC LZ : Nat) (M : Mem) : Room := { frames := fr, cells := LC - mN M, slots := LZ - mZ M, locals := lo }
def ExOk (E : En) (rec : Nat → Nat → Mem → Option ((Nat × Mem) ⊕ (Nat × Mem))) (fr lo LC LZ : Nat) : Prop :=
  (∀ (p0 : Nat) (M : Mem) (res : (Nat × Mem) ⊕ (Nat × Mem)), rec 0 p0 M = some res → RM E faF yX2_or cX2_or 3 (some (.object "TroughTreaty$Part")) (rmX fr lo LC LZ M) [rf E p0] M (rsA E res)) ∧
  (∀ (p0 : Nat) (M : Mem) (res : (Nat × Mem) ⊕ (Nat × Mem)), rec 1 p0 M = some res → RM E faF yX2_and cX2_and 3 (some (.object "TroughTreaty$Part")) (rmX fr lo LC LZ M) [rf E p0] M (rsA E res)) ∧
  (∀ (p0 : Nat) (M : Mem) (res : (Nat × Mem) ⊕ (Nat × Mem)), rec 2 p0 M = some res → RM E faF yX2_not cX2_not 1 (some (.object "TroughTreaty$Part")) (rmX fr lo LC LZ M) [rf E p0] M (rsA E res)) ∧
  (∀ (p0 : Nat) (M : Mem) (res : (Nat × Mem) ⊕ (Nat × Mem)), rec 3 p0 M = some res → RM E faF yX2_compare cX2_compare 3 (some (.object "TroughTreaty$Part")) (rmX fr lo LC LZ M) [rf E p0] M (rsA E res)) ∧
  (∀ (p0 : Nat) (M : Mem) (res : (Nat × Mem) ⊕ (Nat × Mem)), rec 4 p0 M = some res → RM E faF yX2_sum cX2_sum 3 (some (.object "TroughTreaty$Part")) (rmX fr lo LC LZ M) [rf E p0] M (rsA E res)) ∧
  (∀ (p0 : Nat) (M : Mem) (res : (Nat × Mem) ⊕ (Nat × Mem)), rec 5 p0 M = some res → RM E faF yX2_product cX2_product 3 (some (.object "TroughTreaty$Part")) (rmX fr lo LC LZ M) [rf E p0] M (rsA E res)) ∧
  (∀ (p0 : Nat) (M : Mem) (res : (Nat × Mem) ⊕ (Nat × Mem)), rec 6 p0 M = some res → RM E faF yX2_one cX2_one 2 (some (.object "TroughTreaty$Part")) (rmX fr lo LC LZ M) [rf E p0] M (rsA E res))
def f_X14_init (p0 : Nat) (M : Mem) : Option (Unit) :=
some ()
def rm_f_X14_init : Room := { frames := 1, cells := 0, slots := 0, locals := 40 }
theorem ok_f_X14_init {E : En} (hE : EOk E) (hN : NOk E) {p0 : Nat} {M : Mem}  (h : f_X14_init p0 M = some ()) : CM E yX14_init cX14_init 1 none rm_f_X14_init [rf E p0] M none M := by
  unfold f_X14_init at h
  refine CM_introX (own := RX14) rfl (by decide +kernel) (Nat.le_of_ble_eq_true rfl) rfl (fun G hG hEn hI => ?_)
  obtain ⟨Q, eQ⟩ : ∃ Q, Q = QM E G none M 0 0 := ⟨_, rfl⟩
  show V E G M 0 0 1 0 [(0, rf E p0)] [] (QM E G none M 0 0)
  rw [← eQ]
  refine V_aload_n hG 0 rfl dX14_init_0 ?_
  refine V_objInit hG q956 q_oi q_oc (Nat.le_of_ble_eq_true rfl) (Nat.le_of_ble_eq_true rfl) dX14_init_1 ?_
  cases h
  subst eQ
  exact V_vret hG dX14_init_4

def f_X15_init (p0 : Nat) (p1 : Int32) (M : Mem) : Option (Mem) :=
bd (f_X14_init p0 M) fun (u_2 : Unit) =>
gd (mT M p0 = 10) (
be (sI M p0 0 p1) fun (M_4 : Mem) =>
some M_4)
def rm_f_X15_init : Room := { frames := 2, cells := 0, slots := 0, locals := 60 }
theorem ok_f_X15_init {E : En} (hE : EOk E) (hN : NOk E) {p0 : Nat} {p1 : Int32} {M : Mem}  {M' : Mem} (h : f_X15_init p0 p1 M = some M') : CM E yX15_init cX15_init 2 none rm_f_X15_init [rf E p0, .int p1] M none M' := by
  unfold f_X15_init at h
  refine CM_introX (own := RX15) rfl (by decide +kernel) (Nat.le_of_ble_eq_true rfl) rfl (fun G hG hEn hI => ?_)
  obtain ⟨Q, eQ⟩ : ∃ Q, Q = QM E G none M' 0 0 := ⟨_, rfl⟩
  show V E G M 0 0 2 0 [(0, rf E p0), (1, .int p1)] [] (QM E G none M' 0 0)
  rw [← eQ]
  refine V_aload_n hG 0 rfl dX15_init_0 ?_
  obtain ⟨u_2, hc_1, h⟩ := bd_of h
  refine W_callIN hE hG hN (rt := none) (As := []) (rest := []) (ok_f_X14_init hE hN hc_1) q953 (lw_meth q955) q151 q954 rfl hdc_X14_init ⟨Nat.le_of_ble_eq_true rfl, Nat.le_of_ble_eq_true rfl⟩ rfl rfl (Nat.le_of_ble_eq_true rfl) ⟨Nat.le_of_ble_eq_true rfl, Nat.le_of_ble_eq_true rfl⟩ dX15_init_1 (V_zero rfl rfl ?_)
  refine V_aload_n hG 0 rfl dX15_init_4 ?_
  refine V_iload_n hG 1 rfl dX15_init_5 ?_
  obtain ⟨g_3, h⟩ := gd_of h
  obtain ⟨M_4, eM_4, h⟩ := be_of h
  refine pf_X15_7 hN hG (hI rfl) g_3 eM_4 dX15_init_6 ?_
  have g_5 : mT M_4 p0 = 10 := by rw [eM_4]; exact g_3
  cases h
  subst eQ
  exact V_vret hG dX15_init_9

def f_X16_init (p0 : Nat) (p1 : Int32) (M : Mem) : Option (Mem) :=
bd (f_X14_init p0 M) fun (u_2 : Unit) =>
gd (mT M p0 = 11) (
be (sI M p0 0 p1) fun (M_4 : Mem) =>
some M_4)
def rm_f_X16_init : Room := { frames := 2, cells := 0, slots := 0, locals := 60 }
theorem ok_f_X16_init {E : En} (hE : EOk E) (hN : NOk E) {p0 : Nat} {p1 : Int32} {M : Mem}  {M' : Mem} (h : f_X16_init p0 p1 M = some M') : CM E yX16_init cX16_init 2 none rm_f_X16_init [rf E p0, .int p1] M none M' := by
  unfold f_X16_init at h
  refine CM_introX (own := RX16) rfl (by decide +kernel) (Nat.le_of_ble_eq_true rfl) rfl (fun G hG hEn hI => ?_)
  obtain ⟨Q, eQ⟩ : ∃ Q, Q = QM E G none M' 0 0 := ⟨_, rfl⟩
  show V E G M 0 0 2 0 [(0, rf E p0), (1, .int p1)] [] (QM E G none M' 0 0)
  rw [← eQ]
  refine V_aload_n hG 0 rfl dX16_init_0 ?_
  obtain ⟨u_2, hc_1, h⟩ := bd_of h
  refine W_callIN hE hG hN (rt := none) (As := []) (rest := []) (ok_f_X14_init hE hN hc_1) q966 (lw_meth q955) q151 q954 rfl hdc_X14_init ⟨Nat.le_of_ble_eq_true rfl, Nat.le_of_ble_eq_true rfl⟩ rfl rfl (Nat.le_of_ble_eq_true rfl) ⟨Nat.le_of_ble_eq_true rfl, Nat.le_of_ble_eq_true rfl⟩ dX16_init_1 (V_zero rfl rfl ?_)
  refine V_aload_n hG 0 rfl dX16_init_4 ?_
  refine V_iload_n hG 1 rfl dX16_init_5 ?_
  obtain ⟨g_3, h⟩ := gd_of h
  obtain ⟨M_4, eM_4, h⟩ := be_of h
  refine pf_X16_7 hN hG (hI rfl) g_3 eM_4 dX16_init_6 ?_
  have g_5 : mT M_4 p0 = 11 := by rw [eM_4]; exact g_3
  cases h
  subst eQ
  exact V_vret hG dX16_init_9

def f_X17_init (p0 : Nat) (p1 : Nat) (M : Mem) : Option (Mem) :=
bd (f_X14_init p0 M) fun (u_2 : Unit) =>
gd (mT M p0 = 12 ∨ mT M p0 = 13) (
be (sR M p0 0 (some p1)) fun (M_4 : Mem) =>
some M_4)
def rm_f_X17_init : Room := { frames := 2, cells := 0, slots := 0, locals := 60 }
theorem ok_f_X17_init {E : En} (hE : EOk E) (hN : NOk E) {p0 : Nat} {p1 : Nat} {M : Mem}  {M' : Mem} (h : f_X17_init p0 p1 M = some M') : CM E yX17_init cX17_init 2 none rm_f_X17_init [rf E p0, rf E p1] M none M' := by
  unfold f_X17_init at h
  refine CM_introX (own := RX17) rfl (by decide +kernel) (Nat.le_of_ble_eq_true rfl) rfl (fun G hG hEn hI => ?_)
  obtain ⟨Q, eQ⟩ : ∃ Q, Q = QM E G none M' 0 0 := ⟨_, rfl⟩
  show V E G M 0 0 2 0 [(0, rf E p0), (1, rf E p1)] [] (QM E G none M' 0 0)
  rw [← eQ]
  refine V_aload_n hG 0 rfl dX17_init_0 ?_
  obtain ⟨u_2, hc_1, h⟩ := bd_of h
  refine W_callIN hE hG hN (rt := none) (As := []) (rest := []) (ok_f_X14_init hE hN hc_1) q979 (lw_meth q955) q151 q954 rfl hdc_X14_init ⟨Nat.le_of_ble_eq_true rfl, Nat.le_of_ble_eq_true rfl⟩ rfl rfl (Nat.le_of_ble_eq_true rfl) ⟨Nat.le_of_ble_eq_true rfl, Nat.le_of_ble_eq_true rfl⟩ dX17_init_1 (V_zero rfl rfl ?_)
  refine V_aload_n hG 0 rfl dX17_init_4 ?_
  refine V_aload_n hG 1 rfl dX17_init_5 ?_
  obtain ⟨g_3, h⟩ := gd_of h
  obtain ⟨M_4, eM_4, h⟩ := be_of h
  refine pf_X17_7 hN hG (hI rfl) g_3 eM_4 dX17_init_6 ?_
  have g_5 : mT M_4 p0 = 12 ∨ mT M_4 p0 = 13 := by rw [eM_4]; exact g_3
  cases h
  subst eQ
  exact V_vret hG dX17_init_9

def f_X18_init (p0 : Nat) (p1 : Int32) (p2 : Nat) (p3 : Nat) (M : Mem) : Option (Mem) :=
bd (f_X17_init p0 p2 M) fun (M_2 : Mem) =>
gd (mT M_2 p0 = 13) (
be (sI M_2 p0 1 p1) fun (M_4 : Mem) =>
be (sR M_4 p0 2 (some p3)) fun (M_6 : Mem) =>
some M_6)
def rm_f_X18_init : Room := { frames := 3, cells := 0, slots := 0, locals := 81 }
theorem ok_f_X18_init {E : En} (hE : EOk E) (hN : NOk E) {p0 : Nat} {p1 : Int32} {p2 : Nat} {p3 : Nat} {M : Mem}  {M' : Mem} (h : f_X18_init p0 p1 p2 p3 M = some M') : CM E yX18_init cX18_init 4 none rm_f_X18_init [rf E p0, .int p1, rf E p2, rf E p3] M none M' := by
  unfold f_X18_init at h
  refine CM_introX (own := RX18) rfl (by decide +kernel) (Nat.le_of_ble_eq_true rfl) rfl (fun G hG hEn hI => ?_)
  obtain ⟨Q, eQ⟩ : ∃ Q, Q = QM E G none M' 0 0 := ⟨_, rfl⟩
  show V E G M 0 0 4 0 [(0, rf E p0), (1, .int p1), (2, rf E p2), (3, rf E p3)] [] (QM E G none M' 0 0)
  rw [← eQ]
  refine V_aload_n hG 0 rfl dX18_init_0 ?_
  refine V_aload_n hG 2 rfl dX18_init_1 ?_
  obtain ⟨M_2, hc_1, h⟩ := bd_of h
  refine V_callI hE hG (rt := none) (As := [rf E p2]) (rest := []) (ok_f_X17_init hE hN hc_1) (lw_meth q978) q154 q976 q977 rfl hdc_X17_init ⟨Nat.le_of_ble_eq_true rfl, Nat.le_of_ble_eq_true rfl⟩ rfl rfl (Nat.le_of_ble_eq_true rfl) ⟨Nat.le_of_ble_eq_true rfl, Nat.le_of_ble_eq_true rfl⟩ dX18_init_2 (V_zero rfl rfl ?_)
  refine V_aload_n hG 0 rfl dX18_init_5 ?_
  refine V_iload_n hG 1 rfl dX18_init_6 ?_
  obtain ⟨g_3, h⟩ := gd_of h
  obtain ⟨M_4, eM_4, h⟩ := be_of h
  refine pf_X18_9 hN hG (hI rfl) g_3 eM_4 dX18_init_7 ?_
  have g_5 : mT M_4 p0 = 13 := by rw [eM_4]; exact g_3
  refine V_aload_n hG 0 rfl dX18_init_10 ?_
  refine V_aload_n hG 3 rfl dX18_init_11 ?_
  obtain ⟨M_6, eM_6, h⟩ := be_of h
  refine pf_X18_15 hN hG (hI rfl) g_5 eM_6 dX18_init_12 ?_
  have g_7 : mT M_6 p0 = 13 := by rw [eM_6]; exact g_5
  cases h
  subst eQ
  exact V_vret hG dX18_init_15

def f_X8_init (p0 : Nat) (p1 : Int32) (p2 : Int32) (M : Mem) : Option (Mem) :=
bd (f_J11_init p0 0 0 M) fun (u_2 : Unit) =>
gd (mT M p0 = 16) (
be (sI M p0 6 p1) fun (M_4 : Mem) =>
be (sI M_4 p0 7 p2) fun (M_6 : Mem) =>
some M_6)
def rm_f_X8_init : Room := { frames := 4, cells := 0, slots := 0, locals := 144 }
theorem ok_f_X8_init {E : En} (hE : EOk E) (hN : NOk E) {p0 : Nat} {p1 : Int32} {p2 : Int32} {M : Mem}  {M' : Mem} (h : f_X8_init p0 p1 p2 M = some M') : CM E yX8_init cX8_init 3 none rm_f_X8_init [rf E p0, .int p1, .int p2] M none M' := by
  unfold f_X8_init at h
  refine CM_introX (own := RX8) rfl (by decide +kernel) (Nat.le_of_ble_eq_true rfl) rfl (fun G hG hEn hI => ?_)
  obtain ⟨Q, eQ⟩ : ∃ Q, Q = QM E G none M' 0 0 := ⟨_, rfl⟩
  show V E G M 0 0 3 0 [(0, rf E p0), (1, .int p1), (2, .int p2)] [] (QM E G none M' 0 0)
  rw [← eQ]
  refine V_aload_n hG 0 rfl dX8_init_0 ?_
  refine V_null hG dX8_init_1 ?_
  refine V_null hG dX8_init_2 ?_
  refine V_iconst hG 0 rfl dX8_init_3 ?_
  refine V_iconst hG 0 rfl dX8_init_4 ?_
  obtain ⟨u_2, hc_1, h⟩ := bd_of h
  refine V_callI hE hG (rt := none) (As := [.null, .null, .int 0, .int 0]) (rest := []) (ok_f_J11_init hE hN hc_1) (lw_meth q705) q141 q703 q704 rfl hdc_J11_init ⟨Nat.le_of_ble_eq_true rfl, Nat.le_of_ble_eq_true rfl⟩ rfl rfl (Nat.le_of_ble_eq_true rfl) ⟨Nat.le_of_ble_eq_true rfl, Nat.le_of_ble_eq_true rfl⟩ dX8_init_5 (V_zero rfl rfl ?_)
  refine V_aload_n hG 0 rfl dX8_init_8 ?_
  refine V_iload_n hG 1 rfl dX8_init_9 ?_
  obtain ⟨g_3, h⟩ := gd_of h
  obtain ⟨M_4, eM_4, h⟩ := be_of h
  refine pf_X8_7 hN hG (hI rfl) g_3 eM_4 dX8_init_10 ?_
  have g_5 : mT M_4 p0 = 16 := by rw [eM_4]; exact g_3
  refine V_aload_n hG 0 rfl dX8_init_13 ?_
  refine V_iload_n hG 2 rfl dX8_init_14 ?_
  obtain ⟨M_6, eM_6, h⟩ := be_of h
  refine pf_X8_13 hN hG (hI rfl) g_5 eM_6 dX8_init_15 ?_
  have g_7 : mT M_6 p0 = 16 := by rw [eM_6]; exact g_5
  cases h
  subst eQ
  exact V_vret hG dX8_init_18

def f_X2_wrong (LC LZ : Nat) (p0 : Nat) (p1 : Int32) (M : Mem) : Option (Nat × Mem) :=
gd (mN M + 1 ≤ LC ∧ mZ M + 8 ≤ LZ) (
be (nw M 16 8) fun (M_2 : Mem) =>
gd (mT M_2 p0 = 1) (
gd (mN M_2 ≤ LC ∧ mZ M_2 ≤ LZ) (
bd (f_X8_init (mN M) p1 (mI M_2 p0 2) M_2) fun (M_6 : Mem) =>
gd (mN M_6 ≤ LC ∧ mZ M_6 ≤ LZ) (
some (mN M, M_6)))))
def rm_f_X2_wrong (LC LZ : Nat) (M : Mem) : Room := { frames := 5, cells := LC - mN M, slots := LZ - mZ M, locals := 166 }
theorem ok_f_X2_wrong {E : En} (hE : EOk E) (hN : NOk E) {LC LZ : Nat} {p0 : Nat} {p1 : Int32} {M : Mem} {r : Nat} {M' : Mem} (h : f_X2_wrong LC LZ p0 p1 M = some (r, M')) : CM E yX2_wrong cX2_wrong 2 (some (.object "TroughTreaty$Fault")) (rm_f_X2_wrong LC LZ M) [rf E p0, .int p1] M (some (rf E r)) M' := by
  unfold f_X2_wrong at h
  refine CM_introX (own := RX2) rfl (by decide +kernel) (Nat.le_of_ble_eq_true rfl) rfl (fun G hG hEn hI => ?_)
  obtain ⟨Q, eQ⟩ : ∃ Q, Q = QM E G (some (rf E r)) M' (LC - mN M) (LZ - mZ M) := ⟨_, rfl⟩
  show V E G M 0 0 2 0 [(0, rf E p0), (1, .int p1)] [] (QM E G (some (rf E r)) M' (LC - mN M) (LZ - mZ M))
  rw [← eQ]
  obtain ⟨g_1, h⟩ := gd_of h
  obtain ⟨M_2, eM_2, h⟩ := be_of h
  refine nw_X2_80 hG hEn rfl rfl eM_2 g_1 dX2_wrong_0 ?_
  refine V_dup hG rfl dX2_wrong_3 ?_
  refine V_iload_n hG 1 rfl dX2_wrong_4 ?_
  refine V_aload_n hG 0 rfl dX2_wrong_5 ?_
  obtain ⟨g_3, h⟩ := gd_of h
  refine gf_X2_30 hN hG g_3 dX2_wrong_6 ?_
  obtain ⟨g_4, h⟩ := gd_of h
  refine V_narrow hEn (fun n1 n2 n3 => ?_)
  obtain ⟨M_6, hc_5, h⟩ := bd_of h
  refine V_callI hE hG (rt := none) (As := [.int p1, .int (mI M_2 p0 2)]) (rest := [rf E (mN M)]) (ok_f_X8_init hE hN hc_5) (lw_meth q702) q142 q700 q701 rfl hdc_X8_init ⟨Nat.le_of_ble_eq_true rfl, Nat.le_of_ble_eq_true rfl⟩ rfl rfl (Nat.le_of_ble_eq_true rfl) ⟨by show _ + 0 ≤ LC - mN M; omega, by show _ + 0 ≤ LZ - mZ M; omega⟩ dX2_wrong_9 ?_
  obtain ⟨g_7, h⟩ := gd_of h
  refine V_narrow hEn (fun n1 n2 n3 => V_widen (k := LC - mN M) (n := LZ - mZ M) (by omega) (by omega) ?_)
  cases h
  subst eQ
  exact V_aret hG (Or.inr ⟨_, rfl⟩) dX2_wrong_12

def f_X2_word_b2 (N : Nat) (x1_6 : Int32) (p0 : Nat) (M : Mem) (x2_23 : Int32) : Option ((Int32) ⊕ (Int32)) :=
gd (mT M p0 = 1) (
if mI M p0 0 ≤ (mI M p0 2) + x2_23 then (
some (.inl x2_23))
else (
gd (inb x1_6 20) (
gd (inb x2_23 (stL.getD ((Int32.toNatClampNeg x1_6)) 0)) (
bd (mR M p0 8) fun (a_37 : Nat) =>
gd (mT M a_37 = 0) (
bd (mR M a_37 0) fun (a_40 : Nat) =>
gd (mT M a_40 = 101) (
gd (inb ((mI M p0 2) + x2_23) (mLn M a_40)) (
if sch ((Int32.toNatClampNeg x1_6)) x2_23 = mI M a_40 (Int32.toNatClampNeg ((mI M p0 2) + x2_23)) then (
be (x2_23 + 1) fun (x2_45 : Int32) =>
some (.inr x2_45))
else (
some (.inl x2_23)))))))))
def f_X2_word_b1 (N : Nat) (p0 : Nat) (M : Mem) (x1_6 : Int32) : Option (((Int32) ⊕ (Int32)) ⊕ (Int32)) :=
if Int32.ofNat 20 ≤ x1_6 then (
some (.inl (.inl x1_6)))
else (
gd (inb x1_6 20) (
gd (mT M p0 = 1) (
if slen ((Int32.toNatClampNeg x1_6)) = (mI M p0 0) - (mI M p0 2) then (
bd (lp N (fun s_32 : Int32 => f_X2_word_b2 N x1_6 p0 M s_32) 0) fun (x2_24 : Int32) =>
gd (mT M p0 = 1) (
if (mI M p0 2) + x2_24 = mI M p0 0 then (
some (.inl (.inr x1_6)))
else (
be (x1_6 + 1) fun (x1_29 : Int32) =>
some (.inr x1_29))))
else (
be (x1_6 + 1) fun (x1_46 : Int32) =>
some (.inr x1_46)))))
def f_X2_word (N : Nat) (p0 : Nat) (M : Mem) : Option (Int32) :=
bx (lp N (fun s_13 : Int32 => f_X2_word_b1 N p0 M s_13) 0) (fun (x1_8 : Int32) =>
some (-1)) (fun (w_47 : Int32) => some w_47)
def rm_f_X2_word : Room := { frames := 4, cells := 0, slots := 0, locals := 141 }
theorem ok_f_X2_word {E : En} (hE : EOk E) (hN : NOk E) {N : Nat} {p0 : Nat} {M : Mem} {r : Int32} (h : f_X2_word N p0 M = some r) : CM E yX2_word cX2_word 3 (some .int) rm_f_X2_word [rf E p0] M (some (.int r)) M := by
  unfold f_X2_word at h
  refine CM_introX (own := RX2) rfl (by decide +kernel) (Nat.le_of_ble_eq_true rfl) rfl (fun G hG hEn hI => ?_)
  obtain ⟨Q, eQ⟩ : ∃ Q, Q = QM E G (some (.int r)) M 0 0 := ⟨_, rfl⟩
  show V E G M 0 0 3 0 [(0, rf E p0)] [] (QM E G (some (.int r)) M 0 0)
  rw [← eQ]
  obtain ⟨adK, adV, ta, hs⟩ := hN.2.2.2
  have hs : SOk E adK adV ta := hs
  refine V_iconst hG 0 rfl dX2_word_0 ?_
  refine V_istore_n hG rfl [(1, .int 0), (0, rf E p0)] dX2_word_1 (Nat.le_of_ble_eq_true rfl) rfl ?_
  obtain ⟨rr_10, hL_9, hl_11, hr_7⟩ := bx_of h
  have J_5 : ∀ q_12 : Int32, Sum.inl q_12 = rr_10 → V E G M 0 0 3 101 [(1, .int q_12), (0, rf E p0)] [] Q := by
    intro q_12 e9
    obtain ⟨x1_8, rfl⟩ : ∃ z, z = q_12 := ⟨_, rfl⟩
    have h := hl_11 x1_8 e9.symm
    show V E G M 0 0 3 101 [(1, .int x1_8), (0, rf E p0)] [] Q
    refine V_iconst hG (-1) rfl dX2_word_101 ?_
    cases h
    subst eQ
    exact V_iret hG dX2_word_102
  refine lp_walk (W := fun s_13 : Int32 => V E G M 0 0 3 2 [(1, .int s_13), (0, rf E p0)] [] Q) ?_ N 0 hL_9
  intro s_13 b_1 hb_2 hk_3 hx_4
  obtain ⟨x1_6, rfl⟩ : ∃ z, z = s_13 := ⟨_, rfl⟩
  have hb_2 : f_X2_word_b1 N p0 M x1_6 = some b_1 := hb_2
  unfold f_X2_word_b1 at hb_2
  show V E G M 0 0 3 2 [(1, .int x1_6), (0, rf E p0)] [] Q
  refine V_iload_n hG 0 rfl dX2_word_2 ?_
  refine X_getsN hG hN hs.nm q528 dX2_word_3 ?_
  refine X_alen hG hs.na dX2_word_6 ?_
  refine V_icmp_ge hG 101 dX2_word_7 (by decide) (fun c_14 => ?_) (fun c_14 => ?_)
  · have hb_2 := if_t c_14 hb_2
    cases hb_2
    exact J_5 _ (hx_4 _ rfl)
  · have hb_2 := if_f c_14 hb_2
    refine X_getsN hG hN hs.nm q528 dX2_word_10 ?_
    refine V_iload_n hG 0 rfl dX2_word_13 ?_
    obtain ⟨g_15, hb_2⟩ := gd_of hb_2
    refine X_aaldN hG hs.na g_15 dX2_word_14 ?_
    refine X_callV hE hG (n := 0) (As := []) (rest := []) (ok_length hE hN hs (inb21 g_15)) (hs.o (inb21 g_15)) (lw_V q530 q531 q532 q135 q533) ⟨rfl, by decide, by decide, by decide +kernel⟩ ⟨Nat.le_of_ble_eq_true rfl, Nat.le_of_ble_eq_true rfl⟩ rfl rfl (Nat.le_of_ble_eq_true rfl) ⟨Nat.le_of_ble_eq_true rfl, Nat.le_of_ble_eq_true rfl⟩ dX2_word_15 (V_zero rfl rfl ?_)
    refine V_aload_n hG 1 rfl dX2_word_18 ?_
    obtain ⟨g_16, hb_2⟩ := gd_of hb_2
    refine gf_X2_15 hN hG g_16 dX2_word_19 ?_
    refine V_aload_n hG 1 rfl dX2_word_22 ?_
    refine gf_X2_30 hN hG g_16 dX2_word_23 ?_
    refine V_isub hG dX2_word_26 ?_
    refine V_icmp_eq hG 33 dX2_word_27 (by decide) (fun c_17 => ?_) (fun c_17 => ?_)
    · have hb_2 := if_t c_17 hb_2
      refine V_iconst hG 0 rfl dX2_word_33 ?_
      refine V_istore_n hG rfl [(2, .int 0), (1, .int x1_6), (0, rf E p0)] dX2_word_34 (Nat.le_of_ble_eq_true rfl) rfl ?_
      obtain ⟨x2_24, hL_25, hb_2⟩ := bd_of hb_2
      have J_22 : ∀ q_26 : Int32, q_26 = x2_24 → V E G M 0 0 3 80 [(2, .int q_26), (1, .int x1_6), (0, rf E p0)] [] Q := by
        intro q_26 e9
        subst q_26
        show V E G M 0 0 3 80 [(2, .int x2_24), (1, .int x1_6), (0, rf E p0)] [] Q
        refine V_aload_n hG 2 rfl dX2_word_80 ?_
        obtain ⟨g_27, hb_2⟩ := gd_of hb_2
        refine gf_X2_30 hN hG g_27 dX2_word_81 ?_
        refine V_iload_n hG 0 rfl dX2_word_84 ?_
        refine V_iadd hG dX2_word_85 ?_
        refine V_aload_n hG 2 rfl dX2_word_86 ?_
        refine gf_X2_15 hN hG g_27 dX2_word_87 ?_
        refine V_icmp_ne hG 95 dX2_word_90 (by decide) (fun c_28 => ?_) (fun c_28 => ?_)
        · have hb_2 := if_f c_28 hb_2
          obtain ⟨x1_29, ex1_29, hb_2⟩ := be_of hb_2
          refine V_iinc hG 1 x1_29 rfl (by rw [ex1_29]; rfl) [(1, .int x1_29), (2, .int x2_24), (0, rf E p0)] dX2_word_95 (Nat.le_of_ble_eq_true rfl) rfl ?_
          refine V_goto hG 2 dX2_word_98 (by decide) ?_
          cases hb_2
          exact V_lv [0, 2] rfl (hk_3 _ rfl)
        · have hb_2 := if_t c_28 hb_2
          refine V_iload_n hG 1 rfl dX2_word_93 ?_
          cases hb_2
          have e_30 := hx_4 _ rfl
          have h_31 : some x1_6 = some r := hr_7 _ e_30.symm
          cases h_31
          subst eQ
          exact V_iret hG dX2_word_94
      refine lp_walk (W := fun s_32 : Int32 => V E G M 0 0 3 35 [(2, .int s_32), (1, .int x1_6), (0, rf E p0)] [] Q) ?_ N 0 hL_25
      intro s_32 b_18 hb_19 hk_20 hx_21
      obtain ⟨x2_23, rfl⟩ : ∃ z, z = s_32 := ⟨_, rfl⟩
      have hb_19 : f_X2_word_b2 N x1_6 p0 M x2_23 = some b_18 := hb_19
      unfold f_X2_word_b2 at hb_19
      show V E G M 0 0 3 35 [(2, .int x2_23), (1, .int x1_6), (0, rf E p0)] [] Q
      refine V_aload_n hG 2 rfl dX2_word_35 ?_
      obtain ⟨g_33, hb_19⟩ := gd_of hb_19
      refine gf_X2_30 hN hG g_33 dX2_word_36 ?_
      refine V_iload_n hG 0 rfl dX2_word_39 ?_
      refine V_iadd hG dX2_word_40 ?_
      refine V_aload_n hG 2 rfl dX2_word_41 ?_
      refine gf_X2_15 hN hG g_33 dX2_word_42 ?_
      refine V_icmp_ge hG 80 dX2_word_45 (by decide) (fun c_34 => ?_) (fun c_34 => ?_)
      · have hb_19 := if_t c_34 hb_19
        cases hb_19
        exact J_22 _ (hx_21 _ rfl)
      · have hb_19 := if_f c_34 hb_19
        refine X_getsN hG hN hs.nm q528 dX2_word_48 ?_
        refine V_iload_n hG 1 rfl dX2_word_51 ?_
        obtain ⟨g_35, hb_19⟩ := gd_of hb_19
        refine X_aaldN hG hs.na g_35 dX2_word_52 ?_
        refine V_iload_n hG 0 rfl dX2_word_53 ?_
        obtain ⟨g_36, hb_19⟩ := gd_of hb_19
        refine X_callV hE hG (n := 1) (As := [.int x2_23]) (rest := []) (ok_charAt hE hN hs (inb21 g_35) g_36) (hs.o (inb21 g_35)) (lw_V q540 q541 q542 q135 q543) ⟨rfl, by decide, by decide, by decide +kernel⟩ ⟨Nat.le_of_ble_eq_true rfl, Nat.le_of_ble_eq_true rfl⟩ rfl rfl (Nat.le_of_ble_eq_true rfl) ⟨Nat.le_of_ble_eq_true rfl, Nat.le_of_ble_eq_true rfl⟩ dX2_word_54 (V_zero rfl rfl ?_)
        refine V_aload_n hG 2 rfl dX2_word_57 ?_
        obtain ⟨a_37, hr_38, hb_19⟩ := bd_of hb_19
        refine gf_X2_3 hN hG g_33 hr_38 dX2_word_58 ?_
        obtain ⟨g_39, hb_19⟩ := gd_of hb_19
        obtain ⟨a_40, hr_41, hb_19⟩ := bd_of hb_19
        refine gf_X2_22 hN hG g_39 hr_41 dX2_word_61 ?_
        refine V_aload_n hG 2 rfl dX2_word_64 ?_
        refine gf_X2_30 hN hG g_33 dX2_word_65 ?_
        refine V_iload_n hG 0 rfl dX2_word_68 ?_
        refine V_iadd hG dX2_word_69 ?_
        obtain ⟨g_42, hb_19⟩ := gd_of hb_19
        obtain ⟨g_43, hb_19⟩ := gd_of hb_19
        refine V_baload hG g_42 g_43 dX2_word_70 ?_
        refine V_icmp_ne hG 80 dX2_word_71 (by decide) (fun c_44 => ?_) (fun c_44 => ?_)
        · have hb_19 := if_f c_44 hb_19
          cases hb_19
          exact J_22 _ (hx_21 _ rfl)
        · have hb_19 := if_t c_44 hb_19
          obtain ⟨x2_45, ex2_45, hb_19⟩ := be_of hb_19
          refine V_iinc hG 0 x2_45 rfl (by rw [ex2_45]; rfl) [(2, .int x2_45), (1, .int x1_6), (0, rf E p0)] dX2_word_74 (Nat.le_of_ble_eq_true rfl) rfl ?_
          refine V_goto hG 35 dX2_word_77 (by decide) ?_
          cases hb_19
          exact hk_20 _ rfl
    · have hb_2 := if_f c_17 hb_2
      refine V_goto hG 95 dX2_word_30 (by decide) ?_
      obtain ⟨x1_46, ex1_46, hb_2⟩ := be_of hb_2
      refine V_iinc hG 0 x1_46 rfl (by rw [ex1_46]; rfl) [(1, .int x1_46), (0, rf E p0)] dX2_word_95 (Nat.le_of_ble_eq_true rfl) rfl ?_
      refine V_goto hG 2 dX2_word_98 (by decide) ?_
      cases hb_2
      exact hk_3 _ rfl

def f_X2_here (p0 : Nat) (M : Mem) : Option (Int32) :=
gd (mT M p0 = 1) (
bd (if mI M p0 1 ≤ mI M p0 0 then (
some (-1))
else (
bd (mR M p0 8) fun (a_6 : Nat) =>
gd (mT M a_6 = 0) (
bd (mR M a_6 0) fun (a_9 : Nat) =>
gd (mT M a_9 = 101) (
gd (inb (mI M p0 0) (mLn M a_9)) (
some ((mI M a_9 (Int32.toNatClampNeg (mI M p0 0))) &&& 255))))) : Option (Int32)) fun (t_2 : Int32) =>
some t_2)
def rm_f_X2_here : Room := { frames := 0, cells := 0, slots := 0, locals := 0 }
theorem ok_f_X2_here {E : En} (hE : EOk E) (hN : NOk E) {p0 : Nat} {M : Mem} {r : Int32} (h : f_X2_here p0 M = some r) : CM E yX2_here cX2_here 1 (some .int) rm_f_X2_here [rf E p0] M (some (.int r)) M := by
  unfold f_X2_here at h
  refine CM_introX (own := RX2) rfl (by decide +kernel) (Nat.le_of_ble_eq_true rfl) rfl (fun G hG hEn hI => ?_)
  obtain ⟨Q, eQ⟩ : ∃ Q, Q = QM E G (some (.int r)) M 0 0 := ⟨_, rfl⟩
  show V E G M 0 0 1 0 [(0, rf E p0)] [] (QM E G (some (.int r)) M 0 0)
  rw [← eQ]
  refine V_aload_n hG 0 rfl dX2_here_0 ?_
  obtain ⟨g_1, h⟩ := gd_of h
  refine gf_X2_15 hN hG g_1 dX2_here_1 ?_
  refine V_aload_n hG 0 rfl dX2_here_4 ?_
  refine gf_X2_19 hN hG g_1 dX2_here_5 ?_
  obtain ⟨t_2, hj_4, h⟩ := bd_of h
  have J_3 : V E G M 0 0 1 31 [(0, rf E p0)] [.int t_2] Q := by
    cases h
    subst eQ
    exact V_iret hG dX2_here_31
  refine V_icmp_ge hG 30 dX2_here_8 (by decide) (fun c_5 => ?_) (fun c_5 => ?_)
  · have hj_4 := if_t c_5 hj_4
    refine V_iconst hG (-1) rfl dX2_here_30 ?_
    cases hj_4
    exact J_3
  · have hj_4 := if_f c_5 hj_4
    refine V_aload_n hG 0 rfl dX2_here_11 ?_
    obtain ⟨a_6, hr_7, hj_4⟩ := bd_of hj_4
    refine gf_X2_3 hN hG g_1 hr_7 dX2_here_12 ?_
    obtain ⟨g_8, hj_4⟩ := gd_of hj_4
    obtain ⟨a_9, hr_10, hj_4⟩ := bd_of hj_4
    refine gf_X2_22 hN hG g_8 hr_10 dX2_here_15 ?_
    refine V_aload_n hG 0 rfl dX2_here_18 ?_
    refine gf_X2_15 hN hG g_1 dX2_here_19 ?_
    obtain ⟨g_11, hj_4⟩ := gd_of hj_4
    obtain ⟨g_12, hj_4⟩ := gd_of hj_4
    refine V_baload hG g_11 g_12 dX2_here_22 ?_
    refine V_sipush hG 255 (by decide) dX2_here_23 ?_
    refine V_iand hG dX2_here_26 ?_
    refine V_goto hG 31 dX2_here_27 (by decide) ?_
    cases hj_4
    exact J_3

def f_X2_sign (p0 : Nat) (M : Mem) : Option (Mem) :=
gd (mT M p0 = 1) (
bd (f_X2_here p0 M) fun (r_3 : Int32) =>
be (sI M p0 0 ((mI M p0 0) + 1)) fun (M_4 : Mem) =>
be (if ixS 20 r_3 < 0 then (
5)
else (
3) : Int32) fun (y_9 : Int32) =>
gd (mT M_4 p0 = 1) (
be (sI M_4 p0 3 y_9) fun (M_11 : Mem) =>
be (sI M_11 p0 4 r_3) fun (M_13 : Mem) =>
bd (if r_3 = 60 then (
bd (f_X2_here p0 M_13) fun (r_45 : Int32) =>
if r_45 = 61 then (
be (sI M_13 p0 4 256) fun (M_65 : Mem) =>
some M_65)
else (
if r_3 = 60 then (
bd (f_X2_here p0 M_13) fun (r_55 : Int32) =>
if r_55 = 62 then (
be (sI M_13 p0 4 258) fun (M_63 : Mem) =>
some M_63)
else (
if r_3 = 62 then (
bd (f_X2_here p0 M_13) fun (r_59 : Int32) =>
if r_59 = 61 then (
be (sI M_13 p0 4 257) fun (M_61 : Mem) =>
some M_61)
else (
some M_13))
else (
some M_13)))
else (
if r_3 = 62 then (
bd (f_X2_here p0 M_13) fun (r_50 : Int32) =>
if r_50 = 61 then (
be (sI M_13 p0 4 257) fun (M_52 : Mem) =>
some M_52)
else (
some M_13))
else (
some M_13))))
else (
if r_3 = 60 then (
bd (f_X2_here p0 M_13) fun (r_34 : Int32) =>
if r_34 = 62 then (
be (sI M_13 p0 4 258) fun (M_42 : Mem) =>
some M_42)
else (
if r_3 = 62 then (
bd (f_X2_here p0 M_13) fun (r_38 : Int32) =>
if r_38 = 61 then (
be (sI M_13 p0 4 257) fun (M_40 : Mem) =>
some M_40)
else (
some M_13))
else (
some M_13)))
else (
if r_3 = 62 then (
bd (f_X2_here p0 M_13) fun (r_29 : Int32) =>
if r_29 = 61 then (
be (sI M_13 p0 4 257) fun (M_31 : Mem) =>
some M_31)
else (
some M_13))
else (
some M_13))) : Option (Mem)) fun (M_15 : Mem) =>
gd (mT M_15 p0 = 1) (
bd (if mI M_15 p0 4 < 256 then (
some M_15)
else (
be (sI M_15 p0 0 ((mI M_15 p0 0) + 1)) fun (M_23 : Mem) =>
some M_23) : Option (Mem)) fun (M_19 : Mem) =>
some M_19)))
def rm_f_X2_sign : Room := { frames := 4, cells := 0, slots := 0, locals := 141 }
theorem ok_f_X2_sign {E : En} (hE : EOk E) (hN : NOk E) {p0 : Nat} {M : Mem}  {M' : Mem} (h : f_X2_sign p0 M = some M') : CM E yX2_sign cX2_sign 2 none rm_f_X2_sign [rf E p0] M none M' := by
  unfold f_X2_sign at h
  refine CM_introX (own := RX2) rfl (by decide +kernel) (Nat.le_of_ble_eq_true rfl) rfl (fun G hG hEn hI => ?_)
  obtain ⟨Q, eQ⟩ : ∃ Q, Q = QM E G none M' 0 0 := ⟨_, rfl⟩
  show V E G M 0 0 2 0 [(0, rf E p0)] [] (QM E G none M' 0 0)
  rw [← eQ]
  obtain ⟨adK, adV, ta, hs⟩ := hN.2.2.2
  have hs : SOk E adK adV ta := hs
  refine V_aload_n hG 0 rfl dX2_sign_0 ?_
  obtain ⟨g_1, h⟩ := gd_of h
  obtain ⟨r_3, hc_2, h⟩ := bd_of h
  refine V_callV hE hG (ci := 1) (As := []) (rest := []) (ok_f_X2_here hE hN hc_2) g_1 (by decide) rfl hw_X2_26 hdv_X2_here ⟨Nat.le_of_ble_eq_true rfl, Nat.le_of_ble_eq_true rfl⟩ rfl rfl (Nat.le_of_ble_eq_true rfl) ⟨Nat.le_of_ble_eq_true rfl, Nat.le_of_ble_eq_true rfl⟩ dX2_sign_1 (V_zero rfl rfl ?_)
  refine V_istore_n hG rfl [(1, .int r_3), (0, rf E p0)] dX2_sign_4 (Nat.le_of_ble_eq_true rfl) rfl ?_
  refine V_aload_n hG 1 rfl dX2_sign_5 ?_
  refine V_dup hG rfl dX2_sign_6 ?_
  refine gf_X2_15 hN hG g_1 dX2_sign_7 ?_
  refine V_iconst hG 1 rfl dX2_sign_10 ?_
  refine V_iadd hG dX2_sign_11 ?_
  obtain ⟨M_4, eM_4, h⟩ := be_of h
  refine pf_X2_15 hN hG g_1 eM_4 dX2_sign_12 ?_
  have g_5 : mT M_4 p0 = 1 := by rw [eM_4]; exact g_1
  refine V_aload_n hG 1 rfl dX2_sign_15 ?_
  refine X_ldcS hG hs.li dX2_sign_16 ?_
  refine V_iload_n hG 0 rfl dX2_sign_18 ?_
  refine X_callV hE hG (n := 1) (As := [.int r_3]) (rest := [rf E p0]) (ok_indexOf hE hN hs (by decide)) (hs.o (by decide)) (lw_V q588 q589 q590 q135 q591) ⟨rfl, by decide, by decide, by decide +kernel⟩ ⟨Nat.le_of_ble_eq_true rfl, Nat.le_of_ble_eq_true rfl⟩ rfl rfl (Nat.le_of_ble_eq_true rfl) ⟨Nat.le_of_ble_eq_true rfl, Nat.le_of_ble_eq_true rfl⟩ dX2_sign_19 (V_zero rfl rfl ?_)
  obtain ⟨t_6, et_6, h⟩ := be_of h
  have J_7 : ∀ y_9 : Int32, y_9 = t_6 → V E G M_4 0 0 2 30 [(1, .int r_3), (0, rf E p0)] [.int y_9, rf E p0] Q := by
    intro y_9 ey
    subst ey
    obtain ⟨g_10, h⟩ := gd_of h
    obtain ⟨M_11, eM_11, h⟩ := be_of h
    refine pf_X2_33 hN hG g_10 eM_11 dX2_sign_30 ?_
    have g_12 : mT M_11 p0 = 1 := by rw [eM_11]; exact g_10
    refine V_aload_n hG 1 rfl dX2_sign_33 ?_
    refine V_iload_n hG 0 rfl dX2_sign_34 ?_
    obtain ⟨M_13, eM_13, h⟩ := be_of h
    refine pf_X2_47 hN hG g_12 eM_13 dX2_sign_35 ?_
    have g_14 : mT M_13 p0 = 1 := by rw [eM_13]; exact g_12
    refine V_iload_n hG 0 rfl dX2_sign_38 ?_
    refine V_bipush hG 60 (by decide) dX2_sign_39 ?_
    obtain ⟨M_15, hj_17, h⟩ := bd_of h
    have J_16 : V E G M_15 0 0 2 110 [(1, .int r_3), (0, rf E p0)] [] Q := by
      refine V_aload_n hG 1 rfl dX2_sign_110 ?_
      obtain ⟨g_18, h⟩ := gd_of h
      refine gf_X2_47 hN hG g_18 dX2_sign_111 ?_
      refine V_sipush hG 256 (by decide) dX2_sign_114 ?_
      obtain ⟨M_19, hj_21, h⟩ := bd_of h
      have J_20 : V E G M_19 0 0 2 130 [(1, .int r_3), (0, rf E p0)] [] Q := by
        cases h
        subst eQ
        exact V_vret hG dX2_sign_130
      refine V_icmp_lt hG 130 dX2_sign_117 (by decide) (fun c_22 => ?_) (fun c_22 => ?_)
      · have hj_21 := if_t c_22 hj_21
        cases hj_21
        exact J_20
      · have hj_21 := if_f c_22 hj_21
        refine V_aload_n hG 1 rfl dX2_sign_120 ?_
        refine V_dup hG rfl dX2_sign_121 ?_
        refine gf_X2_15 hN hG g_18 dX2_sign_122 ?_
        refine V_iconst hG 1 rfl dX2_sign_125 ?_
        refine V_iadd hG dX2_sign_126 ?_
        obtain ⟨M_23, eM_23, hj_21⟩ := be_of hj_21
        refine pf_X2_15 hN hG g_18 eM_23 dX2_sign_127 ?_
        have g_24 : mT M_23 p0 = 1 := by rw [eM_23]; exact g_18
        cases hj_21
        exact J_20
    refine V_icmp_ne hG 63 dX2_sign_41 (by decide) (fun c_25 => ?_) (fun c_25 => ?_)
    · have hj_17 := if_f c_25 hj_17
      refine V_iload_n hG 0 rfl dX2_sign_63 ?_
      refine V_bipush hG 60 (by decide) dX2_sign_64 ?_
      refine V_icmp_ne hG 88 dX2_sign_66 (by decide) (fun c_26 => ?_) (fun c_26 => ?_)
      · have hj_17 := if_f c_26 hj_17
        refine V_iload_n hG 0 rfl dX2_sign_88 ?_
        refine V_bipush hG 62 (by decide) dX2_sign_89 ?_
        refine V_icmp_ne hG 110 dX2_sign_91 (by decide) (fun c_27 => ?_) (fun c_27 => ?_)
        · have hj_17 := if_f c_27 hj_17
          cases hj_17
          exact J_16
        · have hj_17 := if_t c_27 hj_17
          refine V_aload_n hG 1 rfl dX2_sign_94 ?_
          obtain ⟨r_29, hc_28, hj_17⟩ := bd_of hj_17
          refine V_callV hE hG (ci := 1) (As := []) (rest := []) (ok_f_X2_here hE hN hc_28) g_14 (by decide) rfl hw_X2_26 hdv_X2_here ⟨Nat.le_of_ble_eq_true rfl, Nat.le_of_ble_eq_true rfl⟩ rfl rfl (Nat.le_of_ble_eq_true rfl) ⟨Nat.le_of_ble_eq_true rfl, Nat.le_of_ble_eq_true rfl⟩ dX2_sign_95 (V_zero rfl rfl ?_)
          refine V_bipush hG 61 (by decide) dX2_sign_98 ?_
          refine V_icmp_ne hG 110 dX2_sign_100 (by decide) (fun c_30 => ?_) (fun c_30 => ?_)
          · have hj_17 := if_f c_30 hj_17
            cases hj_17
            exact J_16
          · have hj_17 := if_t c_30 hj_17
            refine V_aload_n hG 1 rfl dX2_sign_103 ?_
            refine V_sipush hG 257 (by decide) dX2_sign_104 ?_
            obtain ⟨M_31, eM_31, hj_17⟩ := be_of hj_17
            refine pf_X2_47 hN hG g_14 eM_31 dX2_sign_107 ?_
            have g_32 : mT M_31 p0 = 1 := by rw [eM_31]; exact g_14
            cases hj_17
            exact J_16
      · have hj_17 := if_t c_26 hj_17
        refine V_aload_n hG 1 rfl dX2_sign_69 ?_
        obtain ⟨r_34, hc_33, hj_17⟩ := bd_of hj_17
        refine V_callV hE hG (ci := 1) (As := []) (rest := []) (ok_f_X2_here hE hN hc_33) g_14 (by decide) rfl hw_X2_26 hdv_X2_here ⟨Nat.le_of_ble_eq_true rfl, Nat.le_of_ble_eq_true rfl⟩ rfl rfl (Nat.le_of_ble_eq_true rfl) ⟨Nat.le_of_ble_eq_true rfl, Nat.le_of_ble_eq_true rfl⟩ dX2_sign_70 (V_zero rfl rfl ?_)
        refine V_bipush hG 62 (by decide) dX2_sign_73 ?_
        refine V_icmp_ne hG 88 dX2_sign_75 (by decide) (fun c_35 => ?_) (fun c_35 => ?_)
        · have hj_17 := if_f c_35 hj_17
          refine V_iload_n hG 0 rfl dX2_sign_88 ?_
          refine V_bipush hG 62 (by decide) dX2_sign_89 ?_
          refine V_icmp_ne hG 110 dX2_sign_91 (by decide) (fun c_36 => ?_) (fun c_36 => ?_)
          · have hj_17 := if_f c_36 hj_17
            cases hj_17
            exact J_16
          · have hj_17 := if_t c_36 hj_17
            refine V_aload_n hG 1 rfl dX2_sign_94 ?_
            obtain ⟨r_38, hc_37, hj_17⟩ := bd_of hj_17
            refine V_callV hE hG (ci := 1) (As := []) (rest := []) (ok_f_X2_here hE hN hc_37) g_14 (by decide) rfl hw_X2_26 hdv_X2_here ⟨Nat.le_of_ble_eq_true rfl, Nat.le_of_ble_eq_true rfl⟩ rfl rfl (Nat.le_of_ble_eq_true rfl) ⟨Nat.le_of_ble_eq_true rfl, Nat.le_of_ble_eq_true rfl⟩ dX2_sign_95 (V_zero rfl rfl ?_)
            refine V_bipush hG 61 (by decide) dX2_sign_98 ?_
            refine V_icmp_ne hG 110 dX2_sign_100 (by decide) (fun c_39 => ?_) (fun c_39 => ?_)
            · have hj_17 := if_f c_39 hj_17
              cases hj_17
              exact J_16
            · have hj_17 := if_t c_39 hj_17
              refine V_aload_n hG 1 rfl dX2_sign_103 ?_
              refine V_sipush hG 257 (by decide) dX2_sign_104 ?_
              obtain ⟨M_40, eM_40, hj_17⟩ := be_of hj_17
              refine pf_X2_47 hN hG g_14 eM_40 dX2_sign_107 ?_
              have g_41 : mT M_40 p0 = 1 := by rw [eM_40]; exact g_14
              cases hj_17
              exact J_16
        · have hj_17 := if_t c_35 hj_17
          refine V_aload_n hG 1 rfl dX2_sign_78 ?_
          refine V_sipush hG 258 (by decide) dX2_sign_79 ?_
          obtain ⟨M_42, eM_42, hj_17⟩ := be_of hj_17
          refine pf_X2_47 hN hG g_14 eM_42 dX2_sign_82 ?_
          have g_43 : mT M_42 p0 = 1 := by rw [eM_42]; exact g_14
          refine V_goto hG 110 dX2_sign_85 (by decide) ?_
          cases hj_17
          exact J_16
    · have hj_17 := if_t c_25 hj_17
      refine V_aload_n hG 1 rfl dX2_sign_44 ?_
      obtain ⟨r_45, hc_44, hj_17⟩ := bd_of hj_17
      refine V_callV hE hG (ci := 1) (As := []) (rest := []) (ok_f_X2_here hE hN hc_44) g_14 (by decide) rfl hw_X2_26 hdv_X2_here ⟨Nat.le_of_ble_eq_true rfl, Nat.le_of_ble_eq_true rfl⟩ rfl rfl (Nat.le_of_ble_eq_true rfl) ⟨Nat.le_of_ble_eq_true rfl, Nat.le_of_ble_eq_true rfl⟩ dX2_sign_45 (V_zero rfl rfl ?_)
      refine V_bipush hG 61 (by decide) dX2_sign_48 ?_
      refine V_icmp_ne hG 63 dX2_sign_50 (by decide) (fun c_46 => ?_) (fun c_46 => ?_)
      · have hj_17 := if_f c_46 hj_17
        refine V_iload_n hG 0 rfl dX2_sign_63 ?_
        refine V_bipush hG 60 (by decide) dX2_sign_64 ?_
        refine V_icmp_ne hG 88 dX2_sign_66 (by decide) (fun c_47 => ?_) (fun c_47 => ?_)
        · have hj_17 := if_f c_47 hj_17
          refine V_iload_n hG 0 rfl dX2_sign_88 ?_
          refine V_bipush hG 62 (by decide) dX2_sign_89 ?_
          refine V_icmp_ne hG 110 dX2_sign_91 (by decide) (fun c_48 => ?_) (fun c_48 => ?_)
          · have hj_17 := if_f c_48 hj_17
            cases hj_17
            exact J_16
          · have hj_17 := if_t c_48 hj_17
            refine V_aload_n hG 1 rfl dX2_sign_94 ?_
            obtain ⟨r_50, hc_49, hj_17⟩ := bd_of hj_17
            refine V_callV hE hG (ci := 1) (As := []) (rest := []) (ok_f_X2_here hE hN hc_49) g_14 (by decide) rfl hw_X2_26 hdv_X2_here ⟨Nat.le_of_ble_eq_true rfl, Nat.le_of_ble_eq_true rfl⟩ rfl rfl (Nat.le_of_ble_eq_true rfl) ⟨Nat.le_of_ble_eq_true rfl, Nat.le_of_ble_eq_true rfl⟩ dX2_sign_95 (V_zero rfl rfl ?_)
            refine V_bipush hG 61 (by decide) dX2_sign_98 ?_
            refine V_icmp_ne hG 110 dX2_sign_100 (by decide) (fun c_51 => ?_) (fun c_51 => ?_)
            · have hj_17 := if_f c_51 hj_17
              cases hj_17
              exact J_16
            · have hj_17 := if_t c_51 hj_17
              refine V_aload_n hG 1 rfl dX2_sign_103 ?_
              refine V_sipush hG 257 (by decide) dX2_sign_104 ?_
              obtain ⟨M_52, eM_52, hj_17⟩ := be_of hj_17
              refine pf_X2_47 hN hG g_14 eM_52 dX2_sign_107 ?_
              have g_53 : mT M_52 p0 = 1 := by rw [eM_52]; exact g_14
              cases hj_17
              exact J_16
        · have hj_17 := if_t c_47 hj_17
          refine V_aload_n hG 1 rfl dX2_sign_69 ?_
          obtain ⟨r_55, hc_54, hj_17⟩ := bd_of hj_17
          refine V_callV hE hG (ci := 1) (As := []) (rest := []) (ok_f_X2_here hE hN hc_54) g_14 (by decide) rfl hw_X2_26 hdv_X2_here ⟨Nat.le_of_ble_eq_true rfl, Nat.le_of_ble_eq_true rfl⟩ rfl rfl (Nat.le_of_ble_eq_true rfl) ⟨Nat.le_of_ble_eq_true rfl, Nat.le_of_ble_eq_true rfl⟩ dX2_sign_70 (V_zero rfl rfl ?_)
          refine V_bipush hG 62 (by decide) dX2_sign_73 ?_
          refine V_icmp_ne hG 88 dX2_sign_75 (by decide) (fun c_56 => ?_) (fun c_56 => ?_)
          · have hj_17 := if_f c_56 hj_17
            refine V_iload_n hG 0 rfl dX2_sign_88 ?_
            refine V_bipush hG 62 (by decide) dX2_sign_89 ?_
            refine V_icmp_ne hG 110 dX2_sign_91 (by decide) (fun c_57 => ?_) (fun c_57 => ?_)
            · have hj_17 := if_f c_57 hj_17
              cases hj_17
              exact J_16
            · have hj_17 := if_t c_57 hj_17
              refine V_aload_n hG 1 rfl dX2_sign_94 ?_
              obtain ⟨r_59, hc_58, hj_17⟩ := bd_of hj_17
              refine V_callV hE hG (ci := 1) (As := []) (rest := []) (ok_f_X2_here hE hN hc_58) g_14 (by decide) rfl hw_X2_26 hdv_X2_here ⟨Nat.le_of_ble_eq_true rfl, Nat.le_of_ble_eq_true rfl⟩ rfl rfl (Nat.le_of_ble_eq_true rfl) ⟨Nat.le_of_ble_eq_true rfl, Nat.le_of_ble_eq_true rfl⟩ dX2_sign_95 (V_zero rfl rfl ?_)
              refine V_bipush hG 61 (by decide) dX2_sign_98 ?_
              refine V_icmp_ne hG 110 dX2_sign_100 (by decide) (fun c_60 => ?_) (fun c_60 => ?_)
              · have hj_17 := if_f c_60 hj_17
                cases hj_17
                exact J_16
              · have hj_17 := if_t c_60 hj_17
                refine V_aload_n hG 1 rfl dX2_sign_103 ?_
                refine V_sipush hG 257 (by decide) dX2_sign_104 ?_
                obtain ⟨M_61, eM_61, hj_17⟩ := be_of hj_17
                refine pf_X2_47 hN hG g_14 eM_61 dX2_sign_107 ?_
                have g_62 : mT M_61 p0 = 1 := by rw [eM_61]; exact g_14
                cases hj_17
                exact J_16
          · have hj_17 := if_t c_56 hj_17
            refine V_aload_n hG 1 rfl dX2_sign_78 ?_
            refine V_sipush hG 258 (by decide) dX2_sign_79 ?_
            obtain ⟨M_63, eM_63, hj_17⟩ := be_of hj_17
            refine pf_X2_47 hN hG g_14 eM_63 dX2_sign_82 ?_
            have g_64 : mT M_63 p0 = 1 := by rw [eM_63]; exact g_14
            refine V_goto hG 110 dX2_sign_85 (by decide) ?_
            cases hj_17
            exact J_16
      · have hj_17 := if_t c_46 hj_17
        refine V_aload_n hG 1 rfl dX2_sign_53 ?_
        refine V_sipush hG 256 (by decide) dX2_sign_54 ?_
        obtain ⟨M_65, eM_65, hj_17⟩ := be_of hj_17
        refine pf_X2_47 hN hG g_14 eM_65 dX2_sign_57 ?_
        have g_66 : mT M_65 p0 = 1 := by rw [eM_65]; exact g_14
        refine V_goto hG 110 dX2_sign_60 (by decide) ?_
        cases hj_17
        exact J_16
  refine V_if_lt hG 29 dX2_sign_22 (by decide) (fun c_8 => ?_) (fun c_8 => ?_)
  · refine V_iconst hG 5 rfl dX2_sign_29 ?_
    exact J_7 _ (by rw [et_6, if_pos c_8])
  · refine V_iconst hG 3 rfl dX2_sign_25 ?_
    refine V_goto hG 30 dX2_sign_26 (by decide) ?_
    exact J_7 _ (by rw [et_6, if_neg c_8])

def f_X2_name_b1 (N : Nat) (p0 : Nat) (x1_9 : Int32) (S_10 : Mem) : Option ((Int32 × Mem) ⊕ (Int32 × Mem)) :=
if 6 ≤ x1_9 then (
some (.inl (x1_9, S_10)))
else (
gd (mT S_10 p0 = 1) (
bd (if mI S_10 p0 0 ≤ (mI S_10 p0 2) + x1_9 then (
some 0)
else (
bd (mR S_10 p0 8) fun (a_26 : Nat) =>
gd (mT S_10 a_26 = 0) (
bd (mR S_10 a_26 0) fun (a_29 : Nat) =>
gd (mT S_10 a_29 = 101) (
gd (inb ((mI S_10 p0 2) + x1_9) (mLn S_10 a_29)) (
some (((mI S_10 a_29 (Int32.toNatClampNeg ((mI S_10 p0 2) + x1_9))) - 97) + 1))))) : Option (Int32)) fun (t_18 : Int32) =>
gd (mT S_10 p0 = 1) (
be (sI S_10 p0 4 (((mI S_10 p0 4) <<< (5 &&& 31)) ||| t_18)) fun (M_22 : Mem) =>
be (x1_9 + 1) fun (x1_24 : Int32) =>
some (.inr (x1_24, M_22)))))
def f_X2_name (N : Nat) (p0 : Nat) (M : Mem) : Option (Mem) :=
gd (mT M p0 = 1) (
be (sI M p0 4 0) fun (M_2 : Mem) =>
bd2 (lp N (fun s_15 : Int32 × Mem => f_X2_name_b1 N p0 s_15.1 s_15.2) (0, M_2)) fun (x1_11 : Int32) (S_12 : Mem) =>
some S_12)
def rm_f_X2_name : Room := { frames := 0, cells := 0, slots := 0, locals := 0 }
theorem ok_f_X2_name {E : En} (hE : EOk E) (hN : NOk E) {N : Nat} {p0 : Nat} {M : Mem}  {M' : Mem} (h : f_X2_name N p0 M = some M') : CM E yX2_name cX2_name 2 none rm_f_X2_name [rf E p0] M none M' := by
  unfold f_X2_name at h
  refine CM_introX (own := RX2) rfl (by decide +kernel) (Nat.le_of_ble_eq_true rfl) rfl (fun G hG hEn hI => ?_)
  obtain ⟨Q, eQ⟩ : ∃ Q, Q = QM E G none M' 0 0 := ⟨_, rfl⟩
  show V E G M 0 0 2 0 [(0, rf E p0)] [] (QM E G none M' 0 0)
  rw [← eQ]
  refine V_aload_n hG 0 rfl dX2_name_0 ?_
  refine V_iconst hG 0 rfl dX2_name_1 ?_
  obtain ⟨g_1, h⟩ := gd_of h
  obtain ⟨M_2, eM_2, h⟩ := be_of h
  refine pf_X2_47 hN hG g_1 eM_2 dX2_name_2 ?_
  have g_3 : mT M_2 p0 = 1 := by rw [eM_2]; exact g_1
  refine V_iconst hG 0 rfl dX2_name_5 ?_
  refine V_istore_n hG rfl [(1, .int 0), (0, rf E p0)] dX2_name_6 (Nat.le_of_ble_eq_true rfl) rfl ?_
  obtain ⟨x1_11, S_12, hL_13, h⟩ := bd2_of h
  have J_8 : ∀ q_14 : Int32 × Mem, q_14 = (x1_11, S_12) → V E G q_14.2 0 0 2 66 [(1, .int q_14.1), (0, rf E p0)] [] Q := by
    intro q_14 e9
    subst q_14
    show V E G S_12 0 0 2 66 [(1, .int x1_11), (0, rf E p0)] [] Q
    cases h
    subst eQ
    exact V_vret hG dX2_name_66
  refine lp_walk (W := fun s_15 : Int32 × Mem => V E G s_15.2 0 0 2 7 [(1, .int s_15.1), (0, rf E p0)] [] Q) ?_ N (0, M_2) hL_13
  intro s_15 b_4 hb_5 hk_6 hx_7
  obtain ⟨x1_9, S_10⟩ := s_15
  have hb_5 : f_X2_name_b1 N p0 x1_9 S_10 = some b_4 := hb_5
  unfold f_X2_name_b1 at hb_5
  show V E G S_10 0 0 2 7 [(1, .int x1_9), (0, rf E p0)] [] Q
  refine V_iload_n hG 0 rfl dX2_name_7 ?_
  refine V_bipush hG 6 (by decide) dX2_name_8 ?_
  refine V_icmp_ge hG 66 dX2_name_10 (by decide) (fun c_16 => ?_) (fun c_16 => ?_)
  · have hb_5 := if_t c_16 hb_5
    cases hb_5
    exact J_8 _ (hx_7 _ rfl)
  · have hb_5 := if_f c_16 hb_5
    refine V_aload_n hG 1 rfl dX2_name_13 ?_
    refine V_aload_n hG 1 rfl dX2_name_14 ?_
    obtain ⟨g_17, hb_5⟩ := gd_of hb_5
    refine gf_X2_47 hN hG g_17 dX2_name_15 ?_
    refine V_iconst hG 5 rfl dX2_name_18 ?_
    refine V_ishl hG dX2_name_19 ?_
    refine V_aload_n hG 1 rfl dX2_name_20 ?_
    refine gf_X2_30 hN hG g_17 dX2_name_21 ?_
    refine V_iload_n hG 0 rfl dX2_name_24 ?_
    refine V_iadd hG dX2_name_25 ?_
    refine V_aload_n hG 1 rfl dX2_name_26 ?_
    refine gf_X2_15 hN hG g_17 dX2_name_27 ?_
    obtain ⟨t_18, hj_20, hb_5⟩ := bd_of hb_5
    have J_19 : V E G S_10 0 0 2 56 [(1, .int x1_9), (0, rf E p0)] [.int t_18, .int ((mI S_10 p0 4) <<< (5 &&& 31)), rf E p0] Q := by
      refine V_ior hG dX2_name_56 ?_
      obtain ⟨g_21, hb_5⟩ := gd_of hb_5
      obtain ⟨M_22, eM_22, hb_5⟩ := be_of hb_5
      refine pf_X2_47 hN hG g_21 eM_22 dX2_name_57 ?_
      have g_23 : mT M_22 p0 = 1 := by rw [eM_22]; exact g_21
      obtain ⟨x1_24, ex1_24, hb_5⟩ := be_of hb_5
      refine V_iinc hG 0 x1_24 rfl (by rw [ex1_24]; rfl) [(1, .int x1_24), (0, rf E p0)] dX2_name_60 (Nat.le_of_ble_eq_true rfl) rfl ?_
      refine V_goto hG 7 dX2_name_63 (by decide) ?_
      cases hb_5
      exact hk_6 _ rfl
    refine V_icmp_ge hG 55 dX2_name_30 (by decide) (fun c_25 => ?_) (fun c_25 => ?_)
    · have hj_20 := if_t c_25 hj_20
      refine V_iconst hG 0 rfl dX2_name_55 ?_
      cases hj_20
      exact J_19
    · have hj_20 := if_f c_25 hj_20
      refine V_aload_n hG 1 rfl dX2_name_33 ?_
      obtain ⟨a_26, hr_27, hj_20⟩ := bd_of hj_20
      refine gf_X2_3 hN hG g_17 hr_27 dX2_name_34 ?_
      obtain ⟨g_28, hj_20⟩ := gd_of hj_20
      obtain ⟨a_29, hr_30, hj_20⟩ := bd_of hj_20
      refine gf_X2_22 hN hG g_28 hr_30 dX2_name_37 ?_
      refine V_aload_n hG 1 rfl dX2_name_40 ?_
      refine gf_X2_30 hN hG g_17 dX2_name_41 ?_
      refine V_iload_n hG 0 rfl dX2_name_44 ?_
      refine V_iadd hG dX2_name_45 ?_
      obtain ⟨g_31, hj_20⟩ := gd_of hj_20
      obtain ⟨g_32, hj_20⟩ := gd_of hj_20
      refine V_baload hG g_31 g_32 dX2_name_46 ?_
      refine V_bipush hG 97 (by decide) dX2_name_47 ?_
      refine V_isub hG dX2_name_49 ?_
      refine V_iconst hG 1 rfl dX2_name_50 ?_
      refine V_iadd hG dX2_name_51 ?_
      refine V_goto hG 56 dX2_name_52 (by decide) ?_
      cases hj_20
      exact J_19

def f_X2_next_b2 (N : Nat) (p0 : Nat) (S_38 : Mem) : Option ((Mem) ⊕ (Mem)) :=
gd (mT S_38 p0 = 1) (
bd (f_X2_here p0 S_38) fun (r_45 : Int32) =>
bd (f_X1_in (Int32.toInt64 r_45) 48 57 S_38) fun (r_47 : Int32) =>
if r_47 = 0 then (
some (.inl S_38))
else (
bd (if mI S_38 p0 4 ≤ 99999 then (
bd (f_X2_here p0 S_38) fun (r_59 : Int32) =>
some (((10 * (mI S_38 p0 4)) + r_59) - 48))
else (
some (mI S_38 p0 4)) : Option (Int32)) fun (t_49 : Int32) =>
gd (mT S_38 p0 = 1) (
be (sI S_38 p0 4 t_49) fun (M_53 : Mem) =>
be (sI M_53 p0 0 ((mI M_53 p0 0) + 1)) fun (M_55 : Mem) =>
some (.inr M_55))))
def f_X2_next_b3 (N : Nat) (p0 : Nat) (S_65 : Mem) : Option ((Mem) ⊕ (Mem)) :=
gd (mT S_65 p0 = 1) (
bd (f_X2_here p0 S_65) fun (r_88 : Int32) =>
bd (f_X1_in (Int32.toInt64 r_88) 97 122 S_65) fun (r_90 : Int32) =>
if r_90 = 0 then (
some (.inl S_65))
else (
be (sI S_65 p0 0 ((mI S_65 p0 0) + 1)) fun (M_92 : Mem) =>
some (.inr M_92)))
def f_X2_next_b1 (N : Nat) (p0 : Nat) (S_6 : Mem) : Option ((Mem) ⊕ (Mem)) :=
gd (mT S_6 p0 = 1) (
bd (f_X2_here p0 S_6) fun (r_99 : Int32) =>
if r_99 = 10 then (
be (sI S_6 p0 0 ((mI S_6 p0 0) + 1)) fun (M_101 : Mem) =>
some (.inr M_101))
else (
bd (f_X2_here p0 S_6) fun (r_104 : Int32) =>
if r_104 = 32 then (
be (sI S_6 p0 0 ((mI S_6 p0 0) + 1)) fun (M_106 : Mem) =>
some (.inr M_106))
else (
some (.inl S_6))))
def f_X2_next (N : Nat) (p0 : Nat) (M : Mem) : Option (Mem) :=
bd (lp N (fun s_96 : Mem => f_X2_next_b1 N p0 s_96) M) fun (S_7 : Mem) =>
gd (mT S_7 p0 = 1) (
be (sI S_7 p0 2 (mI S_7 p0 0)) fun (M_11 : Mem) =>
bd (if mI M_11 p0 0 = mI M_11 p0 1 then (
be (sI M_11 p0 3 4) fun (M_94 : Mem) =>
some M_94)
else (
bd (f_X2_here p0 M_11) fun (r_18 : Int32) =>
bd (f_X1_in (Int32.toInt64 r_18) 97 122 M_11) fun (r_20 : Int32) =>
if r_20 = 0 then (
bd (f_X2_here p0 M_11) fun (r_23 : Int32) =>
bd (f_X1_in (Int32.toInt64 r_23) 48 57 M_11) fun (r_25 : Int32) =>
if r_25 = 0 then (
bd (f_X2_sign p0 M_11) fun (M_28 : Mem) =>
some M_28)
else (
be (sI M_11 p0 3 2) fun (M_29 : Mem) =>
be (sI M_29 p0 4 0) fun (M_31 : Mem) =>
bd (lp N (fun s_42 : Mem => f_X2_next_b2 N p0 s_42) M_31) fun (S_39 : Mem) =>
some S_39))
else (
bd (lp N (fun s_85 : Mem => f_X2_next_b3 N p0 s_85) M_11) fun (S_66 : Mem) =>
gd (mT S_66 p0 = 1) (
bd (f_X2_word N p0 S_66) fun (r_71 : Int32) =>
be (sI S_66 p0 4 r_71) fun (M_72 : Mem) =>
bd (if mI M_72 p0 4 = (-1) then (
if (mI M_72 p0 0) - (mI M_72 p0 2) ≤ 6 then (
some 1)
else (
some 5))
else (
some 0) : Option (Int32)) fun (t_74 : Int32) =>
gd (mT M_72 p0 = 1) (
be (sI M_72 p0 3 t_74) fun (M_78 : Mem) =>
if mI M_78 p0 3 = 1 then (
bd (f_X2_name N p0 M_78) fun (M_82 : Mem) =>
some M_82)
else (
some M_78))))) : Option (Mem)) fun (M_13 : Mem) =>
some M_13)
def rm_f_X2_next : Room := { frames := 5, cells := 0, slots := 0, locals := 163 }
theorem ok_f_X2_next {E : En} (hE : EOk E) (hN : NOk E) {N : Nat} {p0 : Nat} {M : Mem}  {M' : Mem} (h : f_X2_next N p0 M = some M') : CM E yX2_next cX2_next 1 none rm_f_X2_next [rf E p0] M none M' := by
  unfold f_X2_next at h
  refine CM_introX (own := RX2) rfl (by decide +kernel) (Nat.le_of_ble_eq_true rfl) rfl (fun G hG hEn hI => ?_)
  obtain ⟨Q, eQ⟩ : ∃ Q, Q = QM E G none M' 0 0 := ⟨_, rfl⟩
  show V E G M 0 0 1 0 [(0, rf E p0)] [] (QM E G none M' 0 0)
  rw [← eQ]
  obtain ⟨S_7, hL_8, h⟩ := bd_of h
  have J_5 : ∀ q_9 : Mem, q_9 = S_7 → V E G q_9 0 0 1 31 [(0, rf E p0)] [] Q := by
    intro q_9 e9
    subst q_9
    show V E G S_7 0 0 1 31 [(0, rf E p0)] [] Q
    refine V_aload_n hG 0 rfl dX2_next_31 ?_
    refine V_aload_n hG 0 rfl dX2_next_32 ?_
    obtain ⟨g_10, h⟩ := gd_of h
    refine gf_X2_15 hN hG g_10 dX2_next_33 ?_
    obtain ⟨M_11, eM_11, h⟩ := be_of h
    refine pf_X2_30 hN hG g_10 eM_11 dX2_next_36 ?_
    have g_12 : mT M_11 p0 = 1 := by rw [eM_11]; exact g_10
    refine V_aload_n hG 0 rfl dX2_next_39 ?_
    refine gf_X2_15 hN hG g_12 dX2_next_40 ?_
    refine V_aload_n hG 0 rfl dX2_next_43 ?_
    refine gf_X2_19 hN hG g_12 dX2_next_44 ?_
    obtain ⟨M_13, hj_15, h⟩ := bd_of h
    have J_14 : V E G M_13 0 0 1 259 [(0, rf E p0)] [] Q := by
      cases h
      subst eQ
      exact V_vret hG dX2_next_259
    refine V_icmp_ne hG 58 dX2_next_47 (by decide) (fun c_16 => ?_) (fun c_16 => ?_)
    · have hj_15 := if_f c_16 hj_15
      refine V_aload_n hG 0 rfl dX2_next_58 ?_
      obtain ⟨r_18, hc_17, hj_15⟩ := bd_of hj_15
      refine V_callV hE hG (ci := 1) (As := []) (rest := []) (ok_f_X2_here hE hN hc_17) g_12 (by decide) rfl hw_X2_26 hdv_X2_here ⟨Nat.le_of_ble_eq_true rfl, Nat.le_of_ble_eq_true rfl⟩ rfl rfl (Nat.le_of_ble_eq_true rfl) ⟨Nat.le_of_ble_eq_true rfl, Nat.le_of_ble_eq_true rfl⟩ dX2_next_59 (V_zero rfl rfl ?_)
      refine V_i2l hG dX2_next_62 ?_
      refine V_ldc2 hG q521 dX2_next_63 ?_
      refine V_ldc2 hG q522 dX2_next_66 ?_
      obtain ⟨r_20, hc_19, hj_15⟩ := bd_of hj_15
      refine W_callSN hE hG hN (As := [.long (Int32.toInt64 r_18), .long 97, .long 122]) (rest := []) (ok_f_X1_in hE hN hc_19) q523 (lw_meth q506) q123 q505 hdc_X1_in ⟨Nat.le_of_ble_eq_true rfl, Nat.le_of_ble_eq_true rfl⟩ rfl rfl (Nat.le_of_ble_eq_true rfl) ⟨Nat.le_of_ble_eq_true rfl, Nat.le_of_ble_eq_true rfl⟩ dX2_next_69 (V_zero rfl rfl ?_)
      refine V_if_eq hG 163 dX2_next_72 (by decide) (fun c_21 => ?_) (fun c_21 => ?_)
      · have hj_15 := if_t c_21 hj_15
        refine V_aload_n hG 0 rfl dX2_next_163 ?_
        obtain ⟨r_23, hc_22, hj_15⟩ := bd_of hj_15
        refine V_callV hE hG (ci := 1) (As := []) (rest := []) (ok_f_X2_here hE hN hc_22) g_12 (by decide) rfl hw_X2_26 hdv_X2_here ⟨Nat.le_of_ble_eq_true rfl, Nat.le_of_ble_eq_true rfl⟩ rfl rfl (Nat.le_of_ble_eq_true rfl) ⟨Nat.le_of_ble_eq_true rfl, Nat.le_of_ble_eq_true rfl⟩ dX2_next_164 (V_zero rfl rfl ?_)
        refine V_i2l hG dX2_next_167 ?_
        refine V_ldc2 hG q580 dX2_next_168 ?_
        refine V_ldc2 hG q581 dX2_next_171 ?_
        obtain ⟨r_25, hc_24, hj_15⟩ := bd_of hj_15
        refine W_callSN hE hG hN (As := [.long (Int32.toInt64 r_23), .long 48, .long 57]) (rest := []) (ok_f_X1_in hE hN hc_24) q523 (lw_meth q506) q123 q505 hdc_X1_in ⟨Nat.le_of_ble_eq_true rfl, Nat.le_of_ble_eq_true rfl⟩ rfl rfl (Nat.le_of_ble_eq_true rfl) ⟨Nat.le_of_ble_eq_true rfl, Nat.le_of_ble_eq_true rfl⟩ dX2_next_174 (V_zero rfl rfl ?_)
        refine V_if_eq hG 255 dX2_next_177 (by decide) (fun c_26 => ?_) (fun c_26 => ?_)
        · have hj_15 := if_t c_26 hj_15
          refine V_aload_n hG 0 rfl dX2_next_255 ?_
          obtain ⟨M_28, hc_27, hj_15⟩ := bd_of hj_15
          refine V_callV hE hG (ci := 1) (As := []) (rest := []) (ok_f_X2_sign hE hN hc_27) g_12 (by decide) rfl hw_X2_58 hdv_X2_sign ⟨Nat.le_of_ble_eq_true rfl, Nat.le_of_ble_eq_true rfl⟩ rfl rfl (Nat.le_of_ble_eq_true rfl) ⟨Nat.le_of_ble_eq_true rfl, Nat.le_of_ble_eq_true rfl⟩ dX2_next_256 (V_zero rfl rfl ?_)
          cases hj_15
          exact J_14
        · have hj_15 := if_f c_26 hj_15
          refine V_aload_n hG 0 rfl dX2_next_180 ?_
          refine V_iconst hG 2 rfl dX2_next_181 ?_
          obtain ⟨M_29, eM_29, hj_15⟩ := be_of hj_15
          refine pf_X2_33 hN hG g_12 eM_29 dX2_next_182 ?_
          have g_30 : mT M_29 p0 = 1 := by rw [eM_29]; exact g_12
          refine V_aload_n hG 0 rfl dX2_next_185 ?_
          refine V_iconst hG 0 rfl dX2_next_186 ?_
          obtain ⟨M_31, eM_31, hj_15⟩ := be_of hj_15
          refine pf_X2_47 hN hG g_30 eM_31 dX2_next_187 ?_
          have g_32 : mT M_31 p0 = 1 := by rw [eM_31]; exact g_30
          obtain ⟨S_39, hL_40, hj_15⟩ := bd_of hj_15
          have J_37 : ∀ q_41 : Mem, q_41 = S_39 → V E G q_41 0 0 1 259 [(0, rf E p0)] [] Q := by
            intro q_41 e9
            subst q_41
            show V E G S_39 0 0 1 259 [(0, rf E p0)] [] Q
            cases hj_15
            exact J_14
          refine lp_walk (W := fun s_42 : Mem => V E G s_42 0 0 1 190 [(0, rf E p0)] [] Q) ?_ N M_31 hL_40
          intro s_42 b_33 hb_34 hk_35 hx_36
          obtain ⟨S_38, rfl⟩ : ∃ z, z = s_42 := ⟨_, rfl⟩
          have hb_34 : f_X2_next_b2 N p0 S_38 = some b_33 := hb_34
          unfold f_X2_next_b2 at hb_34
          show V E G S_38 0 0 1 190 [(0, rf E p0)] [] Q
          refine V_aload_n hG 0 rfl dX2_next_190 ?_
          obtain ⟨g_43, hb_34⟩ := gd_of hb_34
          obtain ⟨r_45, hc_44, hb_34⟩ := bd_of hb_34
          refine V_callV hE hG (ci := 1) (As := []) (rest := []) (ok_f_X2_here hE hN hc_44) g_43 (by decide) rfl hw_X2_26 hdv_X2_here ⟨Nat.le_of_ble_eq_true rfl, Nat.le_of_ble_eq_true rfl⟩ rfl rfl (Nat.le_of_ble_eq_true rfl) ⟨Nat.le_of_ble_eq_true rfl, Nat.le_of_ble_eq_true rfl⟩ dX2_next_191 (V_zero rfl rfl ?_)
          refine V_i2l hG dX2_next_194 ?_
          refine V_ldc2 hG q580 dX2_next_195 ?_
          refine V_ldc2 hG q581 dX2_next_198 ?_
          obtain ⟨r_47, hc_46, hb_34⟩ := bd_of hb_34
          refine W_callSN hE hG hN (As := [.long (Int32.toInt64 r_45), .long 48, .long 57]) (rest := []) (ok_f_X1_in hE hN hc_46) q523 (lw_meth q506) q123 q505 hdc_X1_in ⟨Nat.le_of_ble_eq_true rfl, Nat.le_of_ble_eq_true rfl⟩ rfl rfl (Nat.le_of_ble_eq_true rfl) ⟨Nat.le_of_ble_eq_true rfl, Nat.le_of_ble_eq_true rfl⟩ dX2_next_201 (V_zero rfl rfl ?_)
          refine V_if_eq hG 259 dX2_next_204 (by decide) (fun c_48 => ?_) (fun c_48 => ?_)
          · have hb_34 := if_t c_48 hb_34
            cases hb_34
            exact J_37 _ (hx_36 _ rfl)
          · have hb_34 := if_f c_48 hb_34
            refine V_aload_n hG 0 rfl dX2_next_207 ?_
            refine V_aload_n hG 0 rfl dX2_next_208 ?_
            refine gf_X2_47 hN hG g_43 dX2_next_209 ?_
            refine V_ldc hG q582 dX2_next_212 ?_
            obtain ⟨t_49, hj_51, hb_34⟩ := bd_of hb_34
            have J_50 : V E G S_38 0 0 1 239 [(0, rf E p0)] [.int t_49, rf E p0] Q := by
              obtain ⟨g_52, hb_34⟩ := gd_of hb_34
              obtain ⟨M_53, eM_53, hb_34⟩ := be_of hb_34
              refine pf_X2_47 hN hG g_52 eM_53 dX2_next_239 ?_
              have g_54 : mT M_53 p0 = 1 := by rw [eM_53]; exact g_52
              refine V_aload_n hG 0 rfl dX2_next_242 ?_
              refine V_dup hG rfl dX2_next_243 ?_
              refine gf_X2_15 hN hG g_54 dX2_next_244 ?_
              refine V_iconst hG 1 rfl dX2_next_247 ?_
              refine V_iadd hG dX2_next_248 ?_
              obtain ⟨M_55, eM_55, hb_34⟩ := be_of hb_34
              refine pf_X2_15 hN hG g_54 eM_55 dX2_next_249 ?_
              have g_56 : mT M_55 p0 = 1 := by rw [eM_55]; exact g_54
              refine V_goto hG 190 dX2_next_252 (by decide) ?_
              cases hb_34
              exact hk_35 _ rfl
            refine V_icmp_le hG 224 dX2_next_214 (by decide) (fun c_57 => ?_) (fun c_57 => ?_)
            · have hj_51 := if_t c_57 hj_51
              refine V_bipush hG 10 (by decide) dX2_next_224 ?_
              refine V_aload_n hG 0 rfl dX2_next_226 ?_
              refine gf_X2_47 hN hG g_43 dX2_next_227 ?_
              refine V_imul hG dX2_next_230 ?_
              refine V_aload_n hG 0 rfl dX2_next_231 ?_
              obtain ⟨r_59, hc_58, hj_51⟩ := bd_of hj_51
              refine V_callV hE hG (ci := 1) (As := []) (rest := [.int (10 * (mI S_38 p0 4)), rf E p0]) (ok_f_X2_here hE hN hc_58) g_43 (by decide) rfl hw_X2_26 hdv_X2_here ⟨Nat.le_of_ble_eq_true rfl, Nat.le_of_ble_eq_true rfl⟩ rfl rfl (Nat.le_of_ble_eq_true rfl) ⟨Nat.le_of_ble_eq_true rfl, Nat.le_of_ble_eq_true rfl⟩ dX2_next_232 (V_zero rfl rfl ?_)
              refine V_iadd hG dX2_next_235 ?_
              refine V_bipush hG 48 (by decide) dX2_next_236 ?_
              refine V_isub hG dX2_next_238 ?_
              cases hj_51
              exact J_50
            · have hj_51 := if_f c_57 hj_51
              refine V_aload_n hG 0 rfl dX2_next_217 ?_
              refine gf_X2_47 hN hG g_43 dX2_next_218 ?_
              refine V_goto hG 239 dX2_next_221 (by decide) ?_
              cases hj_51
              exact J_50
      · have hj_15 := if_f c_21 hj_15
        obtain ⟨S_66, hL_67, hj_15⟩ := bd_of hj_15
        have J_64 : ∀ q_68 : Mem, q_68 = S_66 → V E G q_68 0 0 1 105 [(0, rf E p0)] [] Q := by
          intro q_68 e9
          subst q_68
          show V E G S_66 0 0 1 105 [(0, rf E p0)] [] Q
          refine V_aload_n hG 0 rfl dX2_next_105 ?_
          refine V_aload_n hG 0 rfl dX2_next_106 ?_
          obtain ⟨g_69, hj_15⟩ := gd_of hj_15
          obtain ⟨r_71, hc_70, hj_15⟩ := bd_of hj_15
          refine V_callV hE hG (ci := 1) (As := []) (rest := [rf E p0]) (ok_f_X2_word hE hN hc_70) g_69 (by decide) rfl hw_X2_44 hdv_X2_word ⟨Nat.le_of_ble_eq_true rfl, Nat.le_of_ble_eq_true rfl⟩ rfl rfl (Nat.le_of_ble_eq_true rfl) ⟨Nat.le_of_ble_eq_true rfl, Nat.le_of_ble_eq_true rfl⟩ dX2_next_107 (V_zero rfl rfl ?_)
          obtain ⟨M_72, eM_72, hj_15⟩ := be_of hj_15
          refine pf_X2_47 hN hG g_69 eM_72 dX2_next_110 ?_
          have g_73 : mT M_72 p0 = 1 := by rw [eM_72]; exact g_69
          refine V_aload_n hG 0 rfl dX2_next_113 ?_
          refine V_aload_n hG 0 rfl dX2_next_114 ?_
          refine gf_X2_47 hN hG g_73 dX2_next_115 ?_
          refine V_iconst hG (-1) rfl dX2_next_118 ?_
          obtain ⟨t_74, hj_76, hj_15⟩ := bd_of hj_15
          have J_75 : V E G M_72 0 0 1 145 [(0, rf E p0)] [.int t_74, rf E p0] Q := by
            obtain ⟨g_77, hj_15⟩ := gd_of hj_15
            obtain ⟨M_78, eM_78, hj_15⟩ := be_of hj_15
            refine pf_X2_33 hN hG g_77 eM_78 dX2_next_145 ?_
            have g_79 : mT M_78 p0 = 1 := by rw [eM_78]; exact g_77
            refine V_aload_n hG 0 rfl dX2_next_148 ?_
            refine gf_X2_33 hN hG g_79 dX2_next_149 ?_
            refine V_iconst hG 1 rfl dX2_next_152 ?_
            refine V_icmp_ne hG 259 dX2_next_153 (by decide) (fun c_80 => ?_) (fun c_80 => ?_)
            · have hj_15 := if_f c_80 hj_15
              cases hj_15
              exact J_14
            · have hj_15 := if_t c_80 hj_15
              refine V_aload_n hG 0 rfl dX2_next_156 ?_
              obtain ⟨M_82, hc_81, hj_15⟩ := bd_of hj_15
              refine V_callV hE hG (ci := 1) (As := []) (rest := []) (ok_f_X2_name hE hN hc_81) g_79 (by decide) rfl hw_X2_50 hdv_X2_name ⟨Nat.le_of_ble_eq_true rfl, Nat.le_of_ble_eq_true rfl⟩ rfl rfl (Nat.le_of_ble_eq_true rfl) ⟨Nat.le_of_ble_eq_true rfl, Nat.le_of_ble_eq_true rfl⟩ dX2_next_157 (V_zero rfl rfl ?_)
              refine V_goto hG 259 dX2_next_160 (by decide) ?_
              cases hj_15
              exact J_14
          refine V_icmp_eq hG 126 dX2_next_119 (by decide) (fun c_83 => ?_) (fun c_83 => ?_)
          · have hj_76 := if_t c_83 hj_76
            refine V_aload_n hG 0 rfl dX2_next_126 ?_
            refine gf_X2_15 hN hG g_73 dX2_next_127 ?_
            refine V_aload_n hG 0 rfl dX2_next_130 ?_
            refine gf_X2_30 hN hG g_73 dX2_next_131 ?_
            refine V_isub hG dX2_next_134 ?_
            refine V_bipush hG 6 (by decide) dX2_next_135 ?_
            refine V_icmp_le hG 144 dX2_next_137 (by decide) (fun c_84 => ?_) (fun c_84 => ?_)
            · have hj_76 := if_t c_84 hj_76
              refine V_iconst hG 1 rfl dX2_next_144 ?_
              cases hj_76
              exact J_75
            · have hj_76 := if_f c_84 hj_76
              refine V_iconst hG 5 rfl dX2_next_140 ?_
              refine V_goto hG 145 dX2_next_141 (by decide) ?_
              cases hj_76
              exact J_75
          · have hj_76 := if_f c_83 hj_76
            refine V_iconst hG 0 rfl dX2_next_122 ?_
            refine V_goto hG 145 dX2_next_123 (by decide) ?_
            cases hj_76
            exact J_75
        refine lp_walk (W := fun s_85 : Mem => V E G s_85 0 0 1 75 [(0, rf E p0)] [] Q) ?_ N M_11 hL_67
        intro s_85 b_60 hb_61 hk_62 hx_63
        obtain ⟨S_65, rfl⟩ : ∃ z, z = s_85 := ⟨_, rfl⟩
        have hb_61 : f_X2_next_b3 N p0 S_65 = some b_60 := hb_61
        unfold f_X2_next_b3 at hb_61
        show V E G S_65 0 0 1 75 [(0, rf E p0)] [] Q
        refine V_aload_n hG 0 rfl dX2_next_75 ?_
        obtain ⟨g_86, hb_61⟩ := gd_of hb_61
        obtain ⟨r_88, hc_87, hb_61⟩ := bd_of hb_61
        refine V_callV hE hG (ci := 1) (As := []) (rest := []) (ok_f_X2_here hE hN hc_87) g_86 (by decide) rfl hw_X2_26 hdv_X2_here ⟨Nat.le_of_ble_eq_true rfl, Nat.le_of_ble_eq_true rfl⟩ rfl rfl (Nat.le_of_ble_eq_true rfl) ⟨Nat.le_of_ble_eq_true rfl, Nat.le_of_ble_eq_true rfl⟩ dX2_next_76 (V_zero rfl rfl ?_)
        refine V_i2l hG dX2_next_79 ?_
        refine V_ldc2 hG q521 dX2_next_80 ?_
        refine V_ldc2 hG q522 dX2_next_83 ?_
        obtain ⟨r_90, hc_89, hb_61⟩ := bd_of hb_61
        refine W_callSN hE hG hN (As := [.long (Int32.toInt64 r_88), .long 97, .long 122]) (rest := []) (ok_f_X1_in hE hN hc_89) q523 (lw_meth q506) q123 q505 hdc_X1_in ⟨Nat.le_of_ble_eq_true rfl, Nat.le_of_ble_eq_true rfl⟩ rfl rfl (Nat.le_of_ble_eq_true rfl) ⟨Nat.le_of_ble_eq_true rfl, Nat.le_of_ble_eq_true rfl⟩ dX2_next_86 (V_zero rfl rfl ?_)
        refine V_if_eq hG 105 dX2_next_89 (by decide) (fun c_91 => ?_) (fun c_91 => ?_)
        · have hb_61 := if_t c_91 hb_61
          cases hb_61
          exact J_64 _ (hx_63 _ rfl)
        · have hb_61 := if_f c_91 hb_61
          refine V_aload_n hG 0 rfl dX2_next_92 ?_
          refine V_dup hG rfl dX2_next_93 ?_
          refine gf_X2_15 hN hG g_86 dX2_next_94 ?_
          refine V_iconst hG 1 rfl dX2_next_97 ?_
          refine V_iadd hG dX2_next_98 ?_
          obtain ⟨M_92, eM_92, hb_61⟩ := be_of hb_61
          refine pf_X2_15 hN hG g_86 eM_92 dX2_next_99 ?_
          have g_93 : mT M_92 p0 = 1 := by rw [eM_92]; exact g_86
          refine V_goto hG 75 dX2_next_102 (by decide) ?_
          cases hb_61
          exact hk_62 _ rfl
    · have hj_15 := if_t c_16 hj_15
      refine V_aload_n hG 0 rfl dX2_next_50 ?_
      refine V_iconst hG 4 rfl dX2_next_51 ?_
      obtain ⟨M_94, eM_94, hj_15⟩ := be_of hj_15
      refine pf_X2_33 hN hG g_12 eM_94 dX2_next_52 ?_
      have g_95 : mT M_94 p0 = 1 := by rw [eM_94]; exact g_12
      refine V_goto hG 259 dX2_next_55 (by decide) ?_
      cases hj_15
      exact J_14
  refine lp_walk (W := fun s_96 : Mem => V E G s_96 0 0 1 0 [(0, rf E p0)] [] Q) ?_ N M hL_8
  intro s_96 b_1 hb_2 hk_3 hx_4
  obtain ⟨S_6, rfl⟩ : ∃ z, z = s_96 := ⟨_, rfl⟩
  have hb_2 : f_X2_next_b1 N p0 S_6 = some b_1 := hb_2
  unfold f_X2_next_b1 at hb_2
  show V E G S_6 0 0 1 0 [(0, rf E p0)] [] Q
  refine V_aload_n hG 0 rfl dX2_next_0 ?_
  obtain ⟨g_97, hb_2⟩ := gd_of hb_2
  obtain ⟨r_99, hc_98, hb_2⟩ := bd_of hb_2
  refine V_callV hE hG (ci := 1) (As := []) (rest := []) (ok_f_X2_here hE hN hc_98) g_97 (by decide) rfl hw_X2_26 hdv_X2_here ⟨Nat.le_of_ble_eq_true rfl, Nat.le_of_ble_eq_true rfl⟩ rfl rfl (Nat.le_of_ble_eq_true rfl) ⟨Nat.le_of_ble_eq_true rfl, Nat.le_of_ble_eq_true rfl⟩ dX2_next_1 (V_zero rfl rfl ?_)
  refine V_bipush hG 10 (by decide) dX2_next_4 ?_
  refine V_icmp_eq hG 18 dX2_next_6 (by decide) (fun c_100 => ?_) (fun c_100 => ?_)
  · have hb_2 := if_t c_100 hb_2
    refine V_aload_n hG 0 rfl dX2_next_18 ?_
    refine V_dup hG rfl dX2_next_19 ?_
    refine gf_X2_15 hN hG g_97 dX2_next_20 ?_
    refine V_iconst hG 1 rfl dX2_next_23 ?_
    refine V_iadd hG dX2_next_24 ?_
    obtain ⟨M_101, eM_101, hb_2⟩ := be_of hb_2
    refine pf_X2_15 hN hG g_97 eM_101 dX2_next_25 ?_
    have g_102 : mT M_101 p0 = 1 := by rw [eM_101]; exact g_97
    refine V_goto hG 0 dX2_next_28 (by decide) ?_
    cases hb_2
    exact hk_3 _ rfl
  · have hb_2 := if_f c_100 hb_2
    refine V_aload_n hG 0 rfl dX2_next_9 ?_
    obtain ⟨r_104, hc_103, hb_2⟩ := bd_of hb_2
    refine V_callV hE hG (ci := 1) (As := []) (rest := []) (ok_f_X2_here hE hN hc_103) g_97 (by decide) rfl hw_X2_26 hdv_X2_here ⟨Nat.le_of_ble_eq_true rfl, Nat.le_of_ble_eq_true rfl⟩ rfl rfl (Nat.le_of_ble_eq_true rfl) ⟨Nat.le_of_ble_eq_true rfl, Nat.le_of_ble_eq_true rfl⟩ dX2_next_10 (V_zero rfl rfl ?_)
    refine V_bipush hG 32 (by decide) dX2_next_13 ?_
    refine V_icmp_ne hG 31 dX2_next_15 (by decide) (fun c_105 => ?_) (fun c_105 => ?_)
    · have hb_2 := if_f c_105 hb_2
      cases hb_2
      exact J_5 _ (hx_4 _ rfl)
    · have hb_2 := if_t c_105 hb_2
      refine V_aload_n hG 0 rfl dX2_next_18 ?_
      refine V_dup hG rfl dX2_next_19 ?_
      refine gf_X2_15 hN hG g_97 dX2_next_20 ?_
      refine V_iconst hG 1 rfl dX2_next_23 ?_
      refine V_iadd hG dX2_next_24 ?_
      obtain ⟨M_106, eM_106, hb_2⟩ := be_of hb_2
      refine pf_X2_15 hN hG g_97 eM_106 dX2_next_25 ?_
      have g_107 : mT M_106 p0 = 1 := by rw [eM_106]; exact g_97
      refine V_goto hG 0 dX2_next_28 (by decide) ?_
      cases hb_2
      exact hk_3 _ rfl

def f_X2_ahead (N : Nat) (LC LZ : Nat) (p0 : Nat) (p1 : Nat) (M : Mem) : Option ((Int32 × Mem) ⊕ (Nat × Mem)) :=
gd (mT M p0 = 1) (
if mI M p0 3 = 1 then (
gd (mN M ≤ LC ∧ mZ M ≤ LZ) (
bd (f_X9_find N p1 (mI M p0 4) M) fun (r_5 : Int32) =>
if r_5 = (-1) then (
gd (mN M ≤ LC ∧ mZ M ≤ LZ) (
bd2 (f_X2_wrong LC LZ p0 4 M) fun (r_14 : Nat) (M_13 : Mem) =>
gd (mT M_13 r_14 = 16) (
gd (mN M_13 ≤ LC ∧ mZ M_13 ≤ LZ) (
some (Sum.inr (r_14, M_13))))))
else (
gd (mN M ≤ LC ∧ mZ M ≤ LZ) (
bd (f_X2_next N p0 M) fun (M_9 : Mem) =>
gd (mN M_9 ≤ LC ∧ mZ M_9 ≤ LZ) (
some (Sum.inl (r_5, M_9)))))))
else (
gd (mN M ≤ LC ∧ mZ M ≤ LZ) (
bd2 (f_X2_wrong LC LZ p0 1 M) fun (r_20 : Nat) (M_19 : Mem) =>
gd (mT M_19 r_20 = 16) (
gd (mN M_19 ≤ LC ∧ mZ M_19 ≤ LZ) (
some (Sum.inr (r_20, M_19)))))))
def rm_f_X2_ahead (LC LZ : Nat) (M : Mem) : Room := { frames := 6, cells := LC - mN M, slots := LZ - mZ M, locals := 187 }
theorem ok_f_X2_ahead {E : En} (hE : EOk E) (hN : NOk E) {N : Nat} {LC LZ : Nat} {p0 : Nat} {p1 : Nat} {M : Mem} {res : (Int32 × Mem) ⊕ (Nat × Mem)} (h : f_X2_ahead N LC LZ p0 p1 M = some res) : RM E faF yX2_ahead cX2_ahead 3 (some .int) (rm_f_X2_ahead LC LZ M) [rf E p0, rf E p1] M (rsI res) := by
  unfold f_X2_ahead at h
  refine RM_introX (own := RX2) rfl (by decide) (Nat.le_of_ble_eq_true rfl) rfl (fun G hG hEn hI hX => ?_)
  obtain ⟨Q, eQ⟩ : ∃ Q, Q = QR E G faF (rsI res) (LC - mN M) (LZ - mZ M) := ⟨_, rfl⟩
  show V E G M 0 0 3 0 [(0, rf E p0), (1, rf E p1)] [] (QR E G faF (rsI res) (LC - mN M) (LZ - mZ M))
  rw [← eQ]
  refine V_aload_n hG 0 rfl dX2_ahead_0 ?_
  obtain ⟨g_1, h⟩ := gd_of h
  refine gf_X2_33 hN hG g_1 dX2_ahead_1 ?_
  refine V_iconst hG 1 rfl dX2_ahead_4 ?_
  refine V_icmp_eq hG 14 dX2_ahead_5 (by decide) (fun c_2 => ?_) (fun c_2 => ?_)
  · have h := if_t c_2 h
    refine V_aload_n hG 1 rfl dX2_ahead_14 ?_
    refine V_aload_n hG 0 rfl dX2_ahead_15 ?_
    refine gf_X2_47 hN hG g_1 dX2_ahead_16 ?_
    obtain ⟨g_3, h⟩ := gd_of h
    refine V_narrow hEn (fun n1 n2 n3 => ?_)
    obtain ⟨r_5, hc_4, h⟩ := bd_of h
    refine V_callS hE hG (As := [rf E p1, .int (mI M p0 4)]) (rest := []) (ok_f_X9_find hE hN hc_4) hw_X2_96 hdc_X9_find ⟨Nat.le_of_ble_eq_true rfl, Nat.le_of_ble_eq_true rfl⟩ rfl rfl (Nat.le_of_ble_eq_true rfl) ⟨by show _ + 0 ≤ LC - mN M; omega, by show _ + 0 ≤ LZ - mZ M; omega⟩ dX2_ahead_19 ?_
    refine V_istore_n hG rfl [(2, .int r_5), (0, rf E p0), (1, rf E p1)] dX2_ahead_22 (Nat.le_of_ble_eq_true rfl) rfl ?_
    refine V_iload_n hG 0 rfl dX2_ahead_23 ?_
    refine V_iconst hG (-1) rfl dX2_ahead_24 ?_
    refine V_icmp_ne hG 34 dX2_ahead_25 (by decide) (fun c_6 => ?_) (fun c_6 => ?_)
    · have h := if_f c_6 h
      refine V_aload_n hG 1 rfl dX2_ahead_34 ?_
      obtain ⟨g_7, h⟩ := gd_of h
      refine V_narrow hEn (fun n1 n2 n3 => ?_)
      obtain ⟨M_9, hc_8, h⟩ := bd_of h
      refine V_callV hE hG (ci := 1) (As := []) (rest := []) (ok_f_X2_next hE hN hc_8) g_1 (by decide) rfl hw_X2_93 hdv_X2_next ⟨Nat.le_of_ble_eq_true rfl, Nat.le_of_ble_eq_true rfl⟩ rfl rfl (Nat.le_of_ble_eq_true rfl) ⟨by show _ + 0 ≤ LC - mN M; omega, by show _ + 0 ≤ LZ - mZ M; omega⟩ dX2_ahead_35 ?_
      refine V_iload_n hG 0 rfl dX2_ahead_38 ?_
      obtain ⟨g_10, h⟩ := gd_of h
      refine V_narrow hEn (fun n1 n2 n3 => V_widen (k := LC - mN M) (n := LZ - mZ M) (by omega) (by omega) ?_)
      cases h
      subst eQ
      exact V_iret hG dX2_ahead_39
    · have h := if_t c_6 h
      refine V_aload_n hG 1 rfl dX2_ahead_28 ?_
      refine V_iconst hG 4 rfl dX2_ahead_29 ?_
      obtain ⟨g_11, h⟩ := gd_of h
      refine V_narrow hEn (fun n1 n2 n3 => ?_)
      obtain ⟨r_14, M_13, hc_12, h⟩ := bd2_of h
      refine V_callV hE hG (ci := 1) (As := [.int 4]) (rest := []) (ok_f_X2_wrong hE hN hc_12) g_1 (by decide) rfl hw_X2_85 hdv_X2_wrong ⟨Nat.le_of_ble_eq_true rfl, Nat.le_of_ble_eq_true rfl⟩ rfl rfl (Nat.le_of_ble_eq_true rfl) ⟨by show _ + (LC - mN M) ≤ LC - mN M; omega, by show _ + (LZ - mZ M) ≤ LZ - mZ M; omega⟩ dX2_ahead_30 ?_
      obtain ⟨g_15, h⟩ := gd_of h
      obtain ⟨g_16, h⟩ := gd_of h
      refine V_narrow hEn (fun n1 n2 n3 => ?_)
      cases h
      subst eQ
      exact T_athrow hG (ci := 16) g_15 (by decide) rfl rfl rfl ⟨by show _ ≤ LC - mN M; omega, by show _ ≤ LZ - mZ M; omega⟩ dX2_ahead_33 hX
  · have h := if_f c_2 h
    refine V_aload_n hG 0 rfl dX2_ahead_8 ?_
    refine V_iconst hG 1 rfl dX2_ahead_9 ?_
    obtain ⟨g_17, h⟩ := gd_of h
    refine V_narrow hEn (fun n1 n2 n3 => ?_)
    obtain ⟨r_20, M_19, hc_18, h⟩ := bd2_of h
    refine V_callV hE hG (ci := 1) (As := [.int 1]) (rest := []) (ok_f_X2_wrong hE hN hc_18) g_1 (by decide) rfl hw_X2_85 hdv_X2_wrong ⟨Nat.le_of_ble_eq_true rfl, Nat.le_of_ble_eq_true rfl⟩ rfl rfl (Nat.le_of_ble_eq_true rfl) ⟨by show _ + (LC - mN M) ≤ LC - mN M; omega, by show _ + (LZ - mZ M) ≤ LZ - mZ M; omega⟩ dX2_ahead_10 ?_
    obtain ⟨g_21, h⟩ := gd_of h
    obtain ⟨g_22, h⟩ := gd_of h
    refine V_narrow hEn (fun n1 n2 n3 => ?_)
    cases h
    subst eQ
    exact T_athrow hG (ci := 16) g_21 (by decide) rfl rfl rfl ⟨by show _ ≤ LC - mN M; omega, by show _ ≤ LZ - mZ M; omega⟩ dX2_ahead_13 hX

def f_X2_isWord (p0 : Nat) (p1 : Int32) (p2 : Int32) (M : Mem) : Option (Int32) :=
gd (mT M p0 = 1) (
bd (if mI M p0 3 = 0 then (
bd (f_X1_in (Int32.toInt64 (mI M p0 4)) (Int32.toInt64 p1) (Int32.toInt64 p2) M) fun (r_8 : Int32) =>
if r_8 = 0 then (
some 0)
else (
some 1))
else (
some 0) : Option (Int32)) fun (t_2 : Int32) =>
gd (t_2 = 0 ∨ t_2 = 1) (
some t_2))
def rm_f_X2_isWord : Room := { frames := 1, cells := 0, slots := 0, locals := 25 }
theorem ok_f_X2_isWord {E : En} (hE : EOk E) (hN : NOk E) {p0 : Nat} {p1 : Int32} {p2 : Int32} {M : Mem} {r : Int32} (h : f_X2_isWord p0 p1 p2 M = some r) : CM E yX2_isWord cX2_isWord 3 (some .boolean) rm_f_X2_isWord [rf E p0, .int p1, .int p2] M (some (.int r)) M := by
  unfold f_X2_isWord at h
  refine CM_introX (own := RX2) rfl (by decide +kernel) (Nat.le_of_ble_eq_true rfl) rfl (fun G hG hEn hI => ?_)
  obtain ⟨Q, eQ⟩ : ∃ Q, Q = QM E G (some (.int r)) M 0 0 := ⟨_, rfl⟩
  show V E G M 0 0 3 0 [(0, rf E p0), (1, .int p1), (2, .int p2)] [] (QM E G (some (.int r)) M 0 0)
  rw [← eQ]
  refine V_aload_n hG 0 rfl dX2_isWord_0 ?_
  obtain ⟨g_1, h⟩ := gd_of h
  refine gf_X2_33 hN hG g_1 dX2_isWord_1 ?_
  obtain ⟨t_2, hj_4, h⟩ := bd_of h
  have J_3 : V E G M 0 0 3 27 [(0, rf E p0), (1, .int p1), (2, .int p2)] [.int t_2] Q := by
    obtain ⟨g_5, h⟩ := gd_of h
    cases h
    subst eQ
    exact V_zret hG g_5 dX2_isWord_27
  refine V_if_ne hG 26 dX2_isWord_4 (by decide) (fun c_6 => ?_) (fun c_6 => ?_)
  · have hj_4 := if_f c_6 hj_4
    refine V_iconst hG 0 rfl dX2_isWord_26 ?_
    cases hj_4
    exact J_3
  · have hj_4 := if_t c_6 hj_4
    refine V_aload_n hG 0 rfl dX2_isWord_7 ?_
    refine gf_X2_47 hN hG g_1 dX2_isWord_8 ?_
    refine V_i2l hG dX2_isWord_11 ?_
    refine V_iload_n hG 1 rfl dX2_isWord_12 ?_
    refine V_i2l hG dX2_isWord_13 ?_
    refine V_iload_n hG 2 rfl dX2_isWord_14 ?_
    refine V_i2l hG dX2_isWord_15 ?_
    obtain ⟨r_8, hc_7, hj_4⟩ := bd_of hj_4
    refine W_callSN hE hG hN (As := [.long (Int32.toInt64 (mI M p0 4)), .long (Int32.toInt64 p1), .long (Int32.toInt64 p2)]) (rest := []) (ok_f_X1_in hE hN hc_7) q523 (lw_meth q506) q123 q505 hdc_X1_in ⟨Nat.le_of_ble_eq_true rfl, Nat.le_of_ble_eq_true rfl⟩ rfl rfl (Nat.le_of_ble_eq_true rfl) ⟨Nat.le_of_ble_eq_true rfl, Nat.le_of_ble_eq_true rfl⟩ dX2_isWord_16 (V_zero rfl rfl ?_)
    refine V_if_eq hG 26 dX2_isWord_19 (by decide) (fun c_9 => ?_) (fun c_9 => ?_)
    · have hj_4 := if_t c_9 hj_4
      refine V_iconst hG 0 rfl dX2_isWord_26 ?_
      cases hj_4
      exact J_3
    · have hj_4 := if_f c_9 hj_4
      refine V_iconst hG 1 rfl dX2_isWord_22 ?_
      refine V_goto hG 27 dX2_isWord_23 (by decide) ?_
      cases hj_4
      exact J_3

def f_X2_knot (N : Nat) (LC LZ : Nat) (p0 : Nat) (M : Mem) : Option ((Int32 × Mem) ⊕ (Nat × Mem)) :=
gd (mT M p0 = 1) (
bd (mR M p0 7) fun (a_2 : Nat) =>
gd (mT M a_2 = 2) (
if mI M a_2 7 = 64 then (
gd (mN M ≤ LC ∧ mZ M ≤ LZ) (
bd2 (f_X2_wrong LC LZ p0 2 M) fun (r_21 : Nat) (M_20 : Mem) =>
gd (mT M_20 r_21 = 16) (
gd (mN M_20 ≤ LC ∧ mZ M_20 ≤ LZ) (
some (Sum.inr (r_21, M_20))))))
else (
bd (mR M p0 7) fun (a_6 : Nat) =>
gd (mT M a_6 = 2) (
be (sI M a_6 7 ((mI M a_6 7) + 1)) fun (M_9 : Mem) =>
be (mI M_9 p0 4) fun (x1_13 : Int32) =>
gd (mN M_9 ≤ LC ∧ mZ M_9 ≤ LZ) (
bd (f_X2_next N p0 M_9) fun (M_16 : Mem) =>
gd (mN M_16 ≤ LC ∧ mZ M_16 ≤ LZ) (
some (Sum.inl (x1_13, M_16))))))))
def rm_f_X2_knot (LC LZ : Nat) (M : Mem) : Room := { frames := 6, cells := LC - mN M, slots := LZ - mZ M, locals := 187 }
theorem ok_f_X2_knot {E : En} (hE : EOk E) (hN : NOk E) {N : Nat} {LC LZ : Nat} {p0 : Nat} {M : Mem} {res : (Int32 × Mem) ⊕ (Nat × Mem)} (h : f_X2_knot N LC LZ p0 M = some res) : RM E faF yX2_knot cX2_knot 2 (some .int) (rm_f_X2_knot LC LZ M) [rf E p0] M (rsI res) := by
  unfold f_X2_knot at h
  refine RM_introX (own := RX2) rfl (by decide) (Nat.le_of_ble_eq_true rfl) rfl (fun G hG hEn hI hX => ?_)
  obtain ⟨Q, eQ⟩ : ∃ Q, Q = QR E G faF (rsI res) (LC - mN M) (LZ - mZ M) := ⟨_, rfl⟩
  show V E G M 0 0 2 0 [(0, rf E p0)] [] (QR E G faF (rsI res) (LC - mN M) (LZ - mZ M))
  rw [← eQ]
  refine V_aload_n hG 0 rfl dX2_knot_0 ?_
  obtain ⟨g_1, h⟩ := gd_of h
  obtain ⟨a_2, hr_3, h⟩ := bd_of h
  refine gf_X2_111 hN hG g_1 hr_3 dX2_knot_1 ?_
  obtain ⟨g_4, h⟩ := gd_of h
  refine gf_X2_216 hN hG g_4 dX2_knot_4 ?_
  refine V_bipush hG 64 (by decide) dX2_knot_7 ?_
  refine V_icmp_ne hG 18 dX2_knot_9 (by decide) (fun c_5 => ?_) (fun c_5 => ?_)
  · have h := if_f c_5 h
    refine V_aload_n hG 0 rfl dX2_knot_18 ?_
    obtain ⟨a_6, hr_7, h⟩ := bd_of h
    refine gf_X2_111 hN hG g_1 hr_7 dX2_knot_19 ?_
    refine V_dup hG rfl dX2_knot_22 ?_
    obtain ⟨g_8, h⟩ := gd_of h
    refine gf_X2_216 hN hG g_8 dX2_knot_23 ?_
    refine V_iconst hG 1 rfl dX2_knot_26 ?_
    refine V_iadd hG dX2_knot_27 ?_
    obtain ⟨M_9, eM_9, h⟩ := be_of h
    refine pf_X2_216 hN hG g_8 eM_9 dX2_knot_28 ?_
    have g_10 : mT M_9 p0 = 1 := by rw [eM_9]; exact g_1
    have g_11 : mT M_9 a_2 = 2 := by rw [eM_9]; exact g_4
    have g_12 : mT M_9 a_6 = 2 := by rw [eM_9]; exact g_8
    refine V_aload_n hG 0 rfl dX2_knot_31 ?_
    refine gf_X2_47 hN hG g_10 dX2_knot_32 ?_
    obtain ⟨x1_13, ex1_13, h⟩ := be_of h
    refine V_topi ex1_13 ?_
    refine V_istore_n hG rfl [(1, .int x1_13), (0, rf E p0)] dX2_knot_35 (Nat.le_of_ble_eq_true rfl) rfl ?_
    refine V_aload_n hG 1 rfl dX2_knot_36 ?_
    obtain ⟨g_14, h⟩ := gd_of h
    refine V_narrow hEn (fun n1 n2 n3 => ?_)
    obtain ⟨M_16, hc_15, h⟩ := bd_of h
    refine V_callV hE hG (ci := 1) (As := []) (rest := []) (ok_f_X2_next hE hN hc_15) g_10 (by decide) rfl hw_X2_93 hdv_X2_next ⟨Nat.le_of_ble_eq_true rfl, Nat.le_of_ble_eq_true rfl⟩ rfl rfl (Nat.le_of_ble_eq_true rfl) ⟨by show _ + 0 ≤ LC - mN M; omega, by show _ + 0 ≤ LZ - mZ M; omega⟩ dX2_knot_37 ?_
    refine V_iload_n hG 0 rfl dX2_knot_40 ?_
    obtain ⟨g_17, h⟩ := gd_of h
    refine V_narrow hEn (fun n1 n2 n3 => V_widen (k := LC - mN M) (n := LZ - mZ M) (by omega) (by omega) ?_)
    cases h
    subst eQ
    exact V_iret hG dX2_knot_41
  · have h := if_t c_5 h
    refine V_aload_n hG 0 rfl dX2_knot_12 ?_
    refine V_iconst hG 2 rfl dX2_knot_13 ?_
    obtain ⟨g_18, h⟩ := gd_of h
    refine V_narrow hEn (fun n1 n2 n3 => ?_)
    obtain ⟨r_21, M_20, hc_19, h⟩ := bd2_of h
    refine V_callV hE hG (ci := 1) (As := [.int 2]) (rest := []) (ok_f_X2_wrong hE hN hc_19) g_1 (by decide) rfl hw_X2_85 hdv_X2_wrong ⟨Nat.le_of_ble_eq_true rfl, Nat.le_of_ble_eq_true rfl⟩ rfl rfl (Nat.le_of_ble_eq_true rfl) ⟨by show _ + (LC - mN M) ≤ LC - mN M; omega, by show _ + (LZ - mZ M) ≤ LZ - mZ M; omega⟩ dX2_knot_14 ?_
    obtain ⟨g_22, h⟩ := gd_of h
    obtain ⟨g_23, h⟩ := gd_of h
    refine V_narrow hEn (fun n1 n2 n3 => ?_)
    cases h
    subst eQ
    exact T_athrow hG (ci := 16) g_22 (by decide) rfl rfl rfl ⟨by show _ ≤ LC - mN M; omega, by show _ ≤ LZ - mZ M; omega⟩ dX2_knot_17 hX

def f_X2_and_b1 (N : Nat) (rec : Nat → Nat → Mem → Option ((Nat × Mem) ⊕ (Nat × Mem))) (LC LZ : Nat) (M : Mem) (p0 : Nat) (x1_17 : Nat) (S_18 : Mem) : Option (((Nat × Mem) ⊕ ((Nat × Mem) ⊕ (Nat × Mem))) ⊕ (Nat × Mem)) :=
gd (mT S_18 p0 = 1) (
gd (mN S_18 ≤ LC ∧ mZ S_18 ≤ LZ) (
bd (f_X2_isWord p0 11 11 S_18) fun (r_31 : Int32) =>
if r_31 = 0 then (
some (.inl (.inl (x1_17, S_18))))
else (
gd (mN S_18 ≤ LC ∧ mZ S_18 ≤ LZ) (
bt (f_X2_knot N LC LZ p0 S_18) (fun (r_36 : Int32) (M_35 : Mem) =>
gd (mN M_35 + 1 ≤ LC ∧ mZ M_35 + 3 ≤ LZ) (
be (nw M_35 13 3) fun (M_44 : Mem) =>
gd (mT M_44 p0 = 1) (
gd (mN M_44 ≤ LC ∧ mZ M_44 ≤ LZ) (
bt (rec 2 p0 M_44) (fun (r_49 : Nat) (M_48 : Mem) =>
gd (mN M_48 ≤ LC ∧ mZ M_48 ≤ LZ) (
bd (f_X18_init (mN M_35) r_36 x1_17 r_49 M_48) fun (M_58 : Mem) =>
be (mN M_35) fun (x1_59 : Nat) =>
some (.inr (x1_59, M_58)))) (fun (q_54 : Nat) (M_55 : Mem) => some (Sum.inl (Sum.inr (Sum.inr (q_54, M_55))))))))) (fun (q_41 : Nat) (M_42 : Mem) => some (Sum.inl (Sum.inr (Sum.inr (q_41, M_42)))))))))
def f_X2_and (rec : Nat → Nat → Mem → Option ((Nat × Mem) ⊕ (Nat × Mem))) (N : Nat) (LC LZ : Nat) (p0 : Nat) (M : Mem) : Option ((Nat × Mem) ⊕ (Nat × Mem)) :=
gd (mT M p0 = 1) (
gd (mN M ≤ LC ∧ mZ M ≤ LZ) (
bt (rec 2 p0 M) (fun (r_5 : Nat) (M_4 : Mem) =>
bx2 (lp N (fun s_27 : Nat × Mem => f_X2_and_b1 N rec LC LZ M p0 s_27.1 s_27.2) (r_5, M_4)) (fun (x1_20 : Nat) (S_21 : Mem) =>
gd (mN S_21 ≤ LC ∧ mZ S_21 ≤ LZ) (
some (Sum.inl (x1_20, S_21)))) (fun (w_64 : (Nat × Mem) ⊕ (Nat × Mem)) => some w_64)) (fun (q_10 : Nat) (M_11 : Mem) => some (Sum.inr (q_10, M_11)))))
theorem ok_f_X2_and {E : En} (hE : EOk E) (hN : NOk E) {fr lo : Nat} (hfr : 10 ≤ fr) (hlo : 500 ≤ lo) {rec : Nat → Nat → Mem → Option ((Nat × Mem) ⊕ (Nat × Mem))} {N : Nat} {LC LZ : Nat} {p0 : Nat} (hrec : ExOk E rec fr lo LC LZ) {M : Mem} {res : (Nat × Mem) ⊕ (Nat × Mem)} (h : f_X2_and rec N LC LZ p0 M = some res) : RM E faF yX2_and cX2_and 3 (some (.object "TroughTreaty$Part")) (rmX (fr + 1) (lo + 40) LC LZ M) [rf E p0] M ((rsA E) res) := by
  unfold f_X2_and at h
  refine RM_introX (own := RX2) rfl (by decide) (Nat.le_of_ble_eq_true rfl) rfl (fun G hG hEn hI hX => ?_)
  obtain ⟨Q, eQ⟩ : ∃ Q, Q = QR E G faF ((rsA E) res) (LC - mN M) (LZ - mZ M) := ⟨_, rfl⟩
  show V E G M 0 0 3 0 [(0, rf E p0)] [] (QR E G faF ((rsA E) res) (LC - mN M) (LZ - mZ M))
  rw [← eQ]
  refine V_aload_n hG 0 rfl dX2_and_0 ?_
  obtain ⟨g_1, h⟩ := gd_of h
  obtain ⟨g_2, h⟩ := gd_of h
  refine V_narrow hEn (fun n1 n2 n3 => ?_)
  obtain ⟨rs_6, hc_3, hl_7, hr_8⟩ := bt_of h
  have ok_9 := hrec.2.2.1 _ _ _ hc_3
  rcases rs_6 with ⟨r_5, M_4⟩ | ⟨q_10, M_11⟩
  · have h := hl_7 r_5 M_4 rfl
    refine V_callV hE hG (ci := 1) (As := []) (rest := []) ok_9 g_1 (by decide) rfl hw_X2_230 hdv_X2_not ⟨Nat.le_refl _, by show 8 + (1 + 11) + lo ≤ lo + 40; omega⟩ rfl rfl (Nat.le_of_ble_eq_true rfl) ⟨by show _ + (LC - mN M) ≤ LC - mN M; omega, by show _ + (LZ - mZ M) ≤ LZ - mZ M; omega⟩ dX2_and_1 ?_
    refine V_astore_n hG rfl [(1, rf E r_5), (0, rf E p0)] dX2_and_4 (Nat.le_of_ble_eq_true rfl) rfl ?_
    obtain ⟨rr_23, hL_22, hl_24, hr_19⟩ := bx2_of h
    have J_16 : ∀ q_25 : Nat × Mem, Sum.inl q_25 = rr_23 → V E G q_25.2 (mN q_25.2 - mN M) (mZ q_25.2 - mZ M) 3 38 [(1, rf E q_25.1), (0, rf E p0)] [] Q := by
      intro q_25 e9
      obtain ⟨x1_20, S_21⟩ := q_25
      have h := hl_24 x1_20 S_21 e9.symm
      show V E G S_21 (mN S_21 - mN M) (mZ S_21 - mZ M) 3 38 [(1, rf E x1_20), (0, rf E p0)] [] Q
      refine V_aload_n hG 0 rfl dX2_and_38 ?_
      obtain ⟨g_26, h⟩ := gd_of h
      refine V_narrow hEn (fun n1 n2 n3 => V_widen (k := LC - mN M) (n := LZ - mZ M) (by omega) (by omega) ?_)
      cases h
      subst eQ
      exact V_aret hG (Or.inr ⟨_, rfl⟩) dX2_and_39
    refine V_narrow hEn (fun _ _ _ => ?_)
    refine lp_walk (W := fun s_27 : Nat × Mem => V E G s_27.2 (mN s_27.2 - mN M) (mZ s_27.2 - mZ M) 3 5 [(1, rf E s_27.1), (0, rf E p0)] [] Q) ?_ N (r_5, M_4) hL_22
    intro s_27 b_12 hb_13 hk_14 hx_15
    obtain ⟨x1_17, S_18⟩ := s_27
    have hb_13 : f_X2_and_b1 N rec LC LZ M p0 x1_17 S_18 = some b_12 := hb_13
    unfold f_X2_and_b1 at hb_13
    show V E G S_18 (mN S_18 - mN M) (mZ S_18 - mZ M) 3 5 [(1, rf E x1_17), (0, rf E p0)] [] Q
    refine V_aload_n hG 1 rfl dX2_and_5 ?_
    refine V_bipush hG 11 (by decide) dX2_and_6 ?_
    refine V_bipush hG 11 (by decide) dX2_and_8 ?_
    obtain ⟨g_28, hb_13⟩ := gd_of hb_13
    obtain ⟨g_29, hb_13⟩ := gd_of hb_13
    refine V_narrow hEn (fun n1 n2 n3 => ?_)
    obtain ⟨r_31, hc_30, hb_13⟩ := bd_of hb_13
    refine V_callV hE hG (ci := 1) (As := [.int 11, .int 11]) (rest := []) (ok_f_X2_isWord hE hN hc_30) g_28 (by decide) rfl hw_X2_132 hdv_X2_isWord ⟨by show 1 + 1 ≤ fr + 1; omega, by show 8 + (3 + 11) + 25 ≤ lo + 40; omega⟩ rfl rfl (Nat.le_of_ble_eq_true rfl) ⟨by show _ + 0 ≤ LC - mN M; omega, by show _ + 0 ≤ LZ - mZ M; omega⟩ dX2_and_10 ?_
    refine V_if_eq hG 38 dX2_and_13 (by decide) (fun c_32 => ?_) (fun c_32 => ?_)
    · have hb_13 := if_t c_32 hb_13
      cases hb_13
      exact V_narrow hEn (fun _ _ _ => J_16 _ (hx_15 _ rfl))
    · have hb_13 := if_f c_32 hb_13
      refine V_aload_n hG 1 rfl dX2_and_16 ?_
      obtain ⟨g_33, hb_13⟩ := gd_of hb_13
      refine V_narrow hEn (fun n1 n2 n3 => ?_)
      obtain ⟨rs_37, hc_34, hl_38, hr_39⟩ := bt_of hb_13
      have ok_40 := ok_f_X2_knot hE hN hc_34
      rcases rs_37 with ⟨r_36, M_35⟩ | ⟨q_41, M_42⟩
      · have hb_13 := hl_38 r_36 M_35 rfl
        refine V_callV hE hG (ci := 1) (As := []) (rest := []) ok_40 g_28 (by decide) rfl hw_X2_222 hdv_X2_knot ⟨by show 6 + 1 ≤ fr + 1; omega, by show 8 + (2 + 11) + 187 ≤ lo + 40; omega⟩ rfl rfl (Nat.le_of_ble_eq_true rfl) ⟨by show _ + (LC - mN S_18) ≤ LC - mN M; omega, by show _ + (LZ - mZ S_18) ≤ LZ - mZ M; omega⟩ dX2_and_17 ?_
        refine V_istore_n hG rfl [(2, .int r_36), (1, rf E x1_17), (0, rf E p0)] dX2_and_20 (Nat.le_of_ble_eq_true rfl) rfl ?_
        obtain ⟨g_43, hb_13⟩ := gd_of hb_13
        obtain ⟨M_44, eM_44, hb_13⟩ := be_of hb_13
        refine nw_X2_225 hG hEn rfl rfl eM_44 g_43 dX2_and_21 ?_
        refine V_dup hG rfl dX2_and_24 ?_
        refine V_iload_n hG 0 rfl dX2_and_25 ?_
        refine V_aload_n hG 1 rfl dX2_and_26 ?_
        refine V_aload_n hG 2 rfl dX2_and_27 ?_
        obtain ⟨g_45, hb_13⟩ := gd_of hb_13
        obtain ⟨g_46, hb_13⟩ := gd_of hb_13
        refine V_narrow hEn (fun n1 n2 n3 => ?_)
        obtain ⟨rs_50, hc_47, hl_51, hr_52⟩ := bt_of hb_13
        have ok_53 := hrec.2.2.1 _ _ _ hc_47
        rcases rs_50 with ⟨r_49, M_48⟩ | ⟨q_54, M_55⟩
        · have hb_13 := hl_51 r_49 M_48 rfl
          refine V_callV hE hG (ci := 1) (As := []) (rest := [rf E x1_17, .int r_36, rf E (mN M_35), rf E (mN M_35)]) ok_53 g_45 (by decide) rfl hw_X2_230 hdv_X2_not ⟨Nat.le_refl _, by show 8 + (1 + 11) + lo ≤ lo + 40; omega⟩ rfl rfl (Nat.le_of_ble_eq_true rfl) ⟨by show _ + (LC - mN M_44) ≤ LC - mN M; omega, by show _ + (LZ - mZ M_44) ≤ LZ - mZ M; omega⟩ dX2_and_28 ?_
          obtain ⟨g_56, hb_13⟩ := gd_of hb_13
          refine V_narrow hEn (fun n1 n2 n3 => ?_)
          obtain ⟨M_58, hc_57, hb_13⟩ := bd_of hb_13
          refine V_callI hE hG (rt := none) (As := [.int r_36, rf E x1_17, rf E r_49]) (rest := [rf E (mN M_35)]) (ok_f_X18_init hE hN hc_57) (lw_meth q975) q155 q973 q974 rfl hdc_X18_init ⟨by show 3 + 1 ≤ fr + 1; omega, by show 8 + (4 + 11) + 81 ≤ lo + 40; omega⟩ rfl rfl (Nat.le_of_ble_eq_true rfl) ⟨by show _ + 0 ≤ LC - mN M; omega, by show _ + 0 ≤ LZ - mZ M; omega⟩ dX2_and_31 ?_
          obtain ⟨x1_59, ex1_59, hb_13⟩ := be_of hb_13
          refine V_topa ex1_59 ?_
          refine V_astore_n hG rfl [(1, rf E x1_59), (2, .int r_36), (0, rf E p0)] dX2_and_34 (Nat.le_of_ble_eq_true rfl) rfl ?_
          refine V_goto hG 5 dX2_and_35 (by decide) ?_
          cases hb_13
          exact V_narrow hEn (fun _ _ _ => V_lv [0, 2] rfl (hk_14 _ rfl))
        · have hb_13 : some (Sum.inl (Sum.inr (Sum.inr (q_54, M_55)))) = some b_12 := hr_52 q_54 M_55 rfl
          cases hb_13
          have e_60 := hx_15 _ rfl
          have h_61 : some (Sum.inr (q_54, M_55)) = some res := hr_19 _ e_60.symm
          cases h_61
          subst eQ
          exact T_callV hE hG (ci := 1) (As := []) (rest := [rf E x1_17, .int r_36, rf E (mN M_35), rf E (mN M_35)]) ok_53 g_45 (by decide) rfl hw_X2_230 hdv_X2_not ⟨Nat.le_refl _, by show 8 + (1 + 11) + lo ≤ lo + 40; omega⟩ rfl rfl (Nat.le_of_ble_eq_true rfl) ⟨by show _ + (LC - mN M_44) ≤ LC - mN M; omega, by show _ + (LZ - mZ M_44) ≤ LZ - mZ M; omega⟩ dX2_and_28 hX
      · have hb_13 : some (Sum.inl (Sum.inr (Sum.inr (q_41, M_42)))) = some b_12 := hr_39 q_41 M_42 rfl
        cases hb_13
        have e_62 := hx_15 _ rfl
        have h_63 : some (Sum.inr (q_41, M_42)) = some res := hr_19 _ e_62.symm
        cases h_63
        subst eQ
        exact T_callV hE hG (ci := 1) (As := []) (rest := []) ok_40 g_28 (by decide) rfl hw_X2_222 hdv_X2_knot ⟨by show 6 + 1 ≤ fr + 1; omega, by show 8 + (2 + 11) + 187 ≤ lo + 40; omega⟩ rfl rfl (Nat.le_of_ble_eq_true rfl) ⟨by show _ + (LC - mN S_18) ≤ LC - mN M; omega, by show _ + (LZ - mZ S_18) ≤ LZ - mZ M; omega⟩ dX2_and_17 hX
  · have h : some (Sum.inr (q_10, M_11)) = some res := hr_8 q_10 M_11 rfl
    cases h
    subst eQ
    exact T_callV hE hG (ci := 1) (As := []) (rest := []) ok_9 g_1 (by decide) rfl hw_X2_230 hdv_X2_not ⟨Nat.le_refl _, by show 8 + (1 + 11) + lo ≤ lo + 40; omega⟩ rfl rfl (Nat.le_of_ble_eq_true rfl) ⟨by show _ + (LC - mN M) ≤ LC - mN M; omega, by show _ + (LZ - mZ M) ≤ LZ - mZ M; omega⟩ dX2_and_1 hX

def f_X2_isSign (p0 : Nat) (p1 : Int32) (M : Mem) : Option (Int32) :=
gd (mT M p0 = 1) (
bd (if mI M p0 3 = 3 then (
if mI M p0 4 = p1 then (
some 1)
else (
some 0))
else (
some 0) : Option (Int32)) fun (t_2 : Int32) =>
gd (t_2 = 0 ∨ t_2 = 1) (
some t_2))
def rm_f_X2_isSign : Room := { frames := 0, cells := 0, slots := 0, locals := 0 }
theorem ok_f_X2_isSign {E : En} (hE : EOk E) (hN : NOk E) {p0 : Nat} {p1 : Int32} {M : Mem} {r : Int32} (h : f_X2_isSign p0 p1 M = some r) : CM E yX2_isSign cX2_isSign 2 (some .boolean) rm_f_X2_isSign [rf E p0, .int p1] M (some (.int r)) M := by
  unfold f_X2_isSign at h
  refine CM_introX (own := RX2) rfl (by decide +kernel) (Nat.le_of_ble_eq_true rfl) rfl (fun G hG hEn hI => ?_)
  obtain ⟨Q, eQ⟩ : ∃ Q, Q = QM E G (some (.int r)) M 0 0 := ⟨_, rfl⟩
  show V E G M 0 0 2 0 [(0, rf E p0), (1, .int p1)] [] (QM E G (some (.int r)) M 0 0)
  rw [← eQ]
  refine V_aload_n hG 0 rfl dX2_isSign_0 ?_
  obtain ⟨g_1, h⟩ := gd_of h
  refine gf_X2_33 hN hG g_1 dX2_isSign_1 ?_
  refine V_iconst hG 3 rfl dX2_isSign_4 ?_
  obtain ⟨t_2, hj_4, h⟩ := bd_of h
  have J_3 : V E G M 0 0 2 21 [(0, rf E p0), (1, .int p1)] [.int t_2] Q := by
    obtain ⟨g_5, h⟩ := gd_of h
    cases h
    subst eQ
    exact V_zret hG g_5 dX2_isSign_21
  refine V_icmp_ne hG 20 dX2_isSign_5 (by decide) (fun c_6 => ?_) (fun c_6 => ?_)
  · have hj_4 := if_f c_6 hj_4
    refine V_iconst hG 0 rfl dX2_isSign_20 ?_
    cases hj_4
    exact J_3
  · have hj_4 := if_t c_6 hj_4
    refine V_aload_n hG 0 rfl dX2_isSign_8 ?_
    refine gf_X2_47 hN hG g_1 dX2_isSign_9 ?_
    refine V_iload_n hG 1 rfl dX2_isSign_12 ?_
    refine V_icmp_ne hG 20 dX2_isSign_13 (by decide) (fun c_7 => ?_) (fun c_7 => ?_)
    · have hj_4 := if_f c_7 hj_4
      refine V_iconst hG 0 rfl dX2_isSign_20 ?_
      cases hj_4
      exact J_3
    · have hj_4 := if_t c_7 hj_4
      refine V_iconst hG 1 rfl dX2_isSign_16 ?_
      refine V_goto hG 21 dX2_isSign_17 (by decide) ?_
      cases hj_4
      exact J_3

def f_X2_compare (rec : Nat → Nat → Mem → Option ((Nat × Mem) ⊕ (Nat × Mem))) (N : Nat) (LC LZ : Nat) (p0 : Nat) (M : Mem) : Option ((Nat × Mem) ⊕ (Nat × Mem)) :=
gd (mT M p0 = 1) (
gd (mN M ≤ LC ∧ mZ M ≤ LZ) (
bt (rec 4 p0 M) (fun (r_5 : Nat) (M_4 : Mem) =>
gd (mT M_4 p0 = 1) (
gd (mN M_4 ≤ LC ∧ mZ M_4 ≤ LZ) (
bd (f_X2_isSign p0 60 M_4) fun (r_15 : Int32) =>
if r_15 = 0 then (
gd (mN M_4 ≤ LC ∧ mZ M_4 ≤ LZ) (
bd (f_X2_isSign p0 62 M_4) fun (r_46 : Int32) =>
if r_46 = 0 then (
gd (mN M_4 ≤ LC ∧ mZ M_4 ≤ LZ) (
bd (f_X2_isSign p0 61 M_4) fun (r_77 : Int32) =>
if r_77 = 0 then (
if mI M_4 p0 3 = 3 then (
if 256 ≤ mI M_4 p0 4 then (
gd (mN M_4 ≤ LC ∧ mZ M_4 ≤ LZ) (
bt (f_X2_knot N LC LZ p0 M_4) (fun (r_112 : Int32) (M_111 : Mem) =>
gd (mN M_111 + 1 ≤ LC ∧ mZ M_111 + 3 ≤ LZ) (
be (nw M_111 13 3) fun (M_120 : Mem) =>
gd (mT M_120 p0 = 1) (
gd (mN M_120 ≤ LC ∧ mZ M_120 ≤ LZ) (
bt (rec 4 p0 M_120) (fun (r_125 : Nat) (M_124 : Mem) =>
gd (mN M_124 ≤ LC ∧ mZ M_124 ≤ LZ) (
bd (f_X18_init (mN M_111) r_112 r_5 r_125 M_124) fun (M_134 : Mem) =>
gd (mN M_134 ≤ LC ∧ mZ M_134 ≤ LZ) (
some (Sum.inl (mN M_111, M_134))))) (fun (q_130 : Nat) (M_131 : Mem) => some (Sum.inr (q_130, M_131))))))) (fun (q_117 : Nat) (M_118 : Mem) => some (Sum.inr (q_117, M_118)))))
else (
gd (mN M_4 ≤ LC ∧ mZ M_4 ≤ LZ) (
some (Sum.inl (r_5, M_4)))))
else (
gd (mN M_4 ≤ LC ∧ mZ M_4 ≤ LZ) (
some (Sum.inl (r_5, M_4)))))
else (
gd (mN M_4 ≤ LC ∧ mZ M_4 ≤ LZ) (
bt (f_X2_knot N LC LZ p0 M_4) (fun (r_82 : Int32) (M_81 : Mem) =>
gd (mN M_81 + 1 ≤ LC ∧ mZ M_81 + 3 ≤ LZ) (
be (nw M_81 13 3) fun (M_90 : Mem) =>
gd (mT M_90 p0 = 1) (
gd (mN M_90 ≤ LC ∧ mZ M_90 ≤ LZ) (
bt (rec 4 p0 M_90) (fun (r_95 : Nat) (M_94 : Mem) =>
gd (mN M_94 ≤ LC ∧ mZ M_94 ≤ LZ) (
bd (f_X18_init (mN M_81) r_82 r_5 r_95 M_94) fun (M_104 : Mem) =>
gd (mN M_104 ≤ LC ∧ mZ M_104 ≤ LZ) (
some (Sum.inl (mN M_81, M_104))))) (fun (q_100 : Nat) (M_101 : Mem) => some (Sum.inr (q_100, M_101))))))) (fun (q_87 : Nat) (M_88 : Mem) => some (Sum.inr (q_87, M_88)))))))
else (
gd (mN M_4 ≤ LC ∧ mZ M_4 ≤ LZ) (
bt (f_X2_knot N LC LZ p0 M_4) (fun (r_51 : Int32) (M_50 : Mem) =>
gd (mN M_50 + 1 ≤ LC ∧ mZ M_50 + 3 ≤ LZ) (
be (nw M_50 13 3) fun (M_59 : Mem) =>
gd (mT M_59 p0 = 1) (
gd (mN M_59 ≤ LC ∧ mZ M_59 ≤ LZ) (
bt (rec 4 p0 M_59) (fun (r_64 : Nat) (M_63 : Mem) =>
gd (mN M_63 ≤ LC ∧ mZ M_63 ≤ LZ) (
bd (f_X18_init (mN M_50) r_51 r_5 r_64 M_63) fun (M_73 : Mem) =>
gd (mN M_73 ≤ LC ∧ mZ M_73 ≤ LZ) (
some (Sum.inl (mN M_50, M_73))))) (fun (q_69 : Nat) (M_70 : Mem) => some (Sum.inr (q_69, M_70))))))) (fun (q_56 : Nat) (M_57 : Mem) => some (Sum.inr (q_56, M_57)))))))
else (
gd (mN M_4 ≤ LC ∧ mZ M_4 ≤ LZ) (
bt (f_X2_knot N LC LZ p0 M_4) (fun (r_20 : Int32) (M_19 : Mem) =>
gd (mN M_19 + 1 ≤ LC ∧ mZ M_19 + 3 ≤ LZ) (
be (nw M_19 13 3) fun (M_28 : Mem) =>
gd (mT M_28 p0 = 1) (
gd (mN M_28 ≤ LC ∧ mZ M_28 ≤ LZ) (
bt (rec 4 p0 M_28) (fun (r_33 : Nat) (M_32 : Mem) =>
gd (mN M_32 ≤ LC ∧ mZ M_32 ≤ LZ) (
bd (f_X18_init (mN M_19) r_20 r_5 r_33 M_32) fun (M_42 : Mem) =>
gd (mN M_42 ≤ LC ∧ mZ M_42 ≤ LZ) (
some (Sum.inl (mN M_19, M_42))))) (fun (q_38 : Nat) (M_39 : Mem) => some (Sum.inr (q_38, M_39))))))) (fun (q_25 : Nat) (M_26 : Mem) => some (Sum.inr (q_25, M_26)))))))) (fun (q_10 : Nat) (M_11 : Mem) => some (Sum.inr (q_10, M_11)))))
theorem ok_f_X2_compare {E : En} (hE : EOk E) (hN : NOk E) {fr lo : Nat} (hfr : 10 ≤ fr) (hlo : 500 ≤ lo) {rec : Nat → Nat → Mem → Option ((Nat × Mem) ⊕ (Nat × Mem))} {N : Nat} {LC LZ : Nat} {p0 : Nat} (hrec : ExOk E rec fr lo LC LZ) {M : Mem} {res : (Nat × Mem) ⊕ (Nat × Mem)} (h : f_X2_compare rec N LC LZ p0 M = some res) : RM E faF yX2_compare cX2_compare 3 (some (.object "TroughTreaty$Part")) (rmX (fr + 1) (lo + 40) LC LZ M) [rf E p0] M ((rsA E) res) := by
  unfold f_X2_compare at h
  refine RM_introX (own := RX2) rfl (by decide) (Nat.le_of_ble_eq_true rfl) rfl (fun G hG hEn hI hX => ?_)
  obtain ⟨Q, eQ⟩ : ∃ Q, Q = QR E G faF ((rsA E) res) (LC - mN M) (LZ - mZ M) := ⟨_, rfl⟩
  show V E G M 0 0 3 0 [(0, rf E p0)] [] (QR E G faF ((rsA E) res) (LC - mN M) (LZ - mZ M))
  rw [← eQ]
  refine V_aload_n hG 0 rfl dX2_compare_0 ?_
  obtain ⟨g_1, h⟩ := gd_of h
  obtain ⟨g_2, h⟩ := gd_of h
  refine V_narrow hEn (fun n1 n2 n3 => ?_)
  obtain ⟨rs_6, hc_3, hl_7, hr_8⟩ := bt_of h
  have ok_9 := hrec.2.2.2.2.1 _ _ _ hc_3
  rcases rs_6 with ⟨r_5, M_4⟩ | ⟨q_10, M_11⟩
  · have h := hl_7 r_5 M_4 rfl
    refine V_callV hE hG (ci := 1) (As := []) (rest := []) ok_9 g_1 (by decide) rfl hw_X2_241 hdv_X2_sum ⟨Nat.le_refl _, by show 8 + (3 + 11) + lo ≤ lo + 40; omega⟩ rfl rfl (Nat.le_of_ble_eq_true rfl) ⟨by show _ + (LC - mN M) ≤ LC - mN M; omega, by show _ + (LZ - mZ M) ≤ LZ - mZ M; omega⟩ dX2_compare_1 ?_
    refine V_astore_n hG rfl [(1, rf E r_5), (0, rf E p0)] dX2_compare_4 (Nat.le_of_ble_eq_true rfl) rfl ?_
    refine V_aload_n hG 1 rfl dX2_compare_5 ?_
    refine V_bipush hG 60 (by decide) dX2_compare_6 ?_
    obtain ⟨g_12, h⟩ := gd_of h
    obtain ⟨g_13, h⟩ := gd_of h
    refine V_narrow hEn (fun n1 n2 n3 => ?_)
    obtain ⟨r_15, hc_14, h⟩ := bd_of h
    refine V_callV hE hG (ci := 1) (As := [.int 60]) (rest := []) (ok_f_X2_isSign hE hN hc_14) g_12 (by decide) rfl hw_X2_181 hdv_X2_isSign ⟨by show 0 + 1 ≤ fr + 1; omega, by show 8 + (2 + 11) + 0 ≤ lo + 40; omega⟩ rfl rfl (Nat.le_of_ble_eq_true rfl) ⟨by show _ + 0 ≤ LC - mN M; omega, by show _ + 0 ≤ LZ - mZ M; omega⟩ dX2_compare_8 ?_
    refine V_if_ne hG 52 dX2_compare_11 (by decide) (fun c_16 => ?_) (fun c_16 => ?_)
    · have h := if_f c_16 h
      refine V_aload_n hG 1 rfl dX2_compare_52 ?_
      obtain ⟨g_17, h⟩ := gd_of h
      refine V_narrow hEn (fun n1 n2 n3 => ?_)
      obtain ⟨rs_21, hc_18, hl_22, hr_23⟩ := bt_of h
      have ok_24 := ok_f_X2_knot hE hN hc_18
      rcases rs_21 with ⟨r_20, M_19⟩ | ⟨q_25, M_26⟩
      · have h := hl_22 r_20 M_19 rfl
        refine V_callV hE hG (ci := 1) (As := []) (rest := []) ok_24 g_12 (by decide) rfl hw_X2_222 hdv_X2_knot ⟨by show 6 + 1 ≤ fr + 1; omega, by show 8 + (2 + 11) + 187 ≤ lo + 40; omega⟩ rfl rfl (Nat.le_of_ble_eq_true rfl) ⟨by show _ + (LC - mN M_4) ≤ LC - mN M; omega, by show _ + (LZ - mZ M_4) ≤ LZ - mZ M; omega⟩ dX2_compare_53 ?_
        refine V_istore_n hG rfl [(2, .int r_20), (1, rf E r_5), (0, rf E p0)] dX2_compare_56 (Nat.le_of_ble_eq_true rfl) rfl ?_
        obtain ⟨g_27, h⟩ := gd_of h
        obtain ⟨M_28, eM_28, h⟩ := be_of h
        refine nw_X2_225 hG hEn rfl rfl eM_28 g_27 dX2_compare_57 ?_
        refine V_dup hG rfl dX2_compare_60 ?_
        refine V_iload_n hG 0 rfl dX2_compare_61 ?_
        refine V_aload_n hG 1 rfl dX2_compare_62 ?_
        refine V_aload_n hG 2 rfl dX2_compare_63 ?_
        obtain ⟨g_29, h⟩ := gd_of h
        obtain ⟨g_30, h⟩ := gd_of h
        refine V_narrow hEn (fun n1 n2 n3 => ?_)
        obtain ⟨rs_34, hc_31, hl_35, hr_36⟩ := bt_of h
        have ok_37 := hrec.2.2.2.2.1 _ _ _ hc_31
        rcases rs_34 with ⟨r_33, M_32⟩ | ⟨q_38, M_39⟩
        · have h := hl_35 r_33 M_32 rfl
          refine V_callV hE hG (ci := 1) (As := []) (rest := [rf E r_5, .int r_20, rf E (mN M_19), rf E (mN M_19)]) ok_37 g_29 (by decide) rfl hw_X2_241 hdv_X2_sum ⟨Nat.le_refl _, by show 8 + (3 + 11) + lo ≤ lo + 40; omega⟩ rfl rfl (Nat.le_of_ble_eq_true rfl) ⟨by show _ + (LC - mN M_28) ≤ LC - mN M; omega, by show _ + (LZ - mZ M_28) ≤ LZ - mZ M; omega⟩ dX2_compare_64 ?_
          obtain ⟨g_40, h⟩ := gd_of h
          refine V_narrow hEn (fun n1 n2 n3 => ?_)
          obtain ⟨M_42, hc_41, h⟩ := bd_of h
          refine V_callI hE hG (rt := none) (As := [.int r_20, rf E r_5, rf E r_33]) (rest := [rf E (mN M_19)]) (ok_f_X18_init hE hN hc_41) (lw_meth q975) q155 q973 q974 rfl hdc_X18_init ⟨by show 3 + 1 ≤ fr + 1; omega, by show 8 + (4 + 11) + 81 ≤ lo + 40; omega⟩ rfl rfl (Nat.le_of_ble_eq_true rfl) ⟨by show _ + 0 ≤ LC - mN M; omega, by show _ + 0 ≤ LZ - mZ M; omega⟩ dX2_compare_67 ?_
          obtain ⟨g_43, h⟩ := gd_of h
          refine V_narrow hEn (fun n1 n2 n3 => V_widen (k := LC - mN M) (n := LZ - mZ M) (by omega) (by omega) ?_)
          cases h
          subst eQ
          exact V_aret hG (Or.inr ⟨_, rfl⟩) dX2_compare_70
        · have h : some (Sum.inr (q_38, M_39)) = some res := hr_36 q_38 M_39 rfl
          cases h
          subst eQ
          exact T_callV hE hG (ci := 1) (As := []) (rest := [rf E r_5, .int r_20, rf E (mN M_19), rf E (mN M_19)]) ok_37 g_29 (by decide) rfl hw_X2_241 hdv_X2_sum ⟨Nat.le_refl _, by show 8 + (3 + 11) + lo ≤ lo + 40; omega⟩ rfl rfl (Nat.le_of_ble_eq_true rfl) ⟨by show _ + (LC - mN M_28) ≤ LC - mN M; omega, by show _ + (LZ - mZ M_28) ≤ LZ - mZ M; omega⟩ dX2_compare_64 hX
      · have h : some (Sum.inr (q_25, M_26)) = some res := hr_23 q_25 M_26 rfl
        cases h
        subst eQ
        exact T_callV hE hG (ci := 1) (As := []) (rest := []) ok_24 g_12 (by decide) rfl hw_X2_222 hdv_X2_knot ⟨by show 6 + 1 ≤ fr + 1; omega, by show 8 + (2 + 11) + 187 ≤ lo + 40; omega⟩ rfl rfl (Nat.le_of_ble_eq_true rfl) ⟨by show _ + (LC - mN M_4) ≤ LC - mN M; omega, by show _ + (LZ - mZ M_4) ≤ LZ - mZ M; omega⟩ dX2_compare_53 hX
    · have h := if_t c_16 h
      refine V_aload_n hG 1 rfl dX2_compare_14 ?_
      refine V_bipush hG 62 (by decide) dX2_compare_15 ?_
      obtain ⟨g_44, h⟩ := gd_of h
      refine V_narrow hEn (fun n1 n2 n3 => ?_)
      obtain ⟨r_46, hc_45, h⟩ := bd_of h
      refine V_callV hE hG (ci := 1) (As := [.int 62]) (rest := []) (ok_f_X2_isSign hE hN hc_45) g_12 (by decide) rfl hw_X2_181 hdv_X2_isSign ⟨by show 0 + 1 ≤ fr + 1; omega, by show 8 + (2 + 11) + 0 ≤ lo + 40; omega⟩ rfl rfl (Nat.le_of_ble_eq_true rfl) ⟨by show _ + 0 ≤ LC - mN M; omega, by show _ + 0 ≤ LZ - mZ M; omega⟩ dX2_compare_17 ?_
      refine V_if_ne hG 52 dX2_compare_20 (by decide) (fun c_47 => ?_) (fun c_47 => ?_)
      · have h := if_f c_47 h
        refine V_aload_n hG 1 rfl dX2_compare_52 ?_
        obtain ⟨g_48, h⟩ := gd_of h
        refine V_narrow hEn (fun n1 n2 n3 => ?_)
        obtain ⟨rs_52, hc_49, hl_53, hr_54⟩ := bt_of h
        have ok_55 := ok_f_X2_knot hE hN hc_49
        rcases rs_52 with ⟨r_51, M_50⟩ | ⟨q_56, M_57⟩
        · have h := hl_53 r_51 M_50 rfl
          refine V_callV hE hG (ci := 1) (As := []) (rest := []) ok_55 g_12 (by decide) rfl hw_X2_222 hdv_X2_knot ⟨by show 6 + 1 ≤ fr + 1; omega, by show 8 + (2 + 11) + 187 ≤ lo + 40; omega⟩ rfl rfl (Nat.le_of_ble_eq_true rfl) ⟨by show _ + (LC - mN M_4) ≤ LC - mN M; omega, by show _ + (LZ - mZ M_4) ≤ LZ - mZ M; omega⟩ dX2_compare_53 ?_
          refine V_istore_n hG rfl [(2, .int r_51), (1, rf E r_5), (0, rf E p0)] dX2_compare_56 (Nat.le_of_ble_eq_true rfl) rfl ?_
          obtain ⟨g_58, h⟩ := gd_of h
          obtain ⟨M_59, eM_59, h⟩ := be_of h
          refine nw_X2_225 hG hEn rfl rfl eM_59 g_58 dX2_compare_57 ?_
          refine V_dup hG rfl dX2_compare_60 ?_
          refine V_iload_n hG 0 rfl dX2_compare_61 ?_
          refine V_aload_n hG 1 rfl dX2_compare_62 ?_
          refine V_aload_n hG 2 rfl dX2_compare_63 ?_
          obtain ⟨g_60, h⟩ := gd_of h
          obtain ⟨g_61, h⟩ := gd_of h
          refine V_narrow hEn (fun n1 n2 n3 => ?_)
          obtain ⟨rs_65, hc_62, hl_66, hr_67⟩ := bt_of h
          have ok_68 := hrec.2.2.2.2.1 _ _ _ hc_62
          rcases rs_65 with ⟨r_64, M_63⟩ | ⟨q_69, M_70⟩
          · have h := hl_66 r_64 M_63 rfl
            refine V_callV hE hG (ci := 1) (As := []) (rest := [rf E r_5, .int r_51, rf E (mN M_50), rf E (mN M_50)]) ok_68 g_60 (by decide) rfl hw_X2_241 hdv_X2_sum ⟨Nat.le_refl _, by show 8 + (3 + 11) + lo ≤ lo + 40; omega⟩ rfl rfl (Nat.le_of_ble_eq_true rfl) ⟨by show _ + (LC - mN M_59) ≤ LC - mN M; omega, by show _ + (LZ - mZ M_59) ≤ LZ - mZ M; omega⟩ dX2_compare_64 ?_
            obtain ⟨g_71, h⟩ := gd_of h
            refine V_narrow hEn (fun n1 n2 n3 => ?_)
            obtain ⟨M_73, hc_72, h⟩ := bd_of h
            refine V_callI hE hG (rt := none) (As := [.int r_51, rf E r_5, rf E r_64]) (rest := [rf E (mN M_50)]) (ok_f_X18_init hE hN hc_72) (lw_meth q975) q155 q973 q974 rfl hdc_X18_init ⟨by show 3 + 1 ≤ fr + 1; omega, by show 8 + (4 + 11) + 81 ≤ lo + 40; omega⟩ rfl rfl (Nat.le_of_ble_eq_true rfl) ⟨by show _ + 0 ≤ LC - mN M; omega, by show _ + 0 ≤ LZ - mZ M; omega⟩ dX2_compare_67 ?_
            obtain ⟨g_74, h⟩ := gd_of h
            refine V_narrow hEn (fun n1 n2 n3 => V_widen (k := LC - mN M) (n := LZ - mZ M) (by omega) (by omega) ?_)
            cases h
            subst eQ
            exact V_aret hG (Or.inr ⟨_, rfl⟩) dX2_compare_70
          · have h : some (Sum.inr (q_69, M_70)) = some res := hr_67 q_69 M_70 rfl
            cases h
            subst eQ
            exact T_callV hE hG (ci := 1) (As := []) (rest := [rf E r_5, .int r_51, rf E (mN M_50), rf E (mN M_50)]) ok_68 g_60 (by decide) rfl hw_X2_241 hdv_X2_sum ⟨Nat.le_refl _, by show 8 + (3 + 11) + lo ≤ lo + 40; omega⟩ rfl rfl (Nat.le_of_ble_eq_true rfl) ⟨by show _ + (LC - mN M_59) ≤ LC - mN M; omega, by show _ + (LZ - mZ M_59) ≤ LZ - mZ M; omega⟩ dX2_compare_64 hX
        · have h : some (Sum.inr (q_56, M_57)) = some res := hr_54 q_56 M_57 rfl
          cases h
          subst eQ
          exact T_callV hE hG (ci := 1) (As := []) (rest := []) ok_55 g_12 (by decide) rfl hw_X2_222 hdv_X2_knot ⟨by show 6 + 1 ≤ fr + 1; omega, by show 8 + (2 + 11) + 187 ≤ lo + 40; omega⟩ rfl rfl (Nat.le_of_ble_eq_true rfl) ⟨by show _ + (LC - mN M_4) ≤ LC - mN M; omega, by show _ + (LZ - mZ M_4) ≤ LZ - mZ M; omega⟩ dX2_compare_53 hX
      · have h := if_t c_47 h
        refine V_aload_n hG 1 rfl dX2_compare_23 ?_
        refine V_bipush hG 61 (by decide) dX2_compare_24 ?_
        obtain ⟨g_75, h⟩ := gd_of h
        refine V_narrow hEn (fun n1 n2 n3 => ?_)
        obtain ⟨r_77, hc_76, h⟩ := bd_of h
        refine V_callV hE hG (ci := 1) (As := [.int 61]) (rest := []) (ok_f_X2_isSign hE hN hc_76) g_12 (by decide) rfl hw_X2_181 hdv_X2_isSign ⟨by show 0 + 1 ≤ fr + 1; omega, by show 8 + (2 + 11) + 0 ≤ lo + 40; omega⟩ rfl rfl (Nat.le_of_ble_eq_true rfl) ⟨by show _ + 0 ≤ LC - mN M; omega, by show _ + 0 ≤ LZ - mZ M; omega⟩ dX2_compare_26 ?_
        refine V_if_ne hG 52 dX2_compare_29 (by decide) (fun c_78 => ?_) (fun c_78 => ?_)
        · have h := if_f c_78 h
          refine V_aload_n hG 1 rfl dX2_compare_52 ?_
          obtain ⟨g_79, h⟩ := gd_of h
          refine V_narrow hEn (fun n1 n2 n3 => ?_)
          obtain ⟨rs_83, hc_80, hl_84, hr_85⟩ := bt_of h
          have ok_86 := ok_f_X2_knot hE hN hc_80
          rcases rs_83 with ⟨r_82, M_81⟩ | ⟨q_87, M_88⟩
          · have h := hl_84 r_82 M_81 rfl
            refine V_callV hE hG (ci := 1) (As := []) (rest := []) ok_86 g_12 (by decide) rfl hw_X2_222 hdv_X2_knot ⟨by show 6 + 1 ≤ fr + 1; omega, by show 8 + (2 + 11) + 187 ≤ lo + 40; omega⟩ rfl rfl (Nat.le_of_ble_eq_true rfl) ⟨by show _ + (LC - mN M_4) ≤ LC - mN M; omega, by show _ + (LZ - mZ M_4) ≤ LZ - mZ M; omega⟩ dX2_compare_53 ?_
            refine V_istore_n hG rfl [(2, .int r_82), (1, rf E r_5), (0, rf E p0)] dX2_compare_56 (Nat.le_of_ble_eq_true rfl) rfl ?_
            obtain ⟨g_89, h⟩ := gd_of h
            obtain ⟨M_90, eM_90, h⟩ := be_of h
            refine nw_X2_225 hG hEn rfl rfl eM_90 g_89 dX2_compare_57 ?_
            refine V_dup hG rfl dX2_compare_60 ?_
            refine V_iload_n hG 0 rfl dX2_compare_61 ?_
            refine V_aload_n hG 1 rfl dX2_compare_62 ?_
            refine V_aload_n hG 2 rfl dX2_compare_63 ?_
            obtain ⟨g_91, h⟩ := gd_of h
            obtain ⟨g_92, h⟩ := gd_of h
            refine V_narrow hEn (fun n1 n2 n3 => ?_)
            obtain ⟨rs_96, hc_93, hl_97, hr_98⟩ := bt_of h
            have ok_99 := hrec.2.2.2.2.1 _ _ _ hc_93
            rcases rs_96 with ⟨r_95, M_94⟩ | ⟨q_100, M_101⟩
            · have h := hl_97 r_95 M_94 rfl
              refine V_callV hE hG (ci := 1) (As := []) (rest := [rf E r_5, .int r_82, rf E (mN M_81), rf E (mN M_81)]) ok_99 g_91 (by decide) rfl hw_X2_241 hdv_X2_sum ⟨Nat.le_refl _, by show 8 + (3 + 11) + lo ≤ lo + 40; omega⟩ rfl rfl (Nat.le_of_ble_eq_true rfl) ⟨by show _ + (LC - mN M_90) ≤ LC - mN M; omega, by show _ + (LZ - mZ M_90) ≤ LZ - mZ M; omega⟩ dX2_compare_64 ?_
              obtain ⟨g_102, h⟩ := gd_of h
              refine V_narrow hEn (fun n1 n2 n3 => ?_)
              obtain ⟨M_104, hc_103, h⟩ := bd_of h
              refine V_callI hE hG (rt := none) (As := [.int r_82, rf E r_5, rf E r_95]) (rest := [rf E (mN M_81)]) (ok_f_X18_init hE hN hc_103) (lw_meth q975) q155 q973 q974 rfl hdc_X18_init ⟨by show 3 + 1 ≤ fr + 1; omega, by show 8 + (4 + 11) + 81 ≤ lo + 40; omega⟩ rfl rfl (Nat.le_of_ble_eq_true rfl) ⟨by show _ + 0 ≤ LC - mN M; omega, by show _ + 0 ≤ LZ - mZ M; omega⟩ dX2_compare_67 ?_
              obtain ⟨g_105, h⟩ := gd_of h
              refine V_narrow hEn (fun n1 n2 n3 => V_widen (k := LC - mN M) (n := LZ - mZ M) (by omega) (by omega) ?_)
              cases h
              subst eQ
              exact V_aret hG (Or.inr ⟨_, rfl⟩) dX2_compare_70
            · have h : some (Sum.inr (q_100, M_101)) = some res := hr_98 q_100 M_101 rfl
              cases h
              subst eQ
              exact T_callV hE hG (ci := 1) (As := []) (rest := [rf E r_5, .int r_82, rf E (mN M_81), rf E (mN M_81)]) ok_99 g_91 (by decide) rfl hw_X2_241 hdv_X2_sum ⟨Nat.le_refl _, by show 8 + (3 + 11) + lo ≤ lo + 40; omega⟩ rfl rfl (Nat.le_of_ble_eq_true rfl) ⟨by show _ + (LC - mN M_90) ≤ LC - mN M; omega, by show _ + (LZ - mZ M_90) ≤ LZ - mZ M; omega⟩ dX2_compare_64 hX
          · have h : some (Sum.inr (q_87, M_88)) = some res := hr_85 q_87 M_88 rfl
            cases h
            subst eQ
            exact T_callV hE hG (ci := 1) (As := []) (rest := []) ok_86 g_12 (by decide) rfl hw_X2_222 hdv_X2_knot ⟨by show 6 + 1 ≤ fr + 1; omega, by show 8 + (2 + 11) + 187 ≤ lo + 40; omega⟩ rfl rfl (Nat.le_of_ble_eq_true rfl) ⟨by show _ + (LC - mN M_4) ≤ LC - mN M; omega, by show _ + (LZ - mZ M_4) ≤ LZ - mZ M; omega⟩ dX2_compare_53 hX
        · have h := if_t c_78 h
          refine V_aload_n hG 1 rfl dX2_compare_32 ?_
          refine gf_X2_33 hN hG g_12 dX2_compare_33 ?_
          refine V_iconst hG 3 rfl dX2_compare_36 ?_
          refine V_icmp_ne hG 50 dX2_compare_37 (by decide) (fun c_106 => ?_) (fun c_106 => ?_)
          · have h := if_f c_106 h
            refine V_aload_n hG 0 rfl dX2_compare_50 ?_
            obtain ⟨g_107, h⟩ := gd_of h
            refine V_narrow hEn (fun n1 n2 n3 => V_widen (k := LC - mN M) (n := LZ - mZ M) (by omega) (by omega) ?_)
            cases h
            subst eQ
            exact V_aret hG (Or.inr ⟨_, rfl⟩) dX2_compare_51
          · have h := if_t c_106 h
            refine V_aload_n hG 1 rfl dX2_compare_40 ?_
            refine gf_X2_47 hN hG g_12 dX2_compare_41 ?_
            refine V_sipush hG 256 (by decide) dX2_compare_44 ?_
            refine V_icmp_ge hG 52 dX2_compare_47 (by decide) (fun c_108 => ?_) (fun c_108 => ?_)
            · have h := if_t c_108 h
              refine V_aload_n hG 1 rfl dX2_compare_52 ?_
              obtain ⟨g_109, h⟩ := gd_of h
              refine V_narrow hEn (fun n1 n2 n3 => ?_)
              obtain ⟨rs_113, hc_110, hl_114, hr_115⟩ := bt_of h
              have ok_116 := ok_f_X2_knot hE hN hc_110
              rcases rs_113 with ⟨r_112, M_111⟩ | ⟨q_117, M_118⟩
              · have h := hl_114 r_112 M_111 rfl
                refine V_callV hE hG (ci := 1) (As := []) (rest := []) ok_116 g_12 (by decide) rfl hw_X2_222 hdv_X2_knot ⟨by show 6 + 1 ≤ fr + 1; omega, by show 8 + (2 + 11) + 187 ≤ lo + 40; omega⟩ rfl rfl (Nat.le_of_ble_eq_true rfl) ⟨by show _ + (LC - mN M_4) ≤ LC - mN M; omega, by show _ + (LZ - mZ M_4) ≤ LZ - mZ M; omega⟩ dX2_compare_53 ?_
                refine V_istore_n hG rfl [(2, .int r_112), (1, rf E r_5), (0, rf E p0)] dX2_compare_56 (Nat.le_of_ble_eq_true rfl) rfl ?_
                obtain ⟨g_119, h⟩ := gd_of h
                obtain ⟨M_120, eM_120, h⟩ := be_of h
                refine nw_X2_225 hG hEn rfl rfl eM_120 g_119 dX2_compare_57 ?_
                refine V_dup hG rfl dX2_compare_60 ?_
                refine V_iload_n hG 0 rfl dX2_compare_61 ?_
                refine V_aload_n hG 1 rfl dX2_compare_62 ?_
                refine V_aload_n hG 2 rfl dX2_compare_63 ?_
                obtain ⟨g_121, h⟩ := gd_of h
                obtain ⟨g_122, h⟩ := gd_of h
                refine V_narrow hEn (fun n1 n2 n3 => ?_)
                obtain ⟨rs_126, hc_123, hl_127, hr_128⟩ := bt_of h
                have ok_129 := hrec.2.2.2.2.1 _ _ _ hc_123
                rcases rs_126 with ⟨r_125, M_124⟩ | ⟨q_130, M_131⟩
                · have h := hl_127 r_125 M_124 rfl
                  refine V_callV hE hG (ci := 1) (As := []) (rest := [rf E r_5, .int r_112, rf E (mN M_111), rf E (mN M_111)]) ok_129 g_121 (by decide) rfl hw_X2_241 hdv_X2_sum ⟨Nat.le_refl _, by show 8 + (3 + 11) + lo ≤ lo + 40; omega⟩ rfl rfl (Nat.le_of_ble_eq_true rfl) ⟨by show _ + (LC - mN M_120) ≤ LC - mN M; omega, by show _ + (LZ - mZ M_120) ≤ LZ - mZ M; omega⟩ dX2_compare_64 ?_
                  obtain ⟨g_132, h⟩ := gd_of h
                  refine V_narrow hEn (fun n1 n2 n3 => ?_)
                  obtain ⟨M_134, hc_133, h⟩ := bd_of h
                  refine V_callI hE hG (rt := none) (As := [.int r_112, rf E r_5, rf E r_125]) (rest := [rf E (mN M_111)]) (ok_f_X18_init hE hN hc_133) (lw_meth q975) q155 q973 q974 rfl hdc_X18_init ⟨by show 3 + 1 ≤ fr + 1; omega, by show 8 + (4 + 11) + 81 ≤ lo + 40; omega⟩ rfl rfl (Nat.le_of_ble_eq_true rfl) ⟨by show _ + 0 ≤ LC - mN M; omega, by show _ + 0 ≤ LZ - mZ M; omega⟩ dX2_compare_67 ?_
                  obtain ⟨g_135, h⟩ := gd_of h
                  refine V_narrow hEn (fun n1 n2 n3 => V_widen (k := LC - mN M) (n := LZ - mZ M) (by omega) (by omega) ?_)
                  cases h
                  subst eQ
                  exact V_aret hG (Or.inr ⟨_, rfl⟩) dX2_compare_70
                · have h : some (Sum.inr (q_130, M_131)) = some res := hr_128 q_130 M_131 rfl
                  cases h
                  subst eQ
                  exact T_callV hE hG (ci := 1) (As := []) (rest := [rf E r_5, .int r_112, rf E (mN M_111), rf E (mN M_111)]) ok_129 g_121 (by decide) rfl hw_X2_241 hdv_X2_sum ⟨Nat.le_refl _, by show 8 + (3 + 11) + lo ≤ lo + 40; omega⟩ rfl rfl (Nat.le_of_ble_eq_true rfl) ⟨by show _ + (LC - mN M_120) ≤ LC - mN M; omega, by show _ + (LZ - mZ M_120) ≤ LZ - mZ M; omega⟩ dX2_compare_64 hX
              · have h : some (Sum.inr (q_117, M_118)) = some res := hr_115 q_117 M_118 rfl
                cases h
                subst eQ
                exact T_callV hE hG (ci := 1) (As := []) (rest := []) ok_116 g_12 (by decide) rfl hw_X2_222 hdv_X2_knot ⟨by show 6 + 1 ≤ fr + 1; omega, by show 8 + (2 + 11) + 187 ≤ lo + 40; omega⟩ rfl rfl (Nat.le_of_ble_eq_true rfl) ⟨by show _ + (LC - mN M_4) ≤ LC - mN M; omega, by show _ + (LZ - mZ M_4) ≤ LZ - mZ M; omega⟩ dX2_compare_53 hX
            · have h := if_f c_108 h
              refine V_aload_n hG 0 rfl dX2_compare_50 ?_
              obtain ⟨g_136, h⟩ := gd_of h
              refine V_narrow hEn (fun n1 n2 n3 => V_widen (k := LC - mN M) (n := LZ - mZ M) (by omega) (by omega) ?_)
              cases h
              subst eQ
              exact V_aret hG (Or.inr ⟨_, rfl⟩) dX2_compare_51
  · have h : some (Sum.inr (q_10, M_11)) = some res := hr_8 q_10 M_11 rfl
    cases h
    subst eQ
    exact T_callV hE hG (ci := 1) (As := []) (rest := []) ok_9 g_1 (by decide) rfl hw_X2_241 hdv_X2_sum ⟨Nat.le_refl _, by show 8 + (3 + 11) + lo ≤ lo + 40; omega⟩ rfl rfl (Nat.le_of_ble_eq_true rfl) ⟨by show _ + (LC - mN M) ≤ LC - mN M; omega, by show _ + (LZ - mZ M) ≤ LZ - mZ M; omega⟩ dX2_compare_1 hX

def f_X2_fresh (N : Nat) (LC LZ : Nat) (p0 : Nat) (p1 : Nat) (M : Mem) : Option ((Int32 × Mem) ⊕ (Nat × Mem)) :=
gd (mT M p0 = 1) (
if mI M p0 3 = 1 then (
gd (mN M ≤ LC ∧ mZ M ≤ LZ) (
bd (f_X9_find N p1 (mI M p0 4) M) fun (r_5 : Int32) =>
if r_5 = (-1) then (
be (mI M p0 4) fun (x2_7 : Int32) =>
gd (mN M ≤ LC ∧ mZ M ≤ LZ) (
bd (f_X2_next N p0 M) fun (M_10 : Mem) =>
gd (mN M_10 ≤ LC ∧ mZ M_10 ≤ LZ) (
some (Sum.inl (x2_7, M_10)))))
else (
gd (mN M ≤ LC ∧ mZ M ≤ LZ) (
bd2 (f_X2_wrong LC LZ p0 3 M) fun (r_15 : Nat) (M_14 : Mem) =>
gd (mT M_14 r_15 = 16) (
gd (mN M_14 ≤ LC ∧ mZ M_14 ≤ LZ) (
some (Sum.inr (r_15, M_14))))))))
else (
gd (mN M ≤ LC ∧ mZ M ≤ LZ) (
bd2 (f_X2_wrong LC LZ p0 1 M) fun (r_21 : Nat) (M_20 : Mem) =>
gd (mT M_20 r_21 = 16) (
gd (mN M_20 ≤ LC ∧ mZ M_20 ≤ LZ) (
some (Sum.inr (r_21, M_20)))))))
def rm_f_X2_fresh (LC LZ : Nat) (M : Mem) : Room := { frames := 6, cells := LC - mN M, slots := LZ - mZ M, locals := 187 }
theorem ok_f_X2_fresh {E : En} (hE : EOk E) (hN : NOk E) {N : Nat} {LC LZ : Nat} {p0 : Nat} {p1 : Nat} {M : Mem} {res : (Int32 × Mem) ⊕ (Nat × Mem)} (h : f_X2_fresh N LC LZ p0 p1 M = some res) : RM E faF yX2_fresh cX2_fresh 3 (some .int) (rm_f_X2_fresh LC LZ M) [rf E p0, rf E p1] M (rsI res) := by
  unfold f_X2_fresh at h
  refine RM_introX (own := RX2) rfl (by decide) (Nat.le_of_ble_eq_true rfl) rfl (fun G hG hEn hI hX => ?_)
  obtain ⟨Q, eQ⟩ : ∃ Q, Q = QR E G faF (rsI res) (LC - mN M) (LZ - mZ M) := ⟨_, rfl⟩
  show V E G M 0 0 3 0 [(0, rf E p0), (1, rf E p1)] [] (QR E G faF (rsI res) (LC - mN M) (LZ - mZ M))
  rw [← eQ]
  refine V_aload_n hG 0 rfl dX2_fresh_0 ?_
  obtain ⟨g_1, h⟩ := gd_of h
  refine gf_X2_33 hN hG g_1 dX2_fresh_1 ?_
  refine V_iconst hG 1 rfl dX2_fresh_4 ?_
  refine V_icmp_eq hG 14 dX2_fresh_5 (by decide) (fun c_2 => ?_) (fun c_2 => ?_)
  · have h := if_t c_2 h
    refine V_aload_n hG 1 rfl dX2_fresh_14 ?_
    refine V_aload_n hG 0 rfl dX2_fresh_15 ?_
    refine gf_X2_47 hN hG g_1 dX2_fresh_16 ?_
    obtain ⟨g_3, h⟩ := gd_of h
    refine V_narrow hEn (fun n1 n2 n3 => ?_)
    obtain ⟨r_5, hc_4, h⟩ := bd_of h
    refine V_callS hE hG (As := [rf E p1, .int (mI M p0 4)]) (rest := []) (ok_f_X9_find hE hN hc_4) hw_X2_96 hdc_X9_find ⟨Nat.le_of_ble_eq_true rfl, Nat.le_of_ble_eq_true rfl⟩ rfl rfl (Nat.le_of_ble_eq_true rfl) ⟨by show _ + 0 ≤ LC - mN M; omega, by show _ + 0 ≤ LZ - mZ M; omega⟩ dX2_fresh_19 ?_
    refine V_iconst hG (-1) rfl dX2_fresh_22 ?_
    refine V_icmp_eq hG 32 dX2_fresh_23 (by decide) (fun c_6 => ?_) (fun c_6 => ?_)
    · have h := if_t c_6 h
      refine V_aload_n hG 0 rfl dX2_fresh_32 ?_
      refine gf_X2_47 hN hG g_1 dX2_fresh_33 ?_
      obtain ⟨x2_7, ex2_7, h⟩ := be_of h
      refine V_topi ex2_7 ?_
      refine V_istore_n hG rfl [(2, .int x2_7), (0, rf E p0), (1, rf E p1)] dX2_fresh_36 (Nat.le_of_ble_eq_true rfl) rfl ?_
      refine V_aload_n hG 1 rfl dX2_fresh_37 ?_
      obtain ⟨g_8, h⟩ := gd_of h
      refine V_narrow hEn (fun n1 n2 n3 => ?_)
      obtain ⟨M_10, hc_9, h⟩ := bd_of h
      refine V_callV hE hG (ci := 1) (As := []) (rest := []) (ok_f_X2_next hE hN hc_9) g_1 (by decide) rfl hw_X2_93 hdv_X2_next ⟨Nat.le_of_ble_eq_true rfl, Nat.le_of_ble_eq_true rfl⟩ rfl rfl (Nat.le_of_ble_eq_true rfl) ⟨by show _ + 0 ≤ LC - mN M; omega, by show _ + 0 ≤ LZ - mZ M; omega⟩ dX2_fresh_38 ?_
      refine V_iload_n hG 0 rfl dX2_fresh_41 ?_
      obtain ⟨g_11, h⟩ := gd_of h
      refine V_narrow hEn (fun n1 n2 n3 => V_widen (k := LC - mN M) (n := LZ - mZ M) (by omega) (by omega) ?_)
      cases h
      subst eQ
      exact V_iret hG dX2_fresh_42
    · have h := if_f c_6 h
      refine V_aload_n hG 0 rfl dX2_fresh_26 ?_
      refine V_iconst hG 3 rfl dX2_fresh_27 ?_
      obtain ⟨g_12, h⟩ := gd_of h
      refine V_narrow hEn (fun n1 n2 n3 => ?_)
      obtain ⟨r_15, M_14, hc_13, h⟩ := bd2_of h
      refine V_callV hE hG (ci := 1) (As := [.int 3]) (rest := []) (ok_f_X2_wrong hE hN hc_13) g_1 (by decide) rfl hw_X2_85 hdv_X2_wrong ⟨Nat.le_of_ble_eq_true rfl, Nat.le_of_ble_eq_true rfl⟩ rfl rfl (Nat.le_of_ble_eq_true rfl) ⟨by show _ + (LC - mN M) ≤ LC - mN M; omega, by show _ + (LZ - mZ M) ≤ LZ - mZ M; omega⟩ dX2_fresh_28 ?_
      obtain ⟨g_16, h⟩ := gd_of h
      obtain ⟨g_17, h⟩ := gd_of h
      refine V_narrow hEn (fun n1 n2 n3 => ?_)
      cases h
      subst eQ
      exact T_athrow hG (ci := 16) g_16 (by decide) rfl rfl rfl ⟨by show _ ≤ LC - mN M; omega, by show _ ≤ LZ - mZ M; omega⟩ dX2_fresh_31 hX
  · have h := if_f c_2 h
    refine V_aload_n hG 0 rfl dX2_fresh_8 ?_
    refine V_iconst hG 1 rfl dX2_fresh_9 ?_
    obtain ⟨g_18, h⟩ := gd_of h
    refine V_narrow hEn (fun n1 n2 n3 => ?_)
    obtain ⟨r_21, M_20, hc_19, h⟩ := bd2_of h
    refine V_callV hE hG (ci := 1) (As := [.int 1]) (rest := []) (ok_f_X2_wrong hE hN hc_19) g_1 (by decide) rfl hw_X2_85 hdv_X2_wrong ⟨Nat.le_of_ble_eq_true rfl, Nat.le_of_ble_eq_true rfl⟩ rfl rfl (Nat.le_of_ble_eq_true rfl) ⟨by show _ + (LC - mN M) ≤ LC - mN M; omega, by show _ + (LZ - mZ M) ≤ LZ - mZ M; omega⟩ dX2_fresh_10 ?_
    obtain ⟨g_22, h⟩ := gd_of h
    obtain ⟨g_23, h⟩ := gd_of h
    refine V_narrow hEn (fun n1 n2 n3 => ?_)
    cases h
    subst eQ
    exact T_athrow hG (ci := 16) g_22 (by decide) rfl rfl rfl ⟨by show _ ≤ LC - mN M; omega, by show _ ≤ LZ - mZ M; omega⟩ dX2_fresh_13 hX

def f_X2_numberAtHand (LC LZ : Nat) (p0 : Nat) (p1 : Int32) (p2 : Int32) (M : Mem) : Option ((Int32 × Mem) ⊕ (Nat × Mem)) :=
gd (mT M p0 = 1) (
if mI M p0 3 = 2 then (
gd (mN M ≤ LC ∧ mZ M ≤ LZ) (
bd (f_X1_in (Int32.toInt64 (mI M p0 4)) (Int32.toInt64 p1) (Int32.toInt64 p2) M) fun (r_5 : Int32) =>
if r_5 = 0 then (
gd (mN M ≤ LC ∧ mZ M ≤ LZ) (
bd2 (f_X2_wrong LC LZ p0 2 M) fun (r_11 : Nat) (M_10 : Mem) =>
gd (mT M_10 r_11 = 16) (
gd (mN M_10 ≤ LC ∧ mZ M_10 ≤ LZ) (
some (Sum.inr (r_11, M_10))))))
else (
gd (mN M ≤ LC ∧ mZ M ≤ LZ) (
some (Sum.inl (mI M p0 4, M))))))
else (
gd (mN M ≤ LC ∧ mZ M ≤ LZ) (
bd2 (f_X2_wrong LC LZ p0 1 M) fun (r_17 : Nat) (M_16 : Mem) =>
gd (mT M_16 r_17 = 16) (
gd (mN M_16 ≤ LC ∧ mZ M_16 ≤ LZ) (
some (Sum.inr (r_17, M_16)))))))
def rm_f_X2_numberAtHand (LC LZ : Nat) (M : Mem) : Room := { frames := 6, cells := LC - mN M, slots := LZ - mZ M, locals := 187 }
theorem ok_f_X2_numberAtHand {E : En} (hE : EOk E) (hN : NOk E) {LC LZ : Nat} {p0 : Nat} {p1 : Int32} {p2 : Int32} {M : Mem} {res : (Int32 × Mem) ⊕ (Nat × Mem)} (h : f_X2_numberAtHand LC LZ p0 p1 p2 M = some res) : RM E faF yX2_numberAtHand cX2_numberAtHand 3 (some .int) (rm_f_X2_numberAtHand LC LZ M) [rf E p0, .int p1, .int p2] M (rsI res) := by
  unfold f_X2_numberAtHand at h
  refine RM_introX (own := RX2) rfl (by decide) (Nat.le_of_ble_eq_true rfl) rfl (fun G hG hEn hI hX => ?_)
  obtain ⟨Q, eQ⟩ : ∃ Q, Q = QR E G faF (rsI res) (LC - mN M) (LZ - mZ M) := ⟨_, rfl⟩
  show V E G M 0 0 3 0 [(0, rf E p0), (1, .int p1), (2, .int p2)] [] (QR E G faF (rsI res) (LC - mN M) (LZ - mZ M))
  rw [← eQ]
  refine V_aload_n hG 0 rfl dX2_numberAtHand_0 ?_
  obtain ⟨g_1, h⟩ := gd_of h
  refine gf_X2_33 hN hG g_1 dX2_numberAtHand_1 ?_
  refine V_iconst hG 2 rfl dX2_numberAtHand_4 ?_
  refine V_icmp_eq hG 14 dX2_numberAtHand_5 (by decide) (fun c_2 => ?_) (fun c_2 => ?_)
  · have h := if_t c_2 h
    refine V_aload_n hG 0 rfl dX2_numberAtHand_14 ?_
    refine gf_X2_47 hN hG g_1 dX2_numberAtHand_15 ?_
    refine V_i2l hG dX2_numberAtHand_18 ?_
    refine V_iload_n hG 1 rfl dX2_numberAtHand_19 ?_
    refine V_i2l hG dX2_numberAtHand_20 ?_
    refine V_iload_n hG 2 rfl dX2_numberAtHand_21 ?_
    refine V_i2l hG dX2_numberAtHand_22 ?_
    obtain ⟨g_3, h⟩ := gd_of h
    refine V_narrow hEn (fun n1 n2 n3 => ?_)
    obtain ⟨r_5, hc_4, h⟩ := bd_of h
    refine W_callSN hE hG hN (As := [.long (Int32.toInt64 (mI M p0 4)), .long (Int32.toInt64 p1), .long (Int32.toInt64 p2)]) (rest := []) (ok_f_X1_in hE hN hc_4) q523 (lw_meth q506) q123 q505 hdc_X1_in ⟨Nat.le_of_ble_eq_true rfl, Nat.le_of_ble_eq_true rfl⟩ rfl rfl (Nat.le_of_ble_eq_true rfl) ⟨by show _ + 0 ≤ LC - mN M; omega, by show _ + 0 ≤ LZ - mZ M; omega⟩ dX2_numberAtHand_23 ?_
    refine V_if_ne hG 35 dX2_numberAtHand_26 (by decide) (fun c_6 => ?_) (fun c_6 => ?_)
    · have h := if_f c_6 h
      refine V_aload_n hG 0 rfl dX2_numberAtHand_35 ?_
      refine gf_X2_47 hN hG g_1 dX2_numberAtHand_36 ?_
      obtain ⟨g_7, h⟩ := gd_of h
      refine V_narrow hEn (fun n1 n2 n3 => V_widen (k := LC - mN M) (n := LZ - mZ M) (by omega) (by omega) ?_)
      cases h
      subst eQ
      exact V_iret hG dX2_numberAtHand_39
    · have h := if_t c_6 h
      refine V_aload_n hG 0 rfl dX2_numberAtHand_29 ?_
      refine V_iconst hG 2 rfl dX2_numberAtHand_30 ?_
      obtain ⟨g_8, h⟩ := gd_of h
      refine V_narrow hEn (fun n1 n2 n3 => ?_)
      obtain ⟨r_11, M_10, hc_9, h⟩ := bd2_of h
      refine V_callV hE hG (ci := 1) (As := [.int 2]) (rest := []) (ok_f_X2_wrong hE hN hc_9) g_1 (by decide) rfl hw_X2_85 hdv_X2_wrong ⟨Nat.le_of_ble_eq_true rfl, Nat.le_of_ble_eq_true rfl⟩ rfl rfl (Nat.le_of_ble_eq_true rfl) ⟨by show _ + (LC - mN M) ≤ LC - mN M; omega, by show _ + (LZ - mZ M) ≤ LZ - mZ M; omega⟩ dX2_numberAtHand_31 ?_
      obtain ⟨g_12, h⟩ := gd_of h
      obtain ⟨g_13, h⟩ := gd_of h
      refine V_narrow hEn (fun n1 n2 n3 => ?_)
      cases h
      subst eQ
      exact T_athrow hG (ci := 16) g_12 (by decide) rfl rfl rfl ⟨by show _ ≤ LC - mN M; omega, by show _ ≤ LZ - mZ M; omega⟩ dX2_numberAtHand_34 hX
  · have h := if_f c_2 h
    refine V_aload_n hG 0 rfl dX2_numberAtHand_8 ?_
    refine V_iconst hG 1 rfl dX2_numberAtHand_9 ?_
    obtain ⟨g_14, h⟩ := gd_of h
    refine V_narrow hEn (fun n1 n2 n3 => ?_)
    obtain ⟨r_17, M_16, hc_15, h⟩ := bd2_of h
    refine V_callV hE hG (ci := 1) (As := [.int 1]) (rest := []) (ok_f_X2_wrong hE hN hc_15) g_1 (by decide) rfl hw_X2_85 hdv_X2_wrong ⟨Nat.le_of_ble_eq_true rfl, Nat.le_of_ble_eq_true rfl⟩ rfl rfl (Nat.le_of_ble_eq_true rfl) ⟨by show _ + (LC - mN M) ≤ LC - mN M; omega, by show _ + (LZ - mZ M) ≤ LZ - mZ M; omega⟩ dX2_numberAtHand_10 ?_
    obtain ⟨g_18, h⟩ := gd_of h
    obtain ⟨g_19, h⟩ := gd_of h
    refine V_narrow hEn (fun n1 n2 n3 => ?_)
    cases h
    subst eQ
    exact T_athrow hG (ci := 16) g_18 (by decide) rfl rfl rfl ⟨by show _ ≤ LC - mN M; omega, by show _ ≤ LZ - mZ M; omega⟩ dX2_numberAtHand_13 hX

def f_X2_number (N : Nat) (LC LZ : Nat) (p0 : Nat) (p1 : Int32) (p2 : Int32) (M : Mem) : Option ((Int32 × Mem) ⊕ (Nat × Mem)) :=
gd (mT M p0 = 1) (
gd (mN M ≤ LC ∧ mZ M ≤ LZ) (
bt (f_X2_numberAtHand LC LZ p0 p1 p2 M) (fun (r_5 : Int32) (M_4 : Mem) =>
gd (mT M_4 p0 = 1) (
gd (mN M_4 ≤ LC ∧ mZ M_4 ≤ LZ) (
bd (f_X2_next N p0 M_4) fun (M_15 : Mem) =>
gd (mN M_15 ≤ LC ∧ mZ M_15 ≤ LZ) (
some (Sum.inl (r_5, M_15)))))) (fun (q_10 : Nat) (M_11 : Mem) => some (Sum.inr (q_10, M_11)))))
def rm_f_X2_number (LC LZ : Nat) (M : Mem) : Room := { frames := 7, cells := LC - mN M, slots := LZ - mZ M, locals := 209 }
theorem ok_f_X2_number {E : En} (hE : EOk E) (hN : NOk E) {N : Nat} {LC LZ : Nat} {p0 : Nat} {p1 : Int32} {p2 : Int32} {M : Mem} {res : (Int32 × Mem) ⊕ (Nat × Mem)} (h : f_X2_number N LC LZ p0 p1 p2 M = some res) : RM E faF yX2_number cX2_number 4 (some .int) (rm_f_X2_number LC LZ M) [rf E p0, .int p1, .int p2] M (rsI res) := by
  unfold f_X2_number at h
  refine RM_introX (own := RX2) rfl (by decide) (Nat.le_of_ble_eq_true rfl) rfl (fun G hG hEn hI hX => ?_)
  obtain ⟨Q, eQ⟩ : ∃ Q, Q = QR E G faF (rsI res) (LC - mN M) (LZ - mZ M) := ⟨_, rfl⟩
  show V E G M 0 0 4 0 [(0, rf E p0), (1, .int p1), (2, .int p2)] [] (QR E G faF (rsI res) (LC - mN M) (LZ - mZ M))
  rw [← eQ]
  refine V_aload_n hG 0 rfl dX2_number_0 ?_
  refine V_iload_n hG 1 rfl dX2_number_1 ?_
  refine V_iload_n hG 2 rfl dX2_number_2 ?_
  obtain ⟨g_1, h⟩ := gd_of h
  obtain ⟨g_2, h⟩ := gd_of h
  refine V_narrow hEn (fun n1 n2 n3 => ?_)
  obtain ⟨rs_6, hc_3, hl_7, hr_8⟩ := bt_of h
  have ok_9 := ok_f_X2_numberAtHand hE hN hc_3
  rcases rs_6 with ⟨r_5, M_4⟩ | ⟨q_10, M_11⟩
  · have h := hl_7 r_5 M_4 rfl
    refine V_callV hE hG (ci := 1) (As := [.int p1, .int p2]) (rest := []) ok_9 g_1 (by decide) rfl hw_X2_89 hdv_X2_numberAtHand ⟨Nat.le_of_ble_eq_true rfl, Nat.le_of_ble_eq_true rfl⟩ rfl rfl (Nat.le_of_ble_eq_true rfl) ⟨by show _ + (LC - mN M) ≤ LC - mN M; omega, by show _ + (LZ - mZ M) ≤ LZ - mZ M; omega⟩ dX2_number_3 ?_
    refine V_istore_n hG rfl [(3, .int r_5), (0, rf E p0), (1, .int p1), (2, .int p2)] dX2_number_6 (Nat.le_of_ble_eq_true rfl) rfl ?_
    refine V_aload_n hG 1 rfl dX2_number_7 ?_
    obtain ⟨g_12, h⟩ := gd_of h
    obtain ⟨g_13, h⟩ := gd_of h
    refine V_narrow hEn (fun n1 n2 n3 => ?_)
    obtain ⟨M_15, hc_14, h⟩ := bd_of h
    refine V_callV hE hG (ci := 1) (As := []) (rest := []) (ok_f_X2_next hE hN hc_14) g_12 (by decide) rfl hw_X2_93 hdv_X2_next ⟨Nat.le_of_ble_eq_true rfl, Nat.le_of_ble_eq_true rfl⟩ rfl rfl (Nat.le_of_ble_eq_true rfl) ⟨by show _ + 0 ≤ LC - mN M; omega, by show _ + 0 ≤ LZ - mZ M; omega⟩ dX2_number_8 ?_
    refine V_iload_n hG 0 rfl dX2_number_11 ?_
    obtain ⟨g_16, h⟩ := gd_of h
    refine V_narrow hEn (fun n1 n2 n3 => V_widen (k := LC - mN M) (n := LZ - mZ M) (by omega) (by omega) ?_)
    cases h
    subst eQ
    exact V_iret hG dX2_number_12
  · have h : some (Sum.inr (q_10, M_11)) = some res := hr_8 q_10 M_11 rfl
    cases h
    subst eQ
    exact T_callV hE hG (ci := 1) (As := [.int p1, .int p2]) (rest := []) ok_9 g_1 (by decide) rfl hw_X2_89 hdv_X2_numberAtHand ⟨Nat.le_of_ble_eq_true rfl, Nat.le_of_ble_eq_true rfl⟩ rfl rfl (Nat.le_of_ble_eq_true rfl) ⟨by show _ + (LC - mN M) ≤ LC - mN M; omega, by show _ + (LZ - mZ M) ≤ LZ - mZ M; omega⟩ dX2_number_3 hX

def f_X2_horse (N : Nat) (LC LZ : Nat) (p0 : Nat) (M : Mem) : Option ((Mem) ⊕ (Nat × Mem)) :=
gd (mN M + 1 ≤ LC ∧ mZ M + 5 ≤ LZ) (
be (nw M 8 5) fun (M_2 : Mem) =>
gd (mT M_2 p0 = 1) (
bd (mR M_2 p0 7) fun (a_4 : Nat) =>
gd (mT M_2 a_4 = 2) (
bd (mR M_2 a_4 1) fun (a_7 : Nat) =>
gd (mN M_2 ≤ LC ∧ mZ M_2 ≤ LZ) (
bt (f_X2_fresh N LC LZ p0 a_7 M_2) (fun (r_12 : Int32) (M_11 : Mem) =>
gd (mN M_11 ≤ LC ∧ mZ M_11 ≤ LZ) (
bd (f_X12_init (mN M) r_12 M_11) fun (M_21 : Mem) =>
be (mN M) fun (x1_22 : Nat) =>
gd (mT M_21 p0 = 1) (
gd (mN M_21 ≤ LC ∧ mZ M_21 ≤ LZ) (
bt (f_X2_number N LC LZ p0 0 3 M_21) (fun (r_27 : Int32) (M_26 : Mem) =>
gd (mT M_26 x1_22 = 8) (
be (sI M_26 x1_22 2 r_27) fun (M_35 : Mem) =>
gd (mT M_35 p0 = 1) (
bd (mR M_35 p0 7) fun (a_38 : Nat) =>
gd (mT M_35 a_38 = 2) (
gd (mN M_35 ≤ LC ∧ mZ M_35 ≤ LZ) (
bt (f_X2_number N LC LZ p0 0 (mI M_35 a_38 4) M_35) (fun (r_44 : Int32) (M_43 : Mem) =>
gd (mT M_43 x1_22 = 8) (
be (sI M_43 x1_22 0 r_44) fun (M_52 : Mem) =>
gd (mT M_52 p0 = 1) (
gd (mN M_52 ≤ LC ∧ mZ M_52 ≤ LZ) (
bt (f_X2_number N LC LZ p0 0 99 M_52) (fun (r_58 : Int32) (M_57 : Mem) =>
gd (mT M_57 x1_22 = 8) (
be (sI M_57 x1_22 3 r_58) fun (M_66 : Mem) =>
gd (mT M_66 p0 = 1) (
gd (mN M_66 ≤ LC ∧ mZ M_66 ≤ LZ) (
bt (f_X2_number N LC LZ p0 1 9 M_66) (fun (r_72 : Int32) (M_71 : Mem) =>
gd (mT M_71 x1_22 = 8) (
be (sI M_71 x1_22 4 r_72) fun (M_80 : Mem) =>
gd (mT M_80 p0 = 1) (
bd (mR M_80 p0 7) fun (a_83 : Nat) =>
gd (mT M_80 a_83 = 2) (
bd (mR M_80 a_83 1) fun (a_86 : Nat) =>
gd (mT M_80 a_86 = 3) (
gd (mN M_80 ≤ LC ∧ mZ M_80 ≤ LZ) (
bd2 (f_J2_add a_86 x1_22 M_80) fun (r_92 : Int32) (M_91 : Mem) =>
gd (mN M_91 ≤ LC ∧ mZ M_91 ≤ LZ) (
some (Sum.inl M_91)))))))) (fun (q_77 : Nat) (M_78 : Mem) => some (Sum.inr (q_77, M_78))))))) (fun (q_63 : Nat) (M_64 : Mem) => some (Sum.inr (q_63, M_64))))))) (fun (q_49 : Nat) (M_50 : Mem) => some (Sum.inr (q_49, M_50)))))))) (fun (q_32 : Nat) (M_33 : Mem) => some (Sum.inr (q_32, M_33))))))) (fun (q_17 : Nat) (M_18 : Mem) => some (Sum.inr (q_17, M_18)))))))
def rm_f_X2_horse (LC LZ : Nat) (M : Mem) : Room := { frames := 8, cells := LC - mN M, slots := LZ - mZ M, locals := 232 }
theorem ok_f_X2_horse {E : En} (hE : EOk E) (hN : NOk E) {N : Nat} {LC LZ : Nat} {p0 : Nat} {M : Mem} {res : (Mem) ⊕ (Nat × Mem)} (h : f_X2_horse N LC LZ p0 M = some res) : RM E faF yX2_horse cX2_horse 2 none (rm_f_X2_horse LC LZ M) [rf E p0] M (rsV res) := by
  unfold f_X2_horse at h
  refine RM_introX (own := RX2) rfl (by decide) (Nat.le_of_ble_eq_true rfl) rfl (fun G hG hEn hI hX => ?_)
  obtain ⟨Q, eQ⟩ : ∃ Q, Q = QR E G faF (rsV res) (LC - mN M) (LZ - mZ M) := ⟨_, rfl⟩
  show V E G M 0 0 2 0 [(0, rf E p0)] [] (QR E G faF (rsV res) (LC - mN M) (LZ - mZ M))
  rw [← eQ]
  obtain ⟨g_1, h⟩ := gd_of h
  obtain ⟨M_2, eM_2, h⟩ := be_of h
  refine nw_X2_203 hG hEn rfl rfl eM_2 g_1 dX2_horse_0 ?_
  refine V_dup hG rfl dX2_horse_3 ?_
  refine V_aload_n hG 0 rfl dX2_horse_4 ?_
  refine V_aload_n hG 0 rfl dX2_horse_5 ?_
  obtain ⟨g_3, h⟩ := gd_of h
  obtain ⟨a_4, hr_5, h⟩ := bd_of h
  refine gf_X2_111 hN hG g_3 hr_5 dX2_horse_6 ?_
  obtain ⟨g_6, h⟩ := gd_of h
  obtain ⟨a_7, hr_8, h⟩ := bd_of h
  refine gf_X2_126 hN hG g_6 hr_8 dX2_horse_9 ?_
  obtain ⟨g_9, h⟩ := gd_of h
  refine V_narrow hEn (fun n1 n2 n3 => ?_)
  obtain ⟨rs_13, hc_10, hl_14, hr_15⟩ := bt_of h
  have ok_16 := ok_f_X2_fresh hE hN hc_10
  rcases rs_13 with ⟨r_12, M_11⟩ | ⟨q_17, M_18⟩
  · have h := hl_14 r_12 M_11 rfl
    refine V_callV hE hG (ci := 1) (As := [rf E a_7]) (rest := [rf E (mN M), rf E (mN M)]) ok_16 g_3 (by decide) rfl hw_X2_186 hdv_X2_fresh ⟨Nat.le_of_ble_eq_true rfl, Nat.le_of_ble_eq_true rfl⟩ rfl rfl (Nat.le_of_ble_eq_true rfl) ⟨by show _ + (LC - mN M_2) ≤ LC - mN M; omega, by show _ + (LZ - mZ M_2) ≤ LZ - mZ M; omega⟩ dX2_horse_12 ?_
    obtain ⟨g_19, h⟩ := gd_of h
    refine V_narrow hEn (fun n1 n2 n3 => ?_)
    obtain ⟨M_21, hc_20, h⟩ := bd_of h
    refine V_callI hE hG (rt := none) (As := [.int r_12]) (rest := [rf E (mN M)]) (ok_f_X12_init hE hN hc_20) (lw_meth q870) q149 q868 q869 rfl hdc_X12_init ⟨Nat.le_of_ble_eq_true rfl, Nat.le_of_ble_eq_true rfl⟩ rfl rfl (Nat.le_of_ble_eq_true rfl) ⟨by show _ + 0 ≤ LC - mN M; omega, by show _ + 0 ≤ LZ - mZ M; omega⟩ dX2_horse_15 ?_
    obtain ⟨x1_22, ex1_22, h⟩ := be_of h
    refine V_topa ex1_22 ?_
    refine V_astore_n hG rfl [(1, rf E x1_22), (0, rf E p0)] dX2_horse_18 (Nat.le_of_ble_eq_true rfl) rfl ?_
    refine V_aload_n hG 0 rfl dX2_horse_19 ?_
    refine V_aload_n hG 1 rfl dX2_horse_20 ?_
    refine V_iconst hG 0 rfl dX2_horse_21 ?_
    refine V_iconst hG 3 rfl dX2_horse_22 ?_
    obtain ⟨g_23, h⟩ := gd_of h
    obtain ⟨g_24, h⟩ := gd_of h
    refine V_narrow hEn (fun n1 n2 n3 => ?_)
    obtain ⟨rs_28, hc_25, hl_29, hr_30⟩ := bt_of h
    have ok_31 := ok_f_X2_number hE hN hc_25
    rcases rs_28 with ⟨r_27, M_26⟩ | ⟨q_32, M_33⟩
    · have h := hl_29 r_27 M_26 rfl
      refine V_callV hE hG (ci := 1) (As := [.int 0, .int 3]) (rest := [rf E x1_22]) ok_31 g_23 (by decide) rfl hw_X2_143 hdv_X2_number ⟨Nat.le_of_ble_eq_true rfl, Nat.le_of_ble_eq_true rfl⟩ rfl rfl (Nat.le_of_ble_eq_true rfl) ⟨by show _ + (LC - mN M_21) ≤ LC - mN M; omega, by show _ + (LZ - mZ M_21) ≤ LZ - mZ M; omega⟩ dX2_horse_23 ?_
      obtain ⟨g_34, h⟩ := gd_of h
      obtain ⟨M_35, eM_35, h⟩ := be_of h
      refine pf_X2_206 hN hG g_34 eM_35 dX2_horse_26 ?_
      have g_36 : mT M_35 x1_22 = 8 := by rw [eM_35]; exact g_34
      refine V_aload_n hG 0 rfl dX2_horse_29 ?_
      refine V_aload_n hG 1 rfl dX2_horse_30 ?_
      refine V_iconst hG 0 rfl dX2_horse_31 ?_
      refine V_aload_n hG 1 rfl dX2_horse_32 ?_
      obtain ⟨g_37, h⟩ := gd_of h
      obtain ⟨a_38, hr_39, h⟩ := bd_of h
      refine gf_X2_111 hN hG g_37 hr_39 dX2_horse_33 ?_
      obtain ⟨g_40, h⟩ := gd_of h
      refine gf_X2_146 hN hG g_40 dX2_horse_36 ?_
      obtain ⟨g_41, h⟩ := gd_of h
      refine V_narrow hEn (fun n1 n2 n3 => ?_)
      obtain ⟨rs_45, hc_42, hl_46, hr_47⟩ := bt_of h
      have ok_48 := ok_f_X2_number hE hN hc_42
      rcases rs_45 with ⟨r_44, M_43⟩ | ⟨q_49, M_50⟩
      · have h := hl_46 r_44 M_43 rfl
        refine V_callV hE hG (ci := 1) (As := [.int 0, .int (mI M_35 a_38 4)]) (rest := [rf E x1_22]) ok_48 g_37 (by decide) rfl hw_X2_143 hdv_X2_number ⟨Nat.le_of_ble_eq_true rfl, Nat.le_of_ble_eq_true rfl⟩ rfl rfl (Nat.le_of_ble_eq_true rfl) ⟨by show _ + (LC - mN M_35) ≤ LC - mN M; omega, by show _ + (LZ - mZ M_35) ≤ LZ - mZ M; omega⟩ dX2_horse_39 ?_
        obtain ⟨g_51, h⟩ := gd_of h
        obtain ⟨M_52, eM_52, h⟩ := be_of h
        refine pf_X2_209 hN hG g_51 eM_52 dX2_horse_42 ?_
        have g_53 : mT M_52 x1_22 = 8 := by rw [eM_52]; exact g_51
        refine V_aload_n hG 0 rfl dX2_horse_45 ?_
        refine V_aload_n hG 1 rfl dX2_horse_46 ?_
        refine V_iconst hG 0 rfl dX2_horse_47 ?_
        refine V_bipush hG 99 (by decide) dX2_horse_48 ?_
        obtain ⟨g_54, h⟩ := gd_of h
        obtain ⟨g_55, h⟩ := gd_of h
        refine V_narrow hEn (fun n1 n2 n3 => ?_)
        obtain ⟨rs_59, hc_56, hl_60, hr_61⟩ := bt_of h
        have ok_62 := ok_f_X2_number hE hN hc_56
        rcases rs_59 with ⟨r_58, M_57⟩ | ⟨q_63, M_64⟩
        · have h := hl_60 r_58 M_57 rfl
          refine V_callV hE hG (ci := 1) (As := [.int 0, .int 99]) (rest := [rf E x1_22]) ok_62 g_54 (by decide) rfl hw_X2_143 hdv_X2_number ⟨Nat.le_of_ble_eq_true rfl, Nat.le_of_ble_eq_true rfl⟩ rfl rfl (Nat.le_of_ble_eq_true rfl) ⟨by show _ + (LC - mN M_52) ≤ LC - mN M; omega, by show _ + (LZ - mZ M_52) ≤ LZ - mZ M; omega⟩ dX2_horse_50 ?_
          obtain ⟨g_65, h⟩ := gd_of h
          obtain ⟨M_66, eM_66, h⟩ := be_of h
          refine pf_X2_210 hN hG g_65 eM_66 dX2_horse_53 ?_
          have g_67 : mT M_66 x1_22 = 8 := by rw [eM_66]; exact g_65
          refine V_aload_n hG 0 rfl dX2_horse_56 ?_
          refine V_aload_n hG 1 rfl dX2_horse_57 ?_
          refine V_iconst hG 1 rfl dX2_horse_58 ?_
          refine V_bipush hG 9 (by decide) dX2_horse_59 ?_
          obtain ⟨g_68, h⟩ := gd_of h
          obtain ⟨g_69, h⟩ := gd_of h
          refine V_narrow hEn (fun n1 n2 n3 => ?_)
          obtain ⟨rs_73, hc_70, hl_74, hr_75⟩ := bt_of h
          have ok_76 := ok_f_X2_number hE hN hc_70
          rcases rs_73 with ⟨r_72, M_71⟩ | ⟨q_77, M_78⟩
          · have h := hl_74 r_72 M_71 rfl
            refine V_callV hE hG (ci := 1) (As := [.int 1, .int 9]) (rest := [rf E x1_22]) ok_76 g_68 (by decide) rfl hw_X2_143 hdv_X2_number ⟨Nat.le_of_ble_eq_true rfl, Nat.le_of_ble_eq_true rfl⟩ rfl rfl (Nat.le_of_ble_eq_true rfl) ⟨by show _ + (LC - mN M_66) ≤ LC - mN M; omega, by show _ + (LZ - mZ M_66) ≤ LZ - mZ M; omega⟩ dX2_horse_61 ?_
            obtain ⟨g_79, h⟩ := gd_of h
            obtain ⟨M_80, eM_80, h⟩ := be_of h
            refine pf_X2_213 hN hG g_79 eM_80 dX2_horse_64 ?_
            have g_81 : mT M_80 x1_22 = 8 := by rw [eM_80]; exact g_79
            refine V_aload_n hG 1 rfl dX2_horse_67 ?_
            obtain ⟨g_82, h⟩ := gd_of h
            obtain ⟨a_83, hr_84, h⟩ := bd_of h
            refine gf_X2_111 hN hG g_82 hr_84 dX2_horse_68 ?_
            obtain ⟨g_85, h⟩ := gd_of h
            obtain ⟨a_86, hr_87, h⟩ := bd_of h
            refine gf_X2_126 hN hG g_85 hr_87 dX2_horse_71 ?_
            refine V_aload_n hG 0 rfl dX2_horse_74 ?_
            obtain ⟨g_88, h⟩ := gd_of h
            obtain ⟨g_89, h⟩ := gd_of h
            refine V_narrow hEn (fun n1 n2 n3 => ?_)
            obtain ⟨r_92, M_91, hc_90, h⟩ := bd2_of h
            refine V_callV hE hG (ci := 3) (As := [rf E x1_22]) (rest := []) (ok_f_J2_add hE hN hc_90) g_88 (by decide) rfl hw_X2_163 hdv_J2_add ⟨Nat.le_of_ble_eq_true rfl, Nat.le_of_ble_eq_true rfl⟩ rfl rfl (Nat.le_of_ble_eq_true rfl) ⟨by show _ + 0 ≤ LC - mN M; omega, by show _ + 0 ≤ LZ - mZ M; omega⟩ dX2_horse_75 ?_
            refine V_pop hG rfl dX2_horse_78 ?_
            obtain ⟨g_93, h⟩ := gd_of h
            refine V_narrow hEn (fun n1 n2 n3 => V_widen (k := LC - mN M) (n := LZ - mZ M) (by omega) (by omega) ?_)
            cases h
            subst eQ
            exact V_vret hG dX2_horse_79
          · have h : some (Sum.inr (q_77, M_78)) = some res := hr_75 q_77 M_78 rfl
            cases h
            subst eQ
            exact T_callV hE hG (ci := 1) (As := [.int 1, .int 9]) (rest := [rf E x1_22]) ok_76 g_68 (by decide) rfl hw_X2_143 hdv_X2_number ⟨Nat.le_of_ble_eq_true rfl, Nat.le_of_ble_eq_true rfl⟩ rfl rfl (Nat.le_of_ble_eq_true rfl) ⟨by show _ + (LC - mN M_66) ≤ LC - mN M; omega, by show _ + (LZ - mZ M_66) ≤ LZ - mZ M; omega⟩ dX2_horse_61 hX
        · have h : some (Sum.inr (q_63, M_64)) = some res := hr_61 q_63 M_64 rfl
          cases h
          subst eQ
          exact T_callV hE hG (ci := 1) (As := [.int 0, .int 99]) (rest := [rf E x1_22]) ok_62 g_54 (by decide) rfl hw_X2_143 hdv_X2_number ⟨Nat.le_of_ble_eq_true rfl, Nat.le_of_ble_eq_true rfl⟩ rfl rfl (Nat.le_of_ble_eq_true rfl) ⟨by show _ + (LC - mN M_52) ≤ LC - mN M; omega, by show _ + (LZ - mZ M_52) ≤ LZ - mZ M; omega⟩ dX2_horse_50 hX
      · have h : some (Sum.inr (q_49, M_50)) = some res := hr_47 q_49 M_50 rfl
        cases h
        subst eQ
        exact T_callV hE hG (ci := 1) (As := [.int 0, .int (mI M_35 a_38 4)]) (rest := [rf E x1_22]) ok_48 g_37 (by decide) rfl hw_X2_143 hdv_X2_number ⟨Nat.le_of_ble_eq_true rfl, Nat.le_of_ble_eq_true rfl⟩ rfl rfl (Nat.le_of_ble_eq_true rfl) ⟨by show _ + (LC - mN M_35) ≤ LC - mN M; omega, by show _ + (LZ - mZ M_35) ≤ LZ - mZ M; omega⟩ dX2_horse_39 hX
    · have h : some (Sum.inr (q_32, M_33)) = some res := hr_30 q_32 M_33 rfl
      cases h
      subst eQ
      exact T_callV hE hG (ci := 1) (As := [.int 0, .int 3]) (rest := [rf E x1_22]) ok_31 g_23 (by decide) rfl hw_X2_143 hdv_X2_number ⟨Nat.le_of_ble_eq_true rfl, Nat.le_of_ble_eq_true rfl⟩ rfl rfl (Nat.le_of_ble_eq_true rfl) ⟨by show _ + (LC - mN M_21) ≤ LC - mN M; omega, by show _ + (LZ - mZ M_21) ≤ LZ - mZ M; omega⟩ dX2_horse_23 hX
  · have h : some (Sum.inr (q_17, M_18)) = some res := hr_15 q_17 M_18 rfl
    cases h
    subst eQ
    exact T_callV hE hG (ci := 1) (As := [rf E a_7]) (rest := [rf E (mN M), rf E (mN M)]) ok_16 g_3 (by decide) rfl hw_X2_186 hdv_X2_fresh ⟨Nat.le_of_ble_eq_true rfl, Nat.le_of_ble_eq_true rfl⟩ rfl rfl (Nat.le_of_ble_eq_true rfl) ⟨by show _ + (LC - mN M_2) ≤ LC - mN M; omega, by show _ + (LZ - mZ M_2) ≤ LZ - mZ M; omega⟩ dX2_horse_12 hX

def f_X2_init (p0 : Nat) (p1 : Nat) (M : Mem) : Option (Mem) :=
gd (mT M p0 = 1) (
be (sR M p0 8 (some p1)) fun (M_2 : Mem) =>
some M_2)
def rm_f_X2_init : Room := { frames := 1, cells := 0, slots := 0, locals := 40 }
theorem ok_f_X2_init {E : En} (hE : EOk E) (hN : NOk E) {p0 : Nat} {p1 : Nat} {M : Mem}  {M' : Mem} (h : f_X2_init p0 p1 M = some M') : CM E yX2_init cX2_init 2 none rm_f_X2_init [rf E p0, rf E p1] M none M' := by
  unfold f_X2_init at h
  refine CM_introX (own := RX2) rfl (by decide +kernel) (Nat.le_of_ble_eq_true rfl) rfl (fun G hG hEn hI => ?_)
  obtain ⟨Q, eQ⟩ : ∃ Q, Q = QM E G none M' 0 0 := ⟨_, rfl⟩
  show V E G M 0 0 2 0 [(0, rf E p0), (1, rf E p1)] [] (QM E G none M' 0 0)
  rw [← eQ]
  refine V_aload_n hG 0 rfl dX2_init_0 ?_
  refine V_aload_n hG 1 rfl dX2_init_1 ?_
  obtain ⟨g_1, h⟩ := gd_of h
  obtain ⟨M_2, eM_2, h⟩ := be_of h
  refine pf_X2_3 hN hG (hI rfl) g_1 eM_2 dX2_init_2 ?_
  have g_3 : mT M_2 p0 = 1 := by rw [eM_2]; exact g_1
  refine V_aload_n hG 0 rfl dX2_init_5 ?_
  refine V_objInit hG q177 q_oi q_oc (Nat.le_of_ble_eq_true rfl) (Nat.le_of_ble_eq_true rfl) dX2_init_6 ?_
  cases h
  subst eQ
  exact V_vret hG dX2_init_9

def f_X2_isFull (p0 : Nat) (p1 : Int32) (M : Mem) : Option (Int32) :=
bd (if p1 = 1 then (
gd (mT M p0 = 1) (
bd (mR M p0 7) fun (a_39 : Nat) =>
gd (mT M a_39 = 2) (
bd (mR M a_39 0) fun (a_42 : Nat) =>
gd (mT M a_42 = 3) (
bd (f_J2_size a_42 M) fun (r_46 : Int32) =>
if r_46 = 6 then (
some 1)
else (
if p1 = 2 then (
bd (mR M p0 7) fun (a_59 : Nat) =>
gd (mT M a_59 = 2) (
bd (mR M a_59 1) fun (a_62 : Nat) =>
gd (mT M a_62 = 3) (
bd (f_J2_size a_62 M) fun (r_66 : Int32) =>
if r_66 = 6 then (
some 1)
else (
if p1 = 3 then (
bd (mR M p0 7) fun (a_69 : Nat) =>
gd (mT M a_69 = 2) (
bd (mR M a_69 2) fun (a_72 : Nat) =>
gd (mT M a_72 = 3) (
bd (f_J2_size a_72 M) fun (r_76 : Int32) =>
if r_76 = 12 then (
some 1)
else (
some 0))))
else (
some 0)))))
else (
if p1 = 3 then (
bd (mR M p0 7) fun (a_50 : Nat) =>
gd (mT M a_50 = 2) (
bd (mR M a_50 2) fun (a_53 : Nat) =>
gd (mT M a_53 = 3) (
bd (f_J2_size a_53 M) fun (r_57 : Int32) =>
if r_57 = 12 then (
some 1)
else (
some 0))))
else (
some 0)))))))
else (
if p1 = 2 then (
gd (mT M p0 = 1) (
bd (mR M p0 7) fun (a_19 : Nat) =>
gd (mT M a_19 = 2) (
bd (mR M a_19 1) fun (a_22 : Nat) =>
gd (mT M a_22 = 3) (
bd (f_J2_size a_22 M) fun (r_26 : Int32) =>
if r_26 = 6 then (
some 1)
else (
if p1 = 3 then (
bd (mR M p0 7) fun (a_29 : Nat) =>
gd (mT M a_29 = 2) (
bd (mR M a_29 2) fun (a_32 : Nat) =>
gd (mT M a_32 = 3) (
bd (f_J2_size a_32 M) fun (r_36 : Int32) =>
if r_36 = 12 then (
some 1)
else (
some 0))))
else (
some 0))))))
else (
if p1 = 3 then (
gd (mT M p0 = 1) (
bd (mR M p0 7) fun (a_9 : Nat) =>
gd (mT M a_9 = 2) (
bd (mR M a_9 2) fun (a_12 : Nat) =>
gd (mT M a_12 = 3) (
bd (f_J2_size a_12 M) fun (r_16 : Int32) =>
if r_16 = 12 then (
some 1)
else (
some 0)))))
else (
some 0))) : Option (Int32)) fun (t_1 : Int32) =>
gd (t_1 = 0 ∨ t_1 = 1) (
some t_1)
def rm_f_X2_isFull : Room := { frames := 1, cells := 0, slots := 0, locals := 20 }
theorem ok_f_X2_isFull {E : En} (hE : EOk E) (hN : NOk E) {p0 : Nat} {p1 : Int32} {M : Mem} {r : Int32} (h : f_X2_isFull p0 p1 M = some r) : CM E yX2_isFull cX2_isFull 2 (some .boolean) rm_f_X2_isFull [rf E p0, .int p1] M (some (.int r)) M := by
  unfold f_X2_isFull at h
  refine CM_introX (own := RX2) rfl (by decide +kernel) (Nat.le_of_ble_eq_true rfl) rfl (fun G hG hEn hI => ?_)
  obtain ⟨Q, eQ⟩ : ∃ Q, Q = QM E G (some (.int r)) M 0 0 := ⟨_, rfl⟩
  show V E G M 0 0 2 0 [(0, rf E p0), (1, .int p1)] [] (QM E G (some (.int r)) M 0 0)
  rw [← eQ]
  refine V_iload_n hG 1 rfl dX2_isFull_0 ?_
  refine V_iconst hG 1 rfl dX2_isFull_1 ?_
  obtain ⟨t_1, hj_3, h⟩ := bd_of h
  have J_2 : V E G M 0 0 2 65 [(0, rf E p0), (1, .int p1)] [.int t_1] Q := by
    obtain ⟨g_4, h⟩ := gd_of h
    cases h
    subst eQ
    exact V_zret hG g_4 dX2_isFull_65
  refine V_icmp_ne hG 20 dX2_isFull_2 (by decide) (fun c_5 => ?_) (fun c_5 => ?_)
  · have hj_3 := if_f c_5 hj_3
    refine V_iload_n hG 1 rfl dX2_isFull_20 ?_
    refine V_iconst hG 2 rfl dX2_isFull_21 ?_
    refine V_icmp_ne hG 40 dX2_isFull_22 (by decide) (fun c_6 => ?_) (fun c_6 => ?_)
    · have hj_3 := if_f c_6 hj_3
      refine V_iload_n hG 1 rfl dX2_isFull_40 ?_
      refine V_iconst hG 3 rfl dX2_isFull_41 ?_
      refine V_icmp_ne hG 64 dX2_isFull_42 (by decide) (fun c_7 => ?_) (fun c_7 => ?_)
      · have hj_3 := if_f c_7 hj_3
        refine V_iconst hG 0 rfl dX2_isFull_64 ?_
        cases hj_3
        exact J_2
      · have hj_3 := if_t c_7 hj_3
        refine V_aload_n hG 0 rfl dX2_isFull_45 ?_
        obtain ⟨g_8, hj_3⟩ := gd_of hj_3
        obtain ⟨a_9, hr_10, hj_3⟩ := bd_of hj_3
        refine gf_X2_111 hN hG g_8 hr_10 dX2_isFull_46 ?_
        obtain ⟨g_11, hj_3⟩ := gd_of hj_3
        obtain ⟨a_12, hr_13, hj_3⟩ := bd_of hj_3
        refine gf_X2_129 hN hG g_11 hr_13 dX2_isFull_49 ?_
        obtain ⟨g_14, hj_3⟩ := gd_of hj_3
        obtain ⟨r_16, hc_15, hj_3⟩ := bd_of hj_3
        refine V_callV hE hG (ci := 3) (As := []) (rest := []) (ok_f_J2_size hE hN hc_15) g_14 (by decide) rfl hw_X2_122 hdv_J2_size ⟨Nat.le_of_ble_eq_true rfl, Nat.le_of_ble_eq_true rfl⟩ rfl rfl (Nat.le_of_ble_eq_true rfl) ⟨Nat.le_of_ble_eq_true rfl, Nat.le_of_ble_eq_true rfl⟩ dX2_isFull_52 (V_zero rfl rfl ?_)
        refine V_bipush hG 12 (by decide) dX2_isFull_55 ?_
        refine V_icmp_ne hG 64 dX2_isFull_57 (by decide) (fun c_17 => ?_) (fun c_17 => ?_)
        · have hj_3 := if_f c_17 hj_3
          refine V_iconst hG 0 rfl dX2_isFull_64 ?_
          cases hj_3
          exact J_2
        · have hj_3 := if_t c_17 hj_3
          refine V_iconst hG 1 rfl dX2_isFull_60 ?_
          refine V_goto hG 65 dX2_isFull_61 (by decide) ?_
          cases hj_3
          exact J_2
    · have hj_3 := if_t c_6 hj_3
      refine V_aload_n hG 0 rfl dX2_isFull_25 ?_
      obtain ⟨g_18, hj_3⟩ := gd_of hj_3
      obtain ⟨a_19, hr_20, hj_3⟩ := bd_of hj_3
      refine gf_X2_111 hN hG g_18 hr_20 dX2_isFull_26 ?_
      obtain ⟨g_21, hj_3⟩ := gd_of hj_3
      obtain ⟨a_22, hr_23, hj_3⟩ := bd_of hj_3
      refine gf_X2_126 hN hG g_21 hr_23 dX2_isFull_29 ?_
      obtain ⟨g_24, hj_3⟩ := gd_of hj_3
      obtain ⟨r_26, hc_25, hj_3⟩ := bd_of hj_3
      refine V_callV hE hG (ci := 3) (As := []) (rest := []) (ok_f_J2_size hE hN hc_25) g_24 (by decide) rfl hw_X2_122 hdv_J2_size ⟨Nat.le_of_ble_eq_true rfl, Nat.le_of_ble_eq_true rfl⟩ rfl rfl (Nat.le_of_ble_eq_true rfl) ⟨Nat.le_of_ble_eq_true rfl, Nat.le_of_ble_eq_true rfl⟩ dX2_isFull_32 (V_zero rfl rfl ?_)
      refine V_bipush hG 6 (by decide) dX2_isFull_35 ?_
      refine V_icmp_eq hG 60 dX2_isFull_37 (by decide) (fun c_27 => ?_) (fun c_27 => ?_)
      · have hj_3 := if_t c_27 hj_3
        refine V_iconst hG 1 rfl dX2_isFull_60 ?_
        refine V_goto hG 65 dX2_isFull_61 (by decide) ?_
        cases hj_3
        exact J_2
      · have hj_3 := if_f c_27 hj_3
        refine V_iload_n hG 1 rfl dX2_isFull_40 ?_
        refine V_iconst hG 3 rfl dX2_isFull_41 ?_
        refine V_icmp_ne hG 64 dX2_isFull_42 (by decide) (fun c_28 => ?_) (fun c_28 => ?_)
        · have hj_3 := if_f c_28 hj_3
          refine V_iconst hG 0 rfl dX2_isFull_64 ?_
          cases hj_3
          exact J_2
        · have hj_3 := if_t c_28 hj_3
          refine V_aload_n hG 0 rfl dX2_isFull_45 ?_
          obtain ⟨a_29, hr_30, hj_3⟩ := bd_of hj_3
          refine gf_X2_111 hN hG g_18 hr_30 dX2_isFull_46 ?_
          obtain ⟨g_31, hj_3⟩ := gd_of hj_3
          obtain ⟨a_32, hr_33, hj_3⟩ := bd_of hj_3
          refine gf_X2_129 hN hG g_31 hr_33 dX2_isFull_49 ?_
          obtain ⟨g_34, hj_3⟩ := gd_of hj_3
          obtain ⟨r_36, hc_35, hj_3⟩ := bd_of hj_3
          refine V_callV hE hG (ci := 3) (As := []) (rest := []) (ok_f_J2_size hE hN hc_35) g_34 (by decide) rfl hw_X2_122 hdv_J2_size ⟨Nat.le_of_ble_eq_true rfl, Nat.le_of_ble_eq_true rfl⟩ rfl rfl (Nat.le_of_ble_eq_true rfl) ⟨Nat.le_of_ble_eq_true rfl, Nat.le_of_ble_eq_true rfl⟩ dX2_isFull_52 (V_zero rfl rfl ?_)
          refine V_bipush hG 12 (by decide) dX2_isFull_55 ?_
          refine V_icmp_ne hG 64 dX2_isFull_57 (by decide) (fun c_37 => ?_) (fun c_37 => ?_)
          · have hj_3 := if_f c_37 hj_3
            refine V_iconst hG 0 rfl dX2_isFull_64 ?_
            cases hj_3
            exact J_2
          · have hj_3 := if_t c_37 hj_3
            refine V_iconst hG 1 rfl dX2_isFull_60 ?_
            refine V_goto hG 65 dX2_isFull_61 (by decide) ?_
            cases hj_3
            exact J_2
  · have hj_3 := if_t c_5 hj_3
    refine V_aload_n hG 0 rfl dX2_isFull_5 ?_
    obtain ⟨g_38, hj_3⟩ := gd_of hj_3
    obtain ⟨a_39, hr_40, hj_3⟩ := bd_of hj_3
    refine gf_X2_111 hN hG g_38 hr_40 dX2_isFull_6 ?_
    obtain ⟨g_41, hj_3⟩ := gd_of hj_3
    obtain ⟨a_42, hr_43, hj_3⟩ := bd_of hj_3
    refine gf_X2_118 hN hG g_41 hr_43 dX2_isFull_9 ?_
    obtain ⟨g_44, hj_3⟩ := gd_of hj_3
    obtain ⟨r_46, hc_45, hj_3⟩ := bd_of hj_3
    refine V_callV hE hG (ci := 3) (As := []) (rest := []) (ok_f_J2_size hE hN hc_45) g_44 (by decide) rfl hw_X2_122 hdv_J2_size ⟨Nat.le_of_ble_eq_true rfl, Nat.le_of_ble_eq_true rfl⟩ rfl rfl (Nat.le_of_ble_eq_true rfl) ⟨Nat.le_of_ble_eq_true rfl, Nat.le_of_ble_eq_true rfl⟩ dX2_isFull_12 (V_zero rfl rfl ?_)
    refine V_bipush hG 6 (by decide) dX2_isFull_15 ?_
    refine V_icmp_eq hG 60 dX2_isFull_17 (by decide) (fun c_47 => ?_) (fun c_47 => ?_)
    · have hj_3 := if_t c_47 hj_3
      refine V_iconst hG 1 rfl dX2_isFull_60 ?_
      refine V_goto hG 65 dX2_isFull_61 (by decide) ?_
      cases hj_3
      exact J_2
    · have hj_3 := if_f c_47 hj_3
      refine V_iload_n hG 1 rfl dX2_isFull_20 ?_
      refine V_iconst hG 2 rfl dX2_isFull_21 ?_
      refine V_icmp_ne hG 40 dX2_isFull_22 (by decide) (fun c_48 => ?_) (fun c_48 => ?_)
      · have hj_3 := if_f c_48 hj_3
        refine V_iload_n hG 1 rfl dX2_isFull_40 ?_
        refine V_iconst hG 3 rfl dX2_isFull_41 ?_
        refine V_icmp_ne hG 64 dX2_isFull_42 (by decide) (fun c_49 => ?_) (fun c_49 => ?_)
        · have hj_3 := if_f c_49 hj_3
          refine V_iconst hG 0 rfl dX2_isFull_64 ?_
          cases hj_3
          exact J_2
        · have hj_3 := if_t c_49 hj_3
          refine V_aload_n hG 0 rfl dX2_isFull_45 ?_
          obtain ⟨a_50, hr_51, hj_3⟩ := bd_of hj_3
          refine gf_X2_111 hN hG g_38 hr_51 dX2_isFull_46 ?_
          obtain ⟨g_52, hj_3⟩ := gd_of hj_3
          obtain ⟨a_53, hr_54, hj_3⟩ := bd_of hj_3
          refine gf_X2_129 hN hG g_52 hr_54 dX2_isFull_49 ?_
          obtain ⟨g_55, hj_3⟩ := gd_of hj_3
          obtain ⟨r_57, hc_56, hj_3⟩ := bd_of hj_3
          refine V_callV hE hG (ci := 3) (As := []) (rest := []) (ok_f_J2_size hE hN hc_56) g_55 (by decide) rfl hw_X2_122 hdv_J2_size ⟨Nat.le_of_ble_eq_true rfl, Nat.le_of_ble_eq_true rfl⟩ rfl rfl (Nat.le_of_ble_eq_true rfl) ⟨Nat.le_of_ble_eq_true rfl, Nat.le_of_ble_eq_true rfl⟩ dX2_isFull_52 (V_zero rfl rfl ?_)
          refine V_bipush hG 12 (by decide) dX2_isFull_55 ?_
          refine V_icmp_ne hG 64 dX2_isFull_57 (by decide) (fun c_58 => ?_) (fun c_58 => ?_)
          · have hj_3 := if_f c_58 hj_3
            refine V_iconst hG 0 rfl dX2_isFull_64 ?_
            cases hj_3
            exact J_2
          · have hj_3 := if_t c_58 hj_3
            refine V_iconst hG 1 rfl dX2_isFull_60 ?_
            refine V_goto hG 65 dX2_isFull_61 (by decide) ?_
            cases hj_3
            exact J_2
      · have hj_3 := if_t c_48 hj_3
        refine V_aload_n hG 0 rfl dX2_isFull_25 ?_
        obtain ⟨a_59, hr_60, hj_3⟩ := bd_of hj_3
        refine gf_X2_111 hN hG g_38 hr_60 dX2_isFull_26 ?_
        obtain ⟨g_61, hj_3⟩ := gd_of hj_3
        obtain ⟨a_62, hr_63, hj_3⟩ := bd_of hj_3
        refine gf_X2_126 hN hG g_61 hr_63 dX2_isFull_29 ?_
        obtain ⟨g_64, hj_3⟩ := gd_of hj_3
        obtain ⟨r_66, hc_65, hj_3⟩ := bd_of hj_3
        refine V_callV hE hG (ci := 3) (As := []) (rest := []) (ok_f_J2_size hE hN hc_65) g_64 (by decide) rfl hw_X2_122 hdv_J2_size ⟨Nat.le_of_ble_eq_true rfl, Nat.le_of_ble_eq_true rfl⟩ rfl rfl (Nat.le_of_ble_eq_true rfl) ⟨Nat.le_of_ble_eq_true rfl, Nat.le_of_ble_eq_true rfl⟩ dX2_isFull_32 (V_zero rfl rfl ?_)
        refine V_bipush hG 6 (by decide) dX2_isFull_35 ?_
        refine V_icmp_eq hG 60 dX2_isFull_37 (by decide) (fun c_67 => ?_) (fun c_67 => ?_)
        · have hj_3 := if_t c_67 hj_3
          refine V_iconst hG 1 rfl dX2_isFull_60 ?_
          refine V_goto hG 65 dX2_isFull_61 (by decide) ?_
          cases hj_3
          exact J_2
        · have hj_3 := if_f c_67 hj_3
          refine V_iload_n hG 1 rfl dX2_isFull_40 ?_
          refine V_iconst hG 3 rfl dX2_isFull_41 ?_
          refine V_icmp_ne hG 64 dX2_isFull_42 (by decide) (fun c_68 => ?_) (fun c_68 => ?_)
          · have hj_3 := if_f c_68 hj_3
            refine V_iconst hG 0 rfl dX2_isFull_64 ?_
            cases hj_3
            exact J_2
          · have hj_3 := if_t c_68 hj_3
            refine V_aload_n hG 0 rfl dX2_isFull_45 ?_
            obtain ⟨a_69, hr_70, hj_3⟩ := bd_of hj_3
            refine gf_X2_111 hN hG g_38 hr_70 dX2_isFull_46 ?_
            obtain ⟨g_71, hj_3⟩ := gd_of hj_3
            obtain ⟨a_72, hr_73, hj_3⟩ := bd_of hj_3
            refine gf_X2_129 hN hG g_71 hr_73 dX2_isFull_49 ?_
            obtain ⟨g_74, hj_3⟩ := gd_of hj_3
            obtain ⟨r_76, hc_75, hj_3⟩ := bd_of hj_3
            refine V_callV hE hG (ci := 3) (As := []) (rest := []) (ok_f_J2_size hE hN hc_75) g_74 (by decide) rfl hw_X2_122 hdv_J2_size ⟨Nat.le_of_ble_eq_true rfl, Nat.le_of_ble_eq_true rfl⟩ rfl rfl (Nat.le_of_ble_eq_true rfl) ⟨Nat.le_of_ble_eq_true rfl, Nat.le_of_ble_eq_true rfl⟩ dX2_isFull_52 (V_zero rfl rfl ?_)
            refine V_bipush hG 12 (by decide) dX2_isFull_55 ?_
            refine V_icmp_ne hG 64 dX2_isFull_57 (by decide) (fun c_77 => ?_) (fun c_77 => ?_)
            · have hj_3 := if_f c_77 hj_3
              refine V_iconst hG 0 rfl dX2_isFull_64 ?_
              cases hj_3
              exact J_2
            · have hj_3 := if_t c_77 hj_3
              refine V_iconst hG 1 rfl dX2_isFull_60 ?_
              refine V_goto hG 65 dX2_isFull_61 (by decide) ?_
              cases hj_3
              exact J_2

def f_X2_not (rec : Nat → Nat → Mem → Option ((Nat × Mem) ⊕ (Nat × Mem))) (N : Nat) (LC LZ : Nat) (p0 : Nat) (M : Mem) : Option ((Nat × Mem) ⊕ (Nat × Mem)) :=
gd (mT M p0 = 1) (
gd (mN M ≤ LC ∧ mZ M ≤ LZ) (
bd (f_X2_isWord p0 12 12 M) fun (r_4 : Int32) =>
if r_4 = 0 then (
gd (mN M ≤ LC ∧ mZ M ≤ LZ) (
bt (rec 3 p0 M) (fun (r_36 : Nat) (M_35 : Mem) =>
gd (mN M_35 ≤ LC ∧ mZ M_35 ≤ LZ) (
some (Sum.inl (r_36, M_35)))) (fun (q_41 : Nat) (M_42 : Mem) => some (Sum.inr (q_41, M_42)))))
else (
gd (mN M ≤ LC ∧ mZ M ≤ LZ) (
bt (f_X2_knot N LC LZ p0 M) (fun (r_9 : Int32) (M_8 : Mem) =>
gd (mN M_8 + 1 ≤ LC ∧ mZ M_8 + 1 ≤ LZ) (
be (nw M_8 12 1) fun (M_17 : Mem) =>
gd (mT M_17 p0 = 1) (
gd (mN M_17 ≤ LC ∧ mZ M_17 ≤ LZ) (
bt (rec 2 p0 M_17) (fun (r_22 : Nat) (M_21 : Mem) =>
gd (mN M_21 ≤ LC ∧ mZ M_21 ≤ LZ) (
bd (f_X17_init (mN M_8) r_22 M_21) fun (M_31 : Mem) =>
gd (mN M_31 ≤ LC ∧ mZ M_31 ≤ LZ) (
some (Sum.inl (mN M_8, M_31))))) (fun (q_27 : Nat) (M_28 : Mem) => some (Sum.inr (q_27, M_28))))))) (fun (q_14 : Nat) (M_15 : Mem) => some (Sum.inr (q_14, M_15)))))))
theorem ok_f_X2_not {E : En} (hE : EOk E) (hN : NOk E) {fr lo : Nat} (hfr : 10 ≤ fr) (hlo : 500 ≤ lo) {rec : Nat → Nat → Mem → Option ((Nat × Mem) ⊕ (Nat × Mem))} {N : Nat} {LC LZ : Nat} {p0 : Nat} (hrec : ExOk E rec fr lo LC LZ) {M : Mem} {res : (Nat × Mem) ⊕ (Nat × Mem)} (h : f_X2_not rec N LC LZ p0 M = some res) : RM E faF yX2_not cX2_not 1 (some (.object "TroughTreaty$Part")) (rmX (fr + 1) (lo + 40) LC LZ M) [rf E p0] M ((rsA E) res) := by
  unfold f_X2_not at h
  refine RM_introX (own := RX2) rfl (by decide) (Nat.le_of_ble_eq_true rfl) rfl (fun G hG hEn hI hX => ?_)
  obtain ⟨Q, eQ⟩ : ∃ Q, Q = QR E G faF ((rsA E) res) (LC - mN M) (LZ - mZ M) := ⟨_, rfl⟩
  show V E G M 0 0 1 0 [(0, rf E p0)] [] (QR E G faF ((rsA E) res) (LC - mN M) (LZ - mZ M))
  rw [← eQ]
  refine V_aload_n hG 0 rfl dX2_not_0 ?_
  refine V_bipush hG 12 (by decide) dX2_not_1 ?_
  refine V_bipush hG 12 (by decide) dX2_not_3 ?_
  obtain ⟨g_1, h⟩ := gd_of h
  obtain ⟨g_2, h⟩ := gd_of h
  refine V_narrow hEn (fun n1 n2 n3 => ?_)
  obtain ⟨r_4, hc_3, h⟩ := bd_of h
  refine V_callV hE hG (ci := 1) (As := [.int 12, .int 12]) (rest := []) (ok_f_X2_isWord hE hN hc_3) g_1 (by decide) rfl hw_X2_132 hdv_X2_isWord ⟨by show 1 + 1 ≤ fr + 1; omega, by show 8 + (3 + 11) + 25 ≤ lo + 40; omega⟩ rfl rfl (Nat.le_of_ble_eq_true rfl) ⟨by show _ + 0 ≤ LC - mN M; omega, by show _ + 0 ≤ LZ - mZ M; omega⟩ dX2_not_5 ?_
  refine V_if_ne hG 16 dX2_not_8 (by decide) (fun c_5 => ?_) (fun c_5 => ?_)
  · have h := if_f c_5 h
    refine V_aload_n hG 0 rfl dX2_not_16 ?_
    obtain ⟨g_6, h⟩ := gd_of h
    refine V_narrow hEn (fun n1 n2 n3 => ?_)
    obtain ⟨rs_10, hc_7, hl_11, hr_12⟩ := bt_of h
    have ok_13 := ok_f_X2_knot hE hN hc_7
    rcases rs_10 with ⟨r_9, M_8⟩ | ⟨q_14, M_15⟩
    · have h := hl_11 r_9 M_8 rfl
      refine V_callV hE hG (ci := 1) (As := []) (rest := []) ok_13 g_1 (by decide) rfl hw_X2_222 hdv_X2_knot ⟨by show 6 + 1 ≤ fr + 1; omega, by show 8 + (2 + 11) + 187 ≤ lo + 40; omega⟩ rfl rfl (Nat.le_of_ble_eq_true rfl) ⟨by show _ + (LC - mN M) ≤ LC - mN M; omega, by show _ + (LZ - mZ M) ≤ LZ - mZ M; omega⟩ dX2_not_17 ?_
      refine V_pop hG rfl dX2_not_20 ?_
      obtain ⟨g_16, h⟩ := gd_of h
      obtain ⟨M_17, eM_17, h⟩ := be_of h
      refine nw_X2_236 hG hEn rfl rfl eM_17 g_16 dX2_not_21 ?_
      refine V_dup hG rfl dX2_not_24 ?_
      refine V_aload_n hG 0 rfl dX2_not_25 ?_
      obtain ⟨g_18, h⟩ := gd_of h
      obtain ⟨g_19, h⟩ := gd_of h
      refine V_narrow hEn (fun n1 n2 n3 => ?_)
      obtain ⟨rs_23, hc_20, hl_24, hr_25⟩ := bt_of h
      have ok_26 := hrec.2.2.1 _ _ _ hc_20
      rcases rs_23 with ⟨r_22, M_21⟩ | ⟨q_27, M_28⟩
      · have h := hl_24 r_22 M_21 rfl
        refine V_callV hE hG (ci := 1) (As := []) (rest := [rf E (mN M_8), rf E (mN M_8)]) ok_26 g_18 (by decide) rfl hw_X2_230 hdv_X2_not ⟨Nat.le_refl _, by show 8 + (1 + 11) + lo ≤ lo + 40; omega⟩ rfl rfl (Nat.le_of_ble_eq_true rfl) ⟨by show _ + (LC - mN M_17) ≤ LC - mN M; omega, by show _ + (LZ - mZ M_17) ≤ LZ - mZ M; omega⟩ dX2_not_26 ?_
        obtain ⟨g_29, h⟩ := gd_of h
        refine V_narrow hEn (fun n1 n2 n3 => ?_)
        obtain ⟨M_31, hc_30, h⟩ := bd_of h
        refine V_callI hE hG (rt := none) (As := [rf E r_22]) (rest := [rf E (mN M_8)]) (ok_f_X17_init hE hN hc_30) (lw_meth q978) q154 q994 q977 rfl hdc_X17_init ⟨by show 2 + 1 ≤ fr + 1; omega, by show 8 + (2 + 11) + 60 ≤ lo + 40; omega⟩ rfl rfl (Nat.le_of_ble_eq_true rfl) ⟨by show _ + 0 ≤ LC - mN M; omega, by show _ + 0 ≤ LZ - mZ M; omega⟩ dX2_not_29 ?_
        obtain ⟨g_32, h⟩ := gd_of h
        refine V_narrow hEn (fun n1 n2 n3 => V_widen (k := LC - mN M) (n := LZ - mZ M) (by omega) (by omega) ?_)
        cases h
        subst eQ
        exact V_aret hG (Or.inr ⟨_, rfl⟩) dX2_not_32
      · have h : some (Sum.inr (q_27, M_28)) = some res := hr_25 q_27 M_28 rfl
        cases h
        subst eQ
        exact T_callV hE hG (ci := 1) (As := []) (rest := [rf E (mN M_8), rf E (mN M_8)]) ok_26 g_18 (by decide) rfl hw_X2_230 hdv_X2_not ⟨Nat.le_refl _, by show 8 + (1 + 11) + lo ≤ lo + 40; omega⟩ rfl rfl (Nat.le_of_ble_eq_true rfl) ⟨by show _ + (LC - mN M_17) ≤ LC - mN M; omega, by show _ + (LZ - mZ M_17) ≤ LZ - mZ M; omega⟩ dX2_not_26 hX
    · have h : some (Sum.inr (q_14, M_15)) = some res := hr_12 q_14 M_15 rfl
      cases h
      subst eQ
      exact T_callV hE hG (ci := 1) (As := []) (rest := []) ok_13 g_1 (by decide) rfl hw_X2_222 hdv_X2_knot ⟨by show 6 + 1 ≤ fr + 1; omega, by show 8 + (2 + 11) + 187 ≤ lo + 40; omega⟩ rfl rfl (Nat.le_of_ble_eq_true rfl) ⟨by show _ + (LC - mN M) ≤ LC - mN M; omega, by show _ + (LZ - mZ M) ≤ LZ - mZ M; omega⟩ dX2_not_17 hX
  · have h := if_t c_5 h
    refine V_aload_n hG 0 rfl dX2_not_11 ?_
    obtain ⟨g_33, h⟩ := gd_of h
    refine V_narrow hEn (fun n1 n2 n3 => ?_)
    obtain ⟨rs_37, hc_34, hl_38, hr_39⟩ := bt_of h
    have ok_40 := hrec.2.2.2.1 _ _ _ hc_34
    rcases rs_37 with ⟨r_36, M_35⟩ | ⟨q_41, M_42⟩
    · have h := hl_38 r_36 M_35 rfl
      refine V_callV hE hG (ci := 1) (As := []) (rest := []) ok_40 g_1 (by decide) rfl hw_X2_233 hdv_X2_compare ⟨Nat.le_refl _, by show 8 + (3 + 11) + lo ≤ lo + 40; omega⟩ rfl rfl (Nat.le_of_ble_eq_true rfl) ⟨by show _ + (LC - mN M) ≤ LC - mN M; omega, by show _ + (LZ - mZ M) ≤ LZ - mZ M; omega⟩ dX2_not_12 ?_
      obtain ⟨g_43, h⟩ := gd_of h
      refine V_narrow hEn (fun n1 n2 n3 => V_widen (k := LC - mN M) (n := LZ - mZ M) (by omega) (by omega) ?_)
      cases h
      subst eQ
      exact V_aret hG (Or.inr ⟨_, rfl⟩) dX2_not_15
    · have h : some (Sum.inr (q_41, M_42)) = some res := hr_39 q_41 M_42 rfl
      cases h
      subst eQ
      exact T_callV hE hG (ci := 1) (As := []) (rest := []) ok_40 g_1 (by decide) rfl hw_X2_233 hdv_X2_compare ⟨Nat.le_refl _, by show 8 + (3 + 11) + lo ≤ lo + 40; omega⟩ rfl rfl (Nat.le_of_ble_eq_true rfl) ⟨by show _ + (LC - mN M) ≤ LC - mN M; omega, by show _ + (LZ - mZ M) ≤ LZ - mZ M; omega⟩ dX2_not_12 hX

def f_X2_one (rec : Nat → Nat → Mem → Option ((Nat × Mem) ⊕ (Nat × Mem))) (N : Nat) (LC LZ : Nat) (p0 : Nat) (M : Mem) : Option ((Nat × Mem) ⊕ (Nat × Mem)) :=
gd (mT M p0 = 1) (
gd (mN M ≤ LC ∧ mZ M ≤ LZ) (
bd (f_X2_isSign p0 40 M) fun (r_4 : Int32) =>
if r_4 = 0 then (
if mI M p0 3 = 2 then (
if mI M p0 4 ≤ 9999 then (
gd (mN M + 1 ≤ LC ∧ mZ M + 1 ≤ LZ) (
be (nw M 10 1) fun (M_40 : Mem) =>
gd (mT M_40 p0 = 1) (
gd (mN M_40 ≤ LC ∧ mZ M_40 ≤ LZ) (
bt (f_X2_knot N LC LZ p0 M_40) (fun (r_45 : Int32) (M_44 : Mem) =>
gd (mN M_44 ≤ LC ∧ mZ M_44 ≤ LZ) (
bd (f_X15_init (mN M) r_45 M_44) fun (M_54 : Mem) =>
gd (mN M_54 ≤ LC ∧ mZ M_54 ≤ LZ) (
some (Sum.inl (mN M, M_54))))) (fun (q_50 : Nat) (M_51 : Mem) => some (Sum.inr (q_50, M_51)))))))
else (
gd (mN M ≤ LC ∧ mZ M ≤ LZ) (
bd2 (f_X2_wrong LC LZ p0 2 M) fun (r_59 : Nat) (M_58 : Mem) =>
gd (mT M_58 r_59 = 16) (
gd (mN M_58 ≤ LC ∧ mZ M_58 ≤ LZ) (
some (Sum.inr (r_59, M_58)))))))
else (
if mI M p0 3 = 0 then (
if 13 ≤ mI M p0 4 then (
gd (mN M + 1 ≤ LC ∧ mZ M + 1 ≤ LZ) (
be (nw M 11 1) fun (M_16 : Mem) =>
gd (mT M_16 p0 = 1) (
gd (mN M_16 ≤ LC ∧ mZ M_16 ≤ LZ) (
bt (f_X2_knot N LC LZ p0 M_16) (fun (r_21 : Int32) (M_20 : Mem) =>
gd (mN M_20 ≤ LC ∧ mZ M_20 ≤ LZ) (
bd (f_X16_init (mN M) (r_21 - 13) M_20) fun (M_30 : Mem) =>
gd (mN M_30 ≤ LC ∧ mZ M_30 ≤ LZ) (
some (Sum.inl (mN M, M_30))))) (fun (q_26 : Nat) (M_27 : Mem) => some (Sum.inr (q_26, M_27)))))))
else (
gd (mN M ≤ LC ∧ mZ M ≤ LZ) (
bd2 (f_X2_wrong LC LZ p0 1 M) fun (r_35 : Nat) (M_34 : Mem) =>
gd (mT M_34 r_35 = 16) (
gd (mN M_34 ≤ LC ∧ mZ M_34 ≤ LZ) (
some (Sum.inr (r_35, M_34)))))))
else (
gd (mN M ≤ LC ∧ mZ M ≤ LZ) (
bd2 (f_X2_wrong LC LZ p0 1 M) fun (r_11 : Nat) (M_10 : Mem) =>
gd (mT M_10 r_11 = 16) (
gd (mN M_10 ≤ LC ∧ mZ M_10 ≤ LZ) (
some (Sum.inr (r_11, M_10))))))))
else (
if mI M p0 5 = 8 then (
gd (mN M ≤ LC ∧ mZ M ≤ LZ) (
bd2 (f_X2_wrong LC LZ p0 2 M) fun (r_99 : Nat) (M_98 : Mem) =>
gd (mT M_98 r_99 = 16) (
gd (mN M_98 ≤ LC ∧ mZ M_98 ≤ LZ) (
some (Sum.inr (r_99, M_98))))))
else (
be (sI M p0 5 ((mI M p0 5) + 1)) fun (M_63 : Mem) =>
gd (mN M_63 ≤ LC ∧ mZ M_63 ≤ LZ) (
bd (f_X2_next N p0 M_63) fun (M_67 : Mem) =>
gd (mT M_67 p0 = 1) (
gd (mN M_67 ≤ LC ∧ mZ M_67 ≤ LZ) (
bt (rec 0 p0 M_67) (fun (r_72 : Nat) (M_71 : Mem) =>
gd (mT M_71 p0 = 1) (
gd (mN M_71 ≤ LC ∧ mZ M_71 ≤ LZ) (
bd (f_X2_isSign p0 41 M_71) fun (r_82 : Int32) =>
if r_82 = 0 then (
gd (mN M_71 ≤ LC ∧ mZ M_71 ≤ LZ) (
bd2 (f_X2_wrong LC LZ p0 1 M_71) fun (r_93 : Nat) (M_92 : Mem) =>
gd (mT M_92 r_93 = 16) (
gd (mN M_92 ≤ LC ∧ mZ M_92 ≤ LZ) (
some (Sum.inr (r_93, M_92))))))
else (
be (sI M_71 p0 5 ((mI M_71 p0 5) - 1)) fun (M_84 : Mem) =>
gd (mN M_84 ≤ LC ∧ mZ M_84 ≤ LZ) (
bd (f_X2_next N p0 M_84) fun (M_88 : Mem) =>
gd (mN M_88 ≤ LC ∧ mZ M_88 ≤ LZ) (
some (Sum.inl (r_72, M_88)))))))) (fun (q_77 : Nat) (M_78 : Mem) => some (Sum.inr (q_77, M_78))))))))))
theorem ok_f_X2_one {E : En} (hE : EOk E) (hN : NOk E) {fr lo : Nat} (hfr : 10 ≤ fr) (hlo : 500 ≤ lo) {rec : Nat → Nat → Mem → Option ((Nat × Mem) ⊕ (Nat × Mem))} {N : Nat} {LC LZ : Nat} {p0 : Nat} (hrec : ExOk E rec fr lo LC LZ) {M : Mem} {res : (Nat × Mem) ⊕ (Nat × Mem)} (h : f_X2_one rec N LC LZ p0 M = some res) : RM E faF yX2_one cX2_one 2 (some (.object "TroughTreaty$Part")) (rmX (fr + 1) (lo + 40) LC LZ M) [rf E p0] M ((rsA E) res) := by
  unfold f_X2_one at h
  refine RM_introX (own := RX2) rfl (by decide) (Nat.le_of_ble_eq_true rfl) rfl (fun G hG hEn hI hX => ?_)
  obtain ⟨Q, eQ⟩ : ∃ Q, Q = QR E G faF ((rsA E) res) (LC - mN M) (LZ - mZ M) := ⟨_, rfl⟩
  show V E G M 0 0 2 0 [(0, rf E p0)] [] (QR E G faF ((rsA E) res) (LC - mN M) (LZ - mZ M))
  rw [← eQ]
  refine V_aload_n hG 0 rfl dX2_one_0 ?_
  refine V_bipush hG 40 (by decide) dX2_one_1 ?_
  obtain ⟨g_1, h⟩ := gd_of h
  obtain ⟨g_2, h⟩ := gd_of h
  refine V_narrow hEn (fun n1 n2 n3 => ?_)
  obtain ⟨r_4, hc_3, h⟩ := bd_of h
  refine V_callV hE hG (ci := 1) (As := [.int 40]) (rest := []) (ok_f_X2_isSign hE hN hc_3) g_1 (by decide) rfl hw_X2_181 hdv_X2_isSign ⟨by show 0 + 1 ≤ fr + 1; omega, by show 8 + (2 + 11) + 0 ≤ lo + 40; omega⟩ rfl rfl (Nat.le_of_ble_eq_true rfl) ⟨by show _ + 0 ≤ LC - mN M; omega, by show _ + 0 ≤ LZ - mZ M; omega⟩ dX2_one_3 ?_
  refine V_if_eq hG 74 dX2_one_6 (by decide) (fun c_5 => ?_) (fun c_5 => ?_)
  · have h := if_t c_5 h
    refine V_aload_n hG 0 rfl dX2_one_74 ?_
    refine gf_X2_33 hN hG g_1 dX2_one_75 ?_
    refine V_iconst hG 2 rfl dX2_one_78 ?_
    refine V_icmp_ne hG 110 dX2_one_79 (by decide) (fun c_6 => ?_) (fun c_6 => ?_)
    · have h := if_f c_6 h
      refine V_aload_n hG 0 rfl dX2_one_110 ?_
      refine gf_X2_33 hN hG g_1 dX2_one_111 ?_
      refine V_if_ne hG 126 dX2_one_114 (by decide) (fun c_7 => ?_) (fun c_7 => ?_)
      · have h := if_f c_7 h
        refine V_aload_n hG 0 rfl dX2_one_126 ?_
        refine V_iconst hG 1 rfl dX2_one_127 ?_
        obtain ⟨g_8, h⟩ := gd_of h
        refine V_narrow hEn (fun n1 n2 n3 => ?_)
        obtain ⟨r_11, M_10, hc_9, h⟩ := bd2_of h
        refine V_callV hE hG (ci := 1) (As := [.int 1]) (rest := []) (ok_f_X2_wrong hE hN hc_9) g_1 (by decide) rfl hw_X2_85 hdv_X2_wrong ⟨by show 5 + 1 ≤ fr + 1; omega, by show 8 + (2 + 11) + 166 ≤ lo + 40; omega⟩ rfl rfl (Nat.le_of_ble_eq_true rfl) ⟨by show _ + (LC - mN M) ≤ LC - mN M; omega, by show _ + (LZ - mZ M) ≤ LZ - mZ M; omega⟩ dX2_one_128 ?_
        obtain ⟨g_12, h⟩ := gd_of h
        obtain ⟨g_13, h⟩ := gd_of h
        refine V_narrow hEn (fun n1 n2 n3 => ?_)
        cases h
        subst eQ
        exact T_athrow hG (ci := 16) g_12 (by decide) rfl rfl rfl ⟨by show _ ≤ LC - mN M; omega, by show _ ≤ LZ - mZ M; omega⟩ dX2_one_131 hX
      · have h := if_t c_7 h
        refine V_aload_n hG 0 rfl dX2_one_117 ?_
        refine gf_X2_47 hN hG g_1 dX2_one_118 ?_
        refine V_bipush hG 13 (by decide) dX2_one_121 ?_
        refine V_icmp_ge hG 132 dX2_one_123 (by decide) (fun c_14 => ?_) (fun c_14 => ?_)
        · have h := if_t c_14 h
          obtain ⟨g_15, h⟩ := gd_of h
          obtain ⟨M_16, eM_16, h⟩ := be_of h
          refine nw_X2_253 hG hEn rfl rfl eM_16 g_15 dX2_one_132 ?_
          refine V_dup hG rfl dX2_one_135 ?_
          refine V_aload_n hG 0 rfl dX2_one_136 ?_
          obtain ⟨g_17, h⟩ := gd_of h
          obtain ⟨g_18, h⟩ := gd_of h
          refine V_narrow hEn (fun n1 n2 n3 => ?_)
          obtain ⟨rs_22, hc_19, hl_23, hr_24⟩ := bt_of h
          have ok_25 := ok_f_X2_knot hE hN hc_19
          rcases rs_22 with ⟨r_21, M_20⟩ | ⟨q_26, M_27⟩
          · have h := hl_23 r_21 M_20 rfl
            refine V_callV hE hG (ci := 1) (As := []) (rest := [rf E (mN M), rf E (mN M)]) ok_25 g_17 (by decide) rfl hw_X2_222 hdv_X2_knot ⟨by show 6 + 1 ≤ fr + 1; omega, by show 8 + (2 + 11) + 187 ≤ lo + 40; omega⟩ rfl rfl (Nat.le_of_ble_eq_true rfl) ⟨by show _ + (LC - mN M_16) ≤ LC - mN M; omega, by show _ + (LZ - mZ M_16) ≤ LZ - mZ M; omega⟩ dX2_one_137 ?_
            refine V_bipush hG 13 (by decide) dX2_one_140 ?_
            refine V_isub hG dX2_one_142 ?_
            obtain ⟨g_28, h⟩ := gd_of h
            refine V_narrow hEn (fun n1 n2 n3 => ?_)
            obtain ⟨M_30, hc_29, h⟩ := bd_of h
            refine V_callI hE hG (rt := none) (As := [.int (r_21 - 13)]) (rest := [rf E (mN M)]) (ok_f_X16_init hE hN hc_29) (lw_meth q965) q153 q963 q964 rfl hdc_X16_init ⟨by show 2 + 1 ≤ fr + 1; omega, by show 8 + (2 + 11) + 60 ≤ lo + 40; omega⟩ rfl rfl (Nat.le_of_ble_eq_true rfl) ⟨by show _ + 0 ≤ LC - mN M; omega, by show _ + 0 ≤ LZ - mZ M; omega⟩ dX2_one_143 ?_
            obtain ⟨g_31, h⟩ := gd_of h
            refine V_narrow hEn (fun n1 n2 n3 => V_widen (k := LC - mN M) (n := LZ - mZ M) (by omega) (by omega) ?_)
            cases h
            subst eQ
            exact V_aret hG (Or.inr ⟨_, rfl⟩) dX2_one_146
          · have h : some (Sum.inr (q_26, M_27)) = some res := hr_24 q_26 M_27 rfl
            cases h
            subst eQ
            exact T_callV hE hG (ci := 1) (As := []) (rest := [rf E (mN M), rf E (mN M)]) ok_25 g_17 (by decide) rfl hw_X2_222 hdv_X2_knot ⟨by show 6 + 1 ≤ fr + 1; omega, by show 8 + (2 + 11) + 187 ≤ lo + 40; omega⟩ rfl rfl (Nat.le_of_ble_eq_true rfl) ⟨by show _ + (LC - mN M_16) ≤ LC - mN M; omega, by show _ + (LZ - mZ M_16) ≤ LZ - mZ M; omega⟩ dX2_one_137 hX
        · have h := if_f c_14 h
          refine V_aload_n hG 0 rfl dX2_one_126 ?_
          refine V_iconst hG 1 rfl dX2_one_127 ?_
          obtain ⟨g_32, h⟩ := gd_of h
          refine V_narrow hEn (fun n1 n2 n3 => ?_)
          obtain ⟨r_35, M_34, hc_33, h⟩ := bd2_of h
          refine V_callV hE hG (ci := 1) (As := [.int 1]) (rest := []) (ok_f_X2_wrong hE hN hc_33) g_1 (by decide) rfl hw_X2_85 hdv_X2_wrong ⟨by show 5 + 1 ≤ fr + 1; omega, by show 8 + (2 + 11) + 166 ≤ lo + 40; omega⟩ rfl rfl (Nat.le_of_ble_eq_true rfl) ⟨by show _ + (LC - mN M) ≤ LC - mN M; omega, by show _ + (LZ - mZ M) ≤ LZ - mZ M; omega⟩ dX2_one_128 ?_
          obtain ⟨g_36, h⟩ := gd_of h
          obtain ⟨g_37, h⟩ := gd_of h
          refine V_narrow hEn (fun n1 n2 n3 => ?_)
          cases h
          subst eQ
          exact T_athrow hG (ci := 16) g_36 (by decide) rfl rfl rfl ⟨by show _ ≤ LC - mN M; omega, by show _ ≤ LZ - mZ M; omega⟩ dX2_one_131 hX
    · have h := if_t c_6 h
      refine V_aload_n hG 0 rfl dX2_one_82 ?_
      refine gf_X2_47 hN hG g_1 dX2_one_83 ?_
      refine V_sipush hG 9999 (by decide) dX2_one_86 ?_
      refine V_icmp_le hG 98 dX2_one_89 (by decide) (fun c_38 => ?_) (fun c_38 => ?_)
      · have h := if_t c_38 h
        obtain ⟨g_39, h⟩ := gd_of h
        obtain ⟨M_40, eM_40, h⟩ := be_of h
        refine nw_X2_250 hG hEn rfl rfl eM_40 g_39 dX2_one_98 ?_
        refine V_dup hG rfl dX2_one_101 ?_
        refine V_aload_n hG 0 rfl dX2_one_102 ?_
        obtain ⟨g_41, h⟩ := gd_of h
        obtain ⟨g_42, h⟩ := gd_of h
        refine V_narrow hEn (fun n1 n2 n3 => ?_)
        obtain ⟨rs_46, hc_43, hl_47, hr_48⟩ := bt_of h
        have ok_49 := ok_f_X2_knot hE hN hc_43
        rcases rs_46 with ⟨r_45, M_44⟩ | ⟨q_50, M_51⟩
        · have h := hl_47 r_45 M_44 rfl
          refine V_callV hE hG (ci := 1) (As := []) (rest := [rf E (mN M), rf E (mN M)]) ok_49 g_41 (by decide) rfl hw_X2_222 hdv_X2_knot ⟨by show 6 + 1 ≤ fr + 1; omega, by show 8 + (2 + 11) + 187 ≤ lo + 40; omega⟩ rfl rfl (Nat.le_of_ble_eq_true rfl) ⟨by show _ + (LC - mN M_40) ≤ LC - mN M; omega, by show _ + (LZ - mZ M_40) ≤ LZ - mZ M; omega⟩ dX2_one_103 ?_
          obtain ⟨g_52, h⟩ := gd_of h
          refine V_narrow hEn (fun n1 n2 n3 => ?_)
          obtain ⟨M_54, hc_53, h⟩ := bd_of h
          refine V_callI hE hG (rt := none) (As := [.int r_45]) (rest := [rf E (mN M)]) (ok_f_X15_init hE hN hc_53) (lw_meth q952) q152 q950 q951 rfl hdc_X15_init ⟨by show 2 + 1 ≤ fr + 1; omega, by show 8 + (2 + 11) + 60 ≤ lo + 40; omega⟩ rfl rfl (Nat.le_of_ble_eq_true rfl) ⟨by show _ + 0 ≤ LC - mN M; omega, by show _ + 0 ≤ LZ - mZ M; omega⟩ dX2_one_106 ?_
          obtain ⟨g_55, h⟩ := gd_of h
          refine V_narrow hEn (fun n1 n2 n3 => V_widen (k := LC - mN M) (n := LZ - mZ M) (by omega) (by omega) ?_)
          cases h
          subst eQ
          exact V_aret hG (Or.inr ⟨_, rfl⟩) dX2_one_109
        · have h : some (Sum.inr (q_50, M_51)) = some res := hr_48 q_50 M_51 rfl
          cases h
          subst eQ
          exact T_callV hE hG (ci := 1) (As := []) (rest := [rf E (mN M), rf E (mN M)]) ok_49 g_41 (by decide) rfl hw_X2_222 hdv_X2_knot ⟨by show 6 + 1 ≤ fr + 1; omega, by show 8 + (2 + 11) + 187 ≤ lo + 40; omega⟩ rfl rfl (Nat.le_of_ble_eq_true rfl) ⟨by show _ + (LC - mN M_40) ≤ LC - mN M; omega, by show _ + (LZ - mZ M_40) ≤ LZ - mZ M; omega⟩ dX2_one_103 hX
      · have h := if_f c_38 h
        refine V_aload_n hG 0 rfl dX2_one_92 ?_
        refine V_iconst hG 2 rfl dX2_one_93 ?_
        obtain ⟨g_56, h⟩ := gd_of h
        refine V_narrow hEn (fun n1 n2 n3 => ?_)
        obtain ⟨r_59, M_58, hc_57, h⟩ := bd2_of h
        refine V_callV hE hG (ci := 1) (As := [.int 2]) (rest := []) (ok_f_X2_wrong hE hN hc_57) g_1 (by decide) rfl hw_X2_85 hdv_X2_wrong ⟨by show 5 + 1 ≤ fr + 1; omega, by show 8 + (2 + 11) + 166 ≤ lo + 40; omega⟩ rfl rfl (Nat.le_of_ble_eq_true rfl) ⟨by show _ + (LC - mN M) ≤ LC - mN M; omega, by show _ + (LZ - mZ M) ≤ LZ - mZ M; omega⟩ dX2_one_94 ?_
        obtain ⟨g_60, h⟩ := gd_of h
        obtain ⟨g_61, h⟩ := gd_of h
        refine V_narrow hEn (fun n1 n2 n3 => ?_)
        cases h
        subst eQ
        exact T_athrow hG (ci := 16) g_60 (by decide) rfl rfl rfl ⟨by show _ ≤ LC - mN M; omega, by show _ ≤ LZ - mZ M; omega⟩ dX2_one_97 hX
  · have h := if_f c_5 h
    refine V_aload_n hG 0 rfl dX2_one_9 ?_
    refine gf_X2_102 hN hG g_1 dX2_one_10 ?_
    refine V_bipush hG 8 (by decide) dX2_one_13 ?_
    refine V_icmp_ne hG 24 dX2_one_15 (by decide) (fun c_62 => ?_) (fun c_62 => ?_)
    · have h := if_f c_62 h
      refine V_aload_n hG 0 rfl dX2_one_24 ?_
      refine V_dup hG rfl dX2_one_25 ?_
      refine gf_X2_102 hN hG g_1 dX2_one_26 ?_
      refine V_iconst hG 1 rfl dX2_one_29 ?_
      refine V_iadd hG dX2_one_30 ?_
      obtain ⟨M_63, eM_63, h⟩ := be_of h
      refine pf_X2_102 hN hG g_1 eM_63 dX2_one_31 ?_
      have g_64 : mT M_63 p0 = 1 := by rw [eM_63]; exact g_1
      refine V_aload_n hG 0 rfl dX2_one_34 ?_
      obtain ⟨g_65, h⟩ := gd_of h
      refine V_narrow hEn (fun n1 n2 n3 => ?_)
      obtain ⟨M_67, hc_66, h⟩ := bd_of h
      refine V_callV hE hG (ci := 1) (As := []) (rest := []) (ok_f_X2_next hE hN hc_66) g_64 (by decide) rfl hw_X2_93 hdv_X2_next ⟨by show 5 + 1 ≤ fr + 1; omega, by show 8 + (1 + 11) + 163 ≤ lo + 40; omega⟩ rfl rfl (Nat.le_of_ble_eq_true rfl) ⟨by show _ + 0 ≤ LC - mN M; omega, by show _ + 0 ≤ LZ - mZ M; omega⟩ dX2_one_35 ?_
      refine V_aload_n hG 0 rfl dX2_one_38 ?_
      obtain ⟨g_68, h⟩ := gd_of h
      obtain ⟨g_69, h⟩ := gd_of h
      refine V_narrow hEn (fun n1 n2 n3 => ?_)
      obtain ⟨rs_73, hc_70, hl_74, hr_75⟩ := bt_of h
      have ok_76 := hrec.1 _ _ _ hc_70
      rcases rs_73 with ⟨r_72, M_71⟩ | ⟨q_77, M_78⟩
      · have h := hl_74 r_72 M_71 rfl
        refine V_callV hE hG (ci := 1) (As := []) (rest := []) ok_76 g_68 (by decide) rfl hw_X2_177 hdv_X2_or ⟨Nat.le_refl _, by show 8 + (3 + 11) + lo ≤ lo + 40; omega⟩ rfl rfl (Nat.le_of_ble_eq_true rfl) ⟨by show _ + (LC - mN M_67) ≤ LC - mN M; omega, by show _ + (LZ - mZ M_67) ≤ LZ - mZ M; omega⟩ dX2_one_39 ?_
        refine V_astore_n hG rfl [(1, rf E r_72), (0, rf E p0)] dX2_one_42 (Nat.le_of_ble_eq_true rfl) rfl ?_
        refine V_aload_n hG 1 rfl dX2_one_43 ?_
        refine V_bipush hG 41 (by decide) dX2_one_44 ?_
        obtain ⟨g_79, h⟩ := gd_of h
        obtain ⟨g_80, h⟩ := gd_of h
        refine V_narrow hEn (fun n1 n2 n3 => ?_)
        obtain ⟨r_82, hc_81, h⟩ := bd_of h
        refine V_callV hE hG (ci := 1) (As := [.int 41]) (rest := []) (ok_f_X2_isSign hE hN hc_81) g_79 (by decide) rfl hw_X2_181 hdv_X2_isSign ⟨by show 0 + 1 ≤ fr + 1; omega, by show 8 + (2 + 11) + 0 ≤ lo + 40; omega⟩ rfl rfl (Nat.le_of_ble_eq_true rfl) ⟨by show _ + 0 ≤ LC - mN M; omega, by show _ + 0 ≤ LZ - mZ M; omega⟩ dX2_one_46 ?_
        refine V_if_ne hG 58 dX2_one_49 (by decide) (fun c_83 => ?_) (fun c_83 => ?_)
        · have h := if_f c_83 h
          refine V_aload_n hG 1 rfl dX2_one_58 ?_
          refine V_dup hG rfl dX2_one_59 ?_
          refine gf_X2_102 hN hG g_79 dX2_one_60 ?_
          refine V_iconst hG 1 rfl dX2_one_63 ?_
          refine V_isub hG dX2_one_64 ?_
          obtain ⟨M_84, eM_84, h⟩ := be_of h
          refine pf_X2_102 hN hG g_79 eM_84 dX2_one_65 ?_
          have g_85 : mT M_84 p0 = 1 := by rw [eM_84]; exact g_79
          refine V_aload_n hG 1 rfl dX2_one_68 ?_
          obtain ⟨g_86, h⟩ := gd_of h
          refine V_narrow hEn (fun n1 n2 n3 => ?_)
          obtain ⟨M_88, hc_87, h⟩ := bd_of h
          refine V_callV hE hG (ci := 1) (As := []) (rest := []) (ok_f_X2_next hE hN hc_87) g_85 (by decide) rfl hw_X2_93 hdv_X2_next ⟨by show 5 + 1 ≤ fr + 1; omega, by show 8 + (1 + 11) + 163 ≤ lo + 40; omega⟩ rfl rfl (Nat.le_of_ble_eq_true rfl) ⟨by show _ + 0 ≤ LC - mN M; omega, by show _ + 0 ≤ LZ - mZ M; omega⟩ dX2_one_69 ?_
          refine V_aload_n hG 0 rfl dX2_one_72 ?_
          obtain ⟨g_89, h⟩ := gd_of h
          refine V_narrow hEn (fun n1 n2 n3 => V_widen (k := LC - mN M) (n := LZ - mZ M) (by omega) (by omega) ?_)
          cases h
          subst eQ
          exact V_aret hG (Or.inr ⟨_, rfl⟩) dX2_one_73
        · have h := if_t c_83 h
          refine V_aload_n hG 1 rfl dX2_one_52 ?_
          refine V_iconst hG 1 rfl dX2_one_53 ?_
          obtain ⟨g_90, h⟩ := gd_of h
          refine V_narrow hEn (fun n1 n2 n3 => ?_)
          obtain ⟨r_93, M_92, hc_91, h⟩ := bd2_of h
          refine V_callV hE hG (ci := 1) (As := [.int 1]) (rest := []) (ok_f_X2_wrong hE hN hc_91) g_79 (by decide) rfl hw_X2_85 hdv_X2_wrong ⟨by show 5 + 1 ≤ fr + 1; omega, by show 8 + (2 + 11) + 166 ≤ lo + 40; omega⟩ rfl rfl (Nat.le_of_ble_eq_true rfl) ⟨by show _ + (LC - mN M_71) ≤ LC - mN M; omega, by show _ + (LZ - mZ M_71) ≤ LZ - mZ M; omega⟩ dX2_one_54 ?_
          obtain ⟨g_94, h⟩ := gd_of h
          obtain ⟨g_95, h⟩ := gd_of h
          refine V_narrow hEn (fun n1 n2 n3 => ?_)
          cases h
          subst eQ
          exact T_athrow hG (ci := 16) g_94 (by decide) rfl rfl rfl ⟨by show _ ≤ LC - mN M; omega, by show _ ≤ LZ - mZ M; omega⟩ dX2_one_57 hX
      · have h : some (Sum.inr (q_77, M_78)) = some res := hr_75 q_77 M_78 rfl
        cases h
        subst eQ
        exact T_callV hE hG (ci := 1) (As := []) (rest := []) ok_76 g_68 (by decide) rfl hw_X2_177 hdv_X2_or ⟨Nat.le_refl _, by show 8 + (3 + 11) + lo ≤ lo + 40; omega⟩ rfl rfl (Nat.le_of_ble_eq_true rfl) ⟨by show _ + (LC - mN M_67) ≤ LC - mN M; omega, by show _ + (LZ - mZ M_67) ≤ LZ - mZ M; omega⟩ dX2_one_39 hX
    · have h := if_t c_62 h
      refine V_aload_n hG 0 rfl dX2_one_18 ?_
      refine V_iconst hG 2 rfl dX2_one_19 ?_
      obtain ⟨g_96, h⟩ := gd_of h
      refine V_narrow hEn (fun n1 n2 n3 => ?_)
      obtain ⟨r_99, M_98, hc_97, h⟩ := bd2_of h
      refine V_callV hE hG (ci := 1) (As := [.int 2]) (rest := []) (ok_f_X2_wrong hE hN hc_97) g_1 (by decide) rfl hw_X2_85 hdv_X2_wrong ⟨by show 5 + 1 ≤ fr + 1; omega, by show 8 + (2 + 11) + 166 ≤ lo + 40; omega⟩ rfl rfl (Nat.le_of_ble_eq_true rfl) ⟨by show _ + (LC - mN M) ≤ LC - mN M; omega, by show _ + (LZ - mZ M) ≤ LZ - mZ M; omega⟩ dX2_one_20 ?_
      obtain ⟨g_100, h⟩ := gd_of h
      obtain ⟨g_101, h⟩ := gd_of h
      refine V_narrow hEn (fun n1 n2 n3 => ?_)
      cases h
      subst eQ
      exact T_athrow hG (ci := 16) g_100 (by decide) rfl rfl rfl ⟨by show _ ≤ LC - mN M; omega, by show _ ≤ LZ - mZ M; omega⟩ dX2_one_23 hX

def f_X2_or_b1 (N : Nat) (rec : Nat → Nat → Mem → Option ((Nat × Mem) ⊕ (Nat × Mem))) (LC LZ : Nat) (M : Mem) (p0 : Nat) (x1_17 : Nat) (S_18 : Mem) : Option (((Nat × Mem) ⊕ ((Nat × Mem) ⊕ (Nat × Mem))) ⊕ (Nat × Mem)) :=
gd (mT S_18 p0 = 1) (
gd (mN S_18 ≤ LC ∧ mZ S_18 ≤ LZ) (
bd (f_X2_isWord p0 10 10 S_18) fun (r_31 : Int32) =>
if r_31 = 0 then (
some (.inl (.inl (x1_17, S_18))))
else (
gd (mN S_18 ≤ LC ∧ mZ S_18 ≤ LZ) (
bt (f_X2_knot N LC LZ p0 S_18) (fun (r_36 : Int32) (M_35 : Mem) =>
gd (mN M_35 + 1 ≤ LC ∧ mZ M_35 + 3 ≤ LZ) (
be (nw M_35 13 3) fun (M_44 : Mem) =>
gd (mT M_44 p0 = 1) (
gd (mN M_44 ≤ LC ∧ mZ M_44 ≤ LZ) (
bt (rec 1 p0 M_44) (fun (r_49 : Nat) (M_48 : Mem) =>
gd (mN M_48 ≤ LC ∧ mZ M_48 ≤ LZ) (
bd (f_X18_init (mN M_35) r_36 x1_17 r_49 M_48) fun (M_58 : Mem) =>
be (mN M_35) fun (x1_59 : Nat) =>
some (.inr (x1_59, M_58)))) (fun (q_54 : Nat) (M_55 : Mem) => some (Sum.inl (Sum.inr (Sum.inr (q_54, M_55))))))))) (fun (q_41 : Nat) (M_42 : Mem) => some (Sum.inl (Sum.inr (Sum.inr (q_41, M_42)))))))))
def f_X2_or (rec : Nat → Nat → Mem → Option ((Nat × Mem) ⊕ (Nat × Mem))) (N : Nat) (LC LZ : Nat) (p0 : Nat) (M : Mem) : Option ((Nat × Mem) ⊕ (Nat × Mem)) :=
gd (mT M p0 = 1) (
gd (mN M ≤ LC ∧ mZ M ≤ LZ) (
bt (rec 1 p0 M) (fun (r_5 : Nat) (M_4 : Mem) =>
bx2 (lp N (fun s_27 : Nat × Mem => f_X2_or_b1 N rec LC LZ M p0 s_27.1 s_27.2) (r_5, M_4)) (fun (x1_20 : Nat) (S_21 : Mem) =>
gd (mN S_21 ≤ LC ∧ mZ S_21 ≤ LZ) (
some (Sum.inl (x1_20, S_21)))) (fun (w_64 : (Nat × Mem) ⊕ (Nat × Mem)) => some w_64)) (fun (q_10 : Nat) (M_11 : Mem) => some (Sum.inr (q_10, M_11)))))
theorem ok_f_X2_or {E : En} (hE : EOk E) (hN : NOk E) {fr lo : Nat} (hfr : 10 ≤ fr) (hlo : 500 ≤ lo) {rec : Nat → Nat → Mem → Option ((Nat × Mem) ⊕ (Nat × Mem))} {N : Nat} {LC LZ : Nat} {p0 : Nat} (hrec : ExOk E rec fr lo LC LZ) {M : Mem} {res : (Nat × Mem) ⊕ (Nat × Mem)} (h : f_X2_or rec N LC LZ p0 M = some res) : RM E faF yX2_or cX2_or 3 (some (.object "TroughTreaty$Part")) (rmX (fr + 1) (lo + 40) LC LZ M) [rf E p0] M ((rsA E) res) := by
  unfold f_X2_or at h
  refine RM_introX (own := RX2) rfl (by decide) (Nat.le_of_ble_eq_true rfl) rfl (fun G hG hEn hI hX => ?_)
  obtain ⟨Q, eQ⟩ : ∃ Q, Q = QR E G faF ((rsA E) res) (LC - mN M) (LZ - mZ M) := ⟨_, rfl⟩
  show V E G M 0 0 3 0 [(0, rf E p0)] [] (QR E G faF ((rsA E) res) (LC - mN M) (LZ - mZ M))
  rw [← eQ]
  refine V_aload_n hG 0 rfl dX2_or_0 ?_
  obtain ⟨g_1, h⟩ := gd_of h
  obtain ⟨g_2, h⟩ := gd_of h
  refine V_narrow hEn (fun n1 n2 n3 => ?_)
  obtain ⟨rs_6, hc_3, hl_7, hr_8⟩ := bt_of h
  have ok_9 := hrec.2.1 _ _ _ hc_3
  rcases rs_6 with ⟨r_5, M_4⟩ | ⟨q_10, M_11⟩
  · have h := hl_7 r_5 M_4 rfl
    refine V_callV hE hG (ci := 1) (As := []) (rest := []) ok_9 g_1 (by decide) rfl hw_X2_219 hdv_X2_and ⟨Nat.le_refl _, by show 8 + (3 + 11) + lo ≤ lo + 40; omega⟩ rfl rfl (Nat.le_of_ble_eq_true rfl) ⟨by show _ + (LC - mN M) ≤ LC - mN M; omega, by show _ + (LZ - mZ M) ≤ LZ - mZ M; omega⟩ dX2_or_1 ?_
    refine V_astore_n hG rfl [(1, rf E r_5), (0, rf E p0)] dX2_or_4 (Nat.le_of_ble_eq_true rfl) rfl ?_
    obtain ⟨rr_23, hL_22, hl_24, hr_19⟩ := bx2_of h
    have J_16 : ∀ q_25 : Nat × Mem, Sum.inl q_25 = rr_23 → V E G q_25.2 (mN q_25.2 - mN M) (mZ q_25.2 - mZ M) 3 38 [(1, rf E q_25.1), (0, rf E p0)] [] Q := by
      intro q_25 e9
      obtain ⟨x1_20, S_21⟩ := q_25
      have h := hl_24 x1_20 S_21 e9.symm
      show V E G S_21 (mN S_21 - mN M) (mZ S_21 - mZ M) 3 38 [(1, rf E x1_20), (0, rf E p0)] [] Q
      refine V_aload_n hG 0 rfl dX2_or_38 ?_
      obtain ⟨g_26, h⟩ := gd_of h
      refine V_narrow hEn (fun n1 n2 n3 => V_widen (k := LC - mN M) (n := LZ - mZ M) (by omega) (by omega) ?_)
      cases h
      subst eQ
      exact V_aret hG (Or.inr ⟨_, rfl⟩) dX2_or_39
    refine V_narrow hEn (fun _ _ _ => ?_)
    refine lp_walk (W := fun s_27 : Nat × Mem => V E G s_27.2 (mN s_27.2 - mN M) (mZ s_27.2 - mZ M) 3 5 [(1, rf E s_27.1), (0, rf E p0)] [] Q) ?_ N (r_5, M_4) hL_22
    intro s_27 b_12 hb_13 hk_14 hx_15
    obtain ⟨x1_17, S_18⟩ := s_27
    have hb_13 : f_X2_or_b1 N rec LC LZ M p0 x1_17 S_18 = some b_12 := hb_13
    unfold f_X2_or_b1 at hb_13
    show V E G S_18 (mN S_18 - mN M) (mZ S_18 - mZ M) 3 5 [(1, rf E x1_17), (0, rf E p0)] [] Q
    refine V_aload_n hG 1 rfl dX2_or_5 ?_
    refine V_bipush hG 10 (by decide) dX2_or_6 ?_
    refine V_bipush hG 10 (by decide) dX2_or_8 ?_
    obtain ⟨g_28, hb_13⟩ := gd_of hb_13
    obtain ⟨g_29, hb_13⟩ := gd_of hb_13
    refine V_narrow hEn (fun n1 n2 n3 => ?_)
    obtain ⟨r_31, hc_30, hb_13⟩ := bd_of hb_13
    refine V_callV hE hG (ci := 1) (As := [.int 10, .int 10]) (rest := []) (ok_f_X2_isWord hE hN hc_30) g_28 (by decide) rfl hw_X2_132 hdv_X2_isWord ⟨by show 1 + 1 ≤ fr + 1; omega, by show 8 + (3 + 11) + 25 ≤ lo + 40; omega⟩ rfl rfl (Nat.le_of_ble_eq_true rfl) ⟨by show _ + 0 ≤ LC - mN M; omega, by show _ + 0 ≤ LZ - mZ M; omega⟩ dX2_or_10 ?_
    refine V_if_eq hG 38 dX2_or_13 (by decide) (fun c_32 => ?_) (fun c_32 => ?_)
    · have hb_13 := if_t c_32 hb_13
      cases hb_13
      exact V_narrow hEn (fun _ _ _ => J_16 _ (hx_15 _ rfl))
    · have hb_13 := if_f c_32 hb_13
      refine V_aload_n hG 1 rfl dX2_or_16 ?_
      obtain ⟨g_33, hb_13⟩ := gd_of hb_13
      refine V_narrow hEn (fun n1 n2 n3 => ?_)
      obtain ⟨rs_37, hc_34, hl_38, hr_39⟩ := bt_of hb_13
      have ok_40 := ok_f_X2_knot hE hN hc_34
      rcases rs_37 with ⟨r_36, M_35⟩ | ⟨q_41, M_42⟩
      · have hb_13 := hl_38 r_36 M_35 rfl
        refine V_callV hE hG (ci := 1) (As := []) (rest := []) ok_40 g_28 (by decide) rfl hw_X2_222 hdv_X2_knot ⟨by show 6 + 1 ≤ fr + 1; omega, by show 8 + (2 + 11) + 187 ≤ lo + 40; omega⟩ rfl rfl (Nat.le_of_ble_eq_true rfl) ⟨by show _ + (LC - mN S_18) ≤ LC - mN M; omega, by show _ + (LZ - mZ S_18) ≤ LZ - mZ M; omega⟩ dX2_or_17 ?_
        refine V_istore_n hG rfl [(2, .int r_36), (1, rf E x1_17), (0, rf E p0)] dX2_or_20 (Nat.le_of_ble_eq_true rfl) rfl ?_
        obtain ⟨g_43, hb_13⟩ := gd_of hb_13
        obtain ⟨M_44, eM_44, hb_13⟩ := be_of hb_13
        refine nw_X2_225 hG hEn rfl rfl eM_44 g_43 dX2_or_21 ?_
        refine V_dup hG rfl dX2_or_24 ?_
        refine V_iload_n hG 0 rfl dX2_or_25 ?_
        refine V_aload_n hG 1 rfl dX2_or_26 ?_
        refine V_aload_n hG 2 rfl dX2_or_27 ?_
        obtain ⟨g_45, hb_13⟩ := gd_of hb_13
        obtain ⟨g_46, hb_13⟩ := gd_of hb_13
        refine V_narrow hEn (fun n1 n2 n3 => ?_)
        obtain ⟨rs_50, hc_47, hl_51, hr_52⟩ := bt_of hb_13
        have ok_53 := hrec.2.1 _ _ _ hc_47
        rcases rs_50 with ⟨r_49, M_48⟩ | ⟨q_54, M_55⟩
        · have hb_13 := hl_51 r_49 M_48 rfl
          refine V_callV hE hG (ci := 1) (As := []) (rest := [rf E x1_17, .int r_36, rf E (mN M_35), rf E (mN M_35)]) ok_53 g_45 (by decide) rfl hw_X2_219 hdv_X2_and ⟨Nat.le_refl _, by show 8 + (3 + 11) + lo ≤ lo + 40; omega⟩ rfl rfl (Nat.le_of_ble_eq_true rfl) ⟨by show _ + (LC - mN M_44) ≤ LC - mN M; omega, by show _ + (LZ - mZ M_44) ≤ LZ - mZ M; omega⟩ dX2_or_28 ?_
          obtain ⟨g_56, hb_13⟩ := gd_of hb_13
          refine V_narrow hEn (fun n1 n2 n3 => ?_)
          obtain ⟨M_58, hc_57, hb_13⟩ := bd_of hb_13
          refine V_callI hE hG (rt := none) (As := [.int r_36, rf E x1_17, rf E r_49]) (rest := [rf E (mN M_35)]) (ok_f_X18_init hE hN hc_57) (lw_meth q975) q155 q973 q974 rfl hdc_X18_init ⟨by show 3 + 1 ≤ fr + 1; omega, by show 8 + (4 + 11) + 81 ≤ lo + 40; omega⟩ rfl rfl (Nat.le_of_ble_eq_true rfl) ⟨by show _ + 0 ≤ LC - mN M; omega, by show _ + 0 ≤ LZ - mZ M; omega⟩ dX2_or_31 ?_
          obtain ⟨x1_59, ex1_59, hb_13⟩ := be_of hb_13
          refine V_topa ex1_59 ?_
          refine V_astore_n hG rfl [(1, rf E x1_59), (2, .int r_36), (0, rf E p0)] dX2_or_34 (Nat.le_of_ble_eq_true rfl) rfl ?_
          refine V_goto hG 5 dX2_or_35 (by decide) ?_
          cases hb_13
          exact V_narrow hEn (fun _ _ _ => V_lv [0, 2] rfl (hk_14 _ rfl))
        · have hb_13 : some (Sum.inl (Sum.inr (Sum.inr (q_54, M_55)))) = some b_12 := hr_52 q_54 M_55 rfl
          cases hb_13
          have e_60 := hx_15 _ rfl
          have h_61 : some (Sum.inr (q_54, M_55)) = some res := hr_19 _ e_60.symm
          cases h_61
          subst eQ
          exact T_callV hE hG (ci := 1) (As := []) (rest := [rf E x1_17, .int r_36, rf E (mN M_35), rf E (mN M_35)]) ok_53 g_45 (by decide) rfl hw_X2_219 hdv_X2_and ⟨Nat.le_refl _, by show 8 + (3 + 11) + lo ≤ lo + 40; omega⟩ rfl rfl (Nat.le_of_ble_eq_true rfl) ⟨by show _ + (LC - mN M_44) ≤ LC - mN M; omega, by show _ + (LZ - mZ M_44) ≤ LZ - mZ M; omega⟩ dX2_or_28 hX
      · have hb_13 : some (Sum.inl (Sum.inr (Sum.inr (q_41, M_42)))) = some b_12 := hr_39 q_41 M_42 rfl
        cases hb_13
        have e_62 := hx_15 _ rfl
        have h_63 : some (Sum.inr (q_41, M_42)) = some res := hr_19 _ e_62.symm
        cases h_63
        subst eQ
        exact T_callV hE hG (ci := 1) (As := []) (rest := []) ok_40 g_28 (by decide) rfl hw_X2_222 hdv_X2_knot ⟨by show 6 + 1 ≤ fr + 1; omega, by show 8 + (2 + 11) + 187 ≤ lo + 40; omega⟩ rfl rfl (Nat.le_of_ble_eq_true rfl) ⟨by show _ + (LC - mN S_18) ≤ LC - mN M; omega, by show _ + (LZ - mZ S_18) ≤ LZ - mZ M; omega⟩ dX2_or_17 hX
  · have h : some (Sum.inr (q_10, M_11)) = some res := hr_8 q_10 M_11 rfl
    cases h
    subst eQ
    exact T_callV hE hG (ci := 1) (As := []) (rest := []) ok_9 g_1 (by decide) rfl hw_X2_219 hdv_X2_and ⟨Nat.le_refl _, by show 8 + (3 + 11) + lo ≤ lo + 40; omega⟩ rfl rfl (Nat.le_of_ble_eq_true rfl) ⟨by show _ + (LC - mN M) ≤ LC - mN M; omega, by show _ + (LZ - mZ M) ≤ LZ - mZ M; omega⟩ dX2_or_1 hX

def f_X2_product_b1 (N : Nat) (rec : Nat → Nat → Mem → Option ((Nat × Mem) ⊕ (Nat × Mem))) (LC LZ : Nat) (M : Mem) (p0 : Nat) (x1_17 : Nat) (S_18 : Mem) : Option (((Nat × Mem) ⊕ ((Nat × Mem) ⊕ (Nat × Mem))) ⊕ (Nat × Mem)) :=
gd (mT S_18 p0 = 1) (
gd (mN S_18 ≤ LC ∧ mZ S_18 ≤ LZ) (
bd (f_X2_isSign p0 42 S_18) fun (r_31 : Int32) =>
be (fun (u_34 : Unit) =>
gd (mT S_18 p0 = 1) (
gd (mN S_18 ≤ LC ∧ mZ S_18 ≤ LZ) (
bt (f_X2_knot N LC LZ p0 S_18) (fun (r_39 : Int32) (M_38 : Mem) =>
gd (mN M_38 + 1 ≤ LC ∧ mZ M_38 + 3 ≤ LZ) (
be (nw M_38 13 3) fun (M_47 : Mem) =>
gd (mT M_47 p0 = 1) (
gd (mN M_47 ≤ LC ∧ mZ M_47 ≤ LZ) (
bt (rec 6 p0 M_47) (fun (r_52 : Nat) (M_51 : Mem) =>
gd (mN M_51 ≤ LC ∧ mZ M_51 ≤ LZ) (
bd (f_X18_init (mN M_38) r_39 x1_17 r_52 M_51) fun (M_61 : Mem) =>
be (mN M_38) fun (x1_62 : Nat) =>
some (.inr (x1_62, M_61)))) (fun (q_57 : Nat) (M_58 : Mem) => some (Sum.inl (Sum.inr (Sum.inr (q_57, M_58))))))))) (fun (q_44 : Nat) (M_45 : Mem) => some (Sum.inl (Sum.inr (Sum.inr (q_44, M_45)))))))) fun (k_32 : Unit → Option (((Nat × Mem) ⊕ ((Nat × Mem) ⊕ (Nat × Mem))) ⊕ (Nat × Mem))) =>
if r_31 = 0 then (
gd (mN S_18 ≤ LC ∧ mZ S_18 ≤ LZ) (
bd (f_X2_isSign p0 47 S_18) fun (r_70 : Int32) =>
if r_70 = 0 then (
some (.inl (.inl (x1_17, S_18))))
else (
k_32 (()))))
else (
k_32 (()))))
def f_X2_product (rec : Nat → Nat → Mem → Option ((Nat × Mem) ⊕ (Nat × Mem))) (N : Nat) (LC LZ : Nat) (p0 : Nat) (M : Mem) : Option ((Nat × Mem) ⊕ (Nat × Mem)) :=
gd (mT M p0 = 1) (
gd (mN M ≤ LC ∧ mZ M ≤ LZ) (
bt (rec 6 p0 M) (fun (r_5 : Nat) (M_4 : Mem) =>
bx2 (lp N (fun s_27 : Nat × Mem => f_X2_product_b1 N rec LC LZ M p0 s_27.1 s_27.2) (r_5, M_4)) (fun (x1_20 : Nat) (S_21 : Mem) =>
gd (mN S_21 ≤ LC ∧ mZ S_21 ≤ LZ) (
some (Sum.inl (x1_20, S_21)))) (fun (w_72 : (Nat × Mem) ⊕ (Nat × Mem)) => some w_72)) (fun (q_10 : Nat) (M_11 : Mem) => some (Sum.inr (q_10, M_11)))))
theorem ok_f_X2_product {E : En} (hE : EOk E) (hN : NOk E) {fr lo : Nat} (hfr : 10 ≤ fr) (hlo : 500 ≤ lo) {rec : Nat → Nat → Mem → Option ((Nat × Mem) ⊕ (Nat × Mem))} {N : Nat} {LC LZ : Nat} {p0 : Nat} (hrec : ExOk E rec fr lo LC LZ) {M : Mem} {res : (Nat × Mem) ⊕ (Nat × Mem)} (h : f_X2_product rec N LC LZ p0 M = some res) : RM E faF yX2_product cX2_product 3 (some (.object "TroughTreaty$Part")) (rmX (fr + 1) (lo + 40) LC LZ M) [rf E p0] M ((rsA E) res) := by
  unfold f_X2_product at h
  refine RM_introX (own := RX2) rfl (by decide) (Nat.le_of_ble_eq_true rfl) rfl (fun G hG hEn hI hX => ?_)
  obtain ⟨Q, eQ⟩ : ∃ Q, Q = QR E G faF ((rsA E) res) (LC - mN M) (LZ - mZ M) := ⟨_, rfl⟩
  show V E G M 0 0 3 0 [(0, rf E p0)] [] (QR E G faF ((rsA E) res) (LC - mN M) (LZ - mZ M))
  rw [← eQ]
  refine V_aload_n hG 0 rfl dX2_product_0 ?_
  obtain ⟨g_1, h⟩ := gd_of h
  obtain ⟨g_2, h⟩ := gd_of h
  refine V_narrow hEn (fun n1 n2 n3 => ?_)
  obtain ⟨rs_6, hc_3, hl_7, hr_8⟩ := bt_of h
  have ok_9 := hrec.2.2.2.2.2.2 _ _ _ hc_3
  rcases rs_6 with ⟨r_5, M_4⟩ | ⟨q_10, M_11⟩
  · have h := hl_7 r_5 M_4 rfl
    refine V_callV hE hG (ci := 1) (As := []) (rest := []) ok_9 g_1 (by decide) rfl hw_X2_247 hdv_X2_one ⟨Nat.le_refl _, by show 8 + (2 + 11) + lo ≤ lo + 40; omega⟩ rfl rfl (Nat.le_of_ble_eq_true rfl) ⟨by show _ + (LC - mN M) ≤ LC - mN M; omega, by show _ + (LZ - mZ M) ≤ LZ - mZ M; omega⟩ dX2_product_1 ?_
    refine V_astore_n hG rfl [(1, rf E r_5), (0, rf E p0)] dX2_product_4 (Nat.le_of_ble_eq_true rfl) rfl ?_
    obtain ⟨rr_23, hL_22, hl_24, hr_19⟩ := bx2_of h
    have J_16 : ∀ q_25 : Nat × Mem, Sum.inl q_25 = rr_23 → V E G q_25.2 (mN q_25.2 - mN M) (mZ q_25.2 - mZ M) 3 45 [(1, rf E q_25.1), (0, rf E p0)] [] Q := by
      intro q_25 e9
      obtain ⟨x1_20, S_21⟩ := q_25
      have h := hl_24 x1_20 S_21 e9.symm
      show V E G S_21 (mN S_21 - mN M) (mZ S_21 - mZ M) 3 45 [(1, rf E x1_20), (0, rf E p0)] [] Q
      refine V_aload_n hG 0 rfl dX2_product_45 ?_
      obtain ⟨g_26, h⟩ := gd_of h
      refine V_narrow hEn (fun n1 n2 n3 => V_widen (k := LC - mN M) (n := LZ - mZ M) (by omega) (by omega) ?_)
      cases h
      subst eQ
      exact V_aret hG (Or.inr ⟨_, rfl⟩) dX2_product_46
    refine V_narrow hEn (fun _ _ _ => ?_)
    refine lp_walk (W := fun s_27 : Nat × Mem => V E G s_27.2 (mN s_27.2 - mN M) (mZ s_27.2 - mZ M) 3 5 [(1, rf E s_27.1), (0, rf E p0)] [] Q) ?_ N (r_5, M_4) hL_22
    intro s_27 b_12 hb_13 hk_14 hx_15
    obtain ⟨x1_17, S_18⟩ := s_27
    have hb_13 : f_X2_product_b1 N rec LC LZ M p0 x1_17 S_18 = some b_12 := hb_13
    unfold f_X2_product_b1 at hb_13
    show V E G S_18 (mN S_18 - mN M) (mZ S_18 - mZ M) 3 5 [(1, rf E x1_17), (0, rf E p0)] [] Q
    refine V_aload_n hG 1 rfl dX2_product_5 ?_
    refine V_bipush hG 42 (by decide) dX2_product_6 ?_
    obtain ⟨g_28, hb_13⟩ := gd_of hb_13
    obtain ⟨g_29, hb_13⟩ := gd_of hb_13
    refine V_narrow hEn (fun n1 n2 n3 => ?_)
    obtain ⟨r_31, hc_30, hb_13⟩ := bd_of hb_13
    refine V_callV hE hG (ci := 1) (As := [.int 42]) (rest := []) (ok_f_X2_isSign hE hN hc_30) g_28 (by decide) rfl hw_X2_181 hdv_X2_isSign ⟨by show 0 + 1 ≤ fr + 1; omega, by show 8 + (2 + 11) + 0 ≤ lo + 40; omega⟩ rfl rfl (Nat.le_of_ble_eq_true rfl) ⟨by show _ + 0 ≤ LC - mN M; omega, by show _ + 0 ≤ LZ - mZ M; omega⟩ dX2_product_8 ?_
    obtain ⟨k_32, ek_32, hb_13⟩ := bek1_of hb_13
    have J_33 : ∀ (u_34 : Unit), k_32 u_34 = some b_12 → V E G S_18 (mN S_18 - mN M) (mZ S_18 - mZ M) 3 23 [(1, rf E x1_17), (0, rf E p0)] [] Q := by
      intro u_34 hb_13
      have hb_13 := ek_32 _ _ hb_13
      refine V_aload_n hG 1 rfl dX2_product_23 ?_
      obtain ⟨g_35, hb_13⟩ := gd_of hb_13
      obtain ⟨g_36, hb_13⟩ := gd_of hb_13
      refine V_narrow hEn (fun n1 n2 n3 => ?_)
      obtain ⟨rs_40, hc_37, hl_41, hr_42⟩ := bt_of hb_13
      have ok_43 := ok_f_X2_knot hE hN hc_37
      rcases rs_40 with ⟨r_39, M_38⟩ | ⟨q_44, M_45⟩
      · have hb_13 := hl_41 r_39 M_38 rfl
        refine V_callV hE hG (ci := 1) (As := []) (rest := []) ok_43 g_35 (by decide) rfl hw_X2_222 hdv_X2_knot ⟨by show 6 + 1 ≤ fr + 1; omega, by show 8 + (2 + 11) + 187 ≤ lo + 40; omega⟩ rfl rfl (Nat.le_of_ble_eq_true rfl) ⟨by show _ + (LC - mN S_18) ≤ LC - mN M; omega, by show _ + (LZ - mZ S_18) ≤ LZ - mZ M; omega⟩ dX2_product_24 ?_
        refine V_istore_n hG rfl [(2, .int r_39), (1, rf E x1_17), (0, rf E p0)] dX2_product_27 (Nat.le_of_ble_eq_true rfl) rfl ?_
        obtain ⟨g_46, hb_13⟩ := gd_of hb_13
        obtain ⟨M_47, eM_47, hb_13⟩ := be_of hb_13
        refine nw_X2_225 hG hEn rfl rfl eM_47 g_46 dX2_product_28 ?_
        refine V_dup hG rfl dX2_product_31 ?_
        refine V_iload_n hG 0 rfl dX2_product_32 ?_
        refine V_aload_n hG 1 rfl dX2_product_33 ?_
        refine V_aload_n hG 2 rfl dX2_product_34 ?_
        obtain ⟨g_48, hb_13⟩ := gd_of hb_13
        obtain ⟨g_49, hb_13⟩ := gd_of hb_13
        refine V_narrow hEn (fun n1 n2 n3 => ?_)
        obtain ⟨rs_53, hc_50, hl_54, hr_55⟩ := bt_of hb_13
        have ok_56 := hrec.2.2.2.2.2.2 _ _ _ hc_50
        rcases rs_53 with ⟨r_52, M_51⟩ | ⟨q_57, M_58⟩
        · have hb_13 := hl_54 r_52 M_51 rfl
          refine V_callV hE hG (ci := 1) (As := []) (rest := [rf E x1_17, .int r_39, rf E (mN M_38), rf E (mN M_38)]) ok_56 g_48 (by decide) rfl hw_X2_247 hdv_X2_one ⟨Nat.le_refl _, by show 8 + (2 + 11) + lo ≤ lo + 40; omega⟩ rfl rfl (Nat.le_of_ble_eq_true rfl) ⟨by show _ + (LC - mN M_47) ≤ LC - mN M; omega, by show _ + (LZ - mZ M_47) ≤ LZ - mZ M; omega⟩ dX2_product_35 ?_
          obtain ⟨g_59, hb_13⟩ := gd_of hb_13
          refine V_narrow hEn (fun n1 n2 n3 => ?_)
          obtain ⟨M_61, hc_60, hb_13⟩ := bd_of hb_13
          refine V_callI hE hG (rt := none) (As := [.int r_39, rf E x1_17, rf E r_52]) (rest := [rf E (mN M_38)]) (ok_f_X18_init hE hN hc_60) (lw_meth q975) q155 q973 q974 rfl hdc_X18_init ⟨by show 3 + 1 ≤ fr + 1; omega, by show 8 + (4 + 11) + 81 ≤ lo + 40; omega⟩ rfl rfl (Nat.le_of_ble_eq_true rfl) ⟨by show _ + 0 ≤ LC - mN M; omega, by show _ + 0 ≤ LZ - mZ M; omega⟩ dX2_product_38 ?_
          obtain ⟨x1_62, ex1_62, hb_13⟩ := be_of hb_13
          refine V_topa ex1_62 ?_
          refine V_astore_n hG rfl [(1, rf E x1_62), (2, .int r_39), (0, rf E p0)] dX2_product_41 (Nat.le_of_ble_eq_true rfl) rfl ?_
          refine V_goto hG 5 dX2_product_42 (by decide) ?_
          cases hb_13
          exact V_narrow hEn (fun _ _ _ => V_lv [0, 2] rfl (hk_14 _ rfl))
        · have hb_13 : some (Sum.inl (Sum.inr (Sum.inr (q_57, M_58)))) = some b_12 := hr_55 q_57 M_58 rfl
          cases hb_13
          have e_63 := hx_15 _ rfl
          have h_64 : some (Sum.inr (q_57, M_58)) = some res := hr_19 _ e_63.symm
          cases h_64
          subst eQ
          exact T_callV hE hG (ci := 1) (As := []) (rest := [rf E x1_17, .int r_39, rf E (mN M_38), rf E (mN M_38)]) ok_56 g_48 (by decide) rfl hw_X2_247 hdv_X2_one ⟨Nat.le_refl _, by show 8 + (2 + 11) + lo ≤ lo + 40; omega⟩ rfl rfl (Nat.le_of_ble_eq_true rfl) ⟨by show _ + (LC - mN M_47) ≤ LC - mN M; omega, by show _ + (LZ - mZ M_47) ≤ LZ - mZ M; omega⟩ dX2_product_35 hX
      · have hb_13 : some (Sum.inl (Sum.inr (Sum.inr (q_44, M_45)))) = some b_12 := hr_42 q_44 M_45 rfl
        cases hb_13
        have e_65 := hx_15 _ rfl
        have h_66 : some (Sum.inr (q_44, M_45)) = some res := hr_19 _ e_65.symm
        cases h_66
        subst eQ
        exact T_callV hE hG (ci := 1) (As := []) (rest := []) ok_43 g_35 (by decide) rfl hw_X2_222 hdv_X2_knot ⟨by show 6 + 1 ≤ fr + 1; omega, by show 8 + (2 + 11) + 187 ≤ lo + 40; omega⟩ rfl rfl (Nat.le_of_ble_eq_true rfl) ⟨by show _ + (LC - mN S_18) ≤ LC - mN M; omega, by show _ + (LZ - mZ S_18) ≤ LZ - mZ M; omega⟩ dX2_product_24 hX
    refine V_if_ne hG 23 dX2_product_11 (by decide) (fun c_67 => ?_) (fun c_67 => ?_)
    · have hb_13 := if_f c_67 hb_13
      exact V_narrow hEn (fun _ _ _ => J_33 (()) hb_13)
    · have hb_13 := if_t c_67 hb_13
      refine V_aload_n hG 1 rfl dX2_product_14 ?_
      refine V_bipush hG 47 (by decide) dX2_product_15 ?_
      obtain ⟨g_68, hb_13⟩ := gd_of hb_13
      refine V_narrow hEn (fun n1 n2 n3 => ?_)
      obtain ⟨r_70, hc_69, hb_13⟩ := bd_of hb_13
      refine V_callV hE hG (ci := 1) (As := [.int 47]) (rest := []) (ok_f_X2_isSign hE hN hc_69) g_28 (by decide) rfl hw_X2_181 hdv_X2_isSign ⟨by show 0 + 1 ≤ fr + 1; omega, by show 8 + (2 + 11) + 0 ≤ lo + 40; omega⟩ rfl rfl (Nat.le_of_ble_eq_true rfl) ⟨by show _ + 0 ≤ LC - mN M; omega, by show _ + 0 ≤ LZ - mZ M; omega⟩ dX2_product_17 ?_
      refine V_if_eq hG 45 dX2_product_20 (by decide) (fun c_71 => ?_) (fun c_71 => ?_)
      · have hb_13 := if_t c_71 hb_13
        cases hb_13
        exact V_narrow hEn (fun _ _ _ => J_16 _ (hx_15 _ rfl))
      · have hb_13 := if_f c_71 hb_13
        exact V_narrow hEn (fun _ _ _ => J_33 (()) hb_13)
  · have h : some (Sum.inr (q_10, M_11)) = some res := hr_8 q_10 M_11 rfl
    cases h
    subst eQ
    exact T_callV hE hG (ci := 1) (As := []) (rest := []) ok_9 g_1 (by decide) rfl hw_X2_247 hdv_X2_one ⟨Nat.le_refl _, by show 8 + (2 + 11) + lo ≤ lo + 40; omega⟩ rfl rfl (Nat.le_of_ble_eq_true rfl) ⟨by show _ + (LC - mN M) ≤ LC - mN M; omega, by show _ + (LZ - mZ M) ≤ LZ - mZ M; omega⟩ dX2_product_1 hX

def f_X2_sum_b1 (N : Nat) (rec : Nat → Nat → Mem → Option ((Nat × Mem) ⊕ (Nat × Mem))) (LC LZ : Nat) (M : Mem) (p0 : Nat) (x1_17 : Nat) (S_18 : Mem) : Option (((Nat × Mem) ⊕ ((Nat × Mem) ⊕ (Nat × Mem))) ⊕ (Nat × Mem)) :=
gd (mT S_18 p0 = 1) (
gd (mN S_18 ≤ LC ∧ mZ S_18 ≤ LZ) (
bd (f_X2_isSign p0 43 S_18) fun (r_31 : Int32) =>
be (fun (u_34 : Unit) =>
gd (mT S_18 p0 = 1) (
gd (mN S_18 ≤ LC ∧ mZ S_18 ≤ LZ) (
bt (f_X2_knot N LC LZ p0 S_18) (fun (r_39 : Int32) (M_38 : Mem) =>
gd (mN M_38 + 1 ≤ LC ∧ mZ M_38 + 3 ≤ LZ) (
be (nw M_38 13 3) fun (M_47 : Mem) =>
gd (mT M_47 p0 = 1) (
gd (mN M_47 ≤ LC ∧ mZ M_47 ≤ LZ) (
bt (rec 5 p0 M_47) (fun (r_52 : Nat) (M_51 : Mem) =>
gd (mN M_51 ≤ LC ∧ mZ M_51 ≤ LZ) (
bd (f_X18_init (mN M_38) r_39 x1_17 r_52 M_51) fun (M_61 : Mem) =>
be (mN M_38) fun (x1_62 : Nat) =>
some (.inr (x1_62, M_61)))) (fun (q_57 : Nat) (M_58 : Mem) => some (Sum.inl (Sum.inr (Sum.inr (q_57, M_58))))))))) (fun (q_44 : Nat) (M_45 : Mem) => some (Sum.inl (Sum.inr (Sum.inr (q_44, M_45)))))))) fun (k_32 : Unit → Option (((Nat × Mem) ⊕ ((Nat × Mem) ⊕ (Nat × Mem))) ⊕ (Nat × Mem))) =>
if r_31 = 0 then (
gd (mN S_18 ≤ LC ∧ mZ S_18 ≤ LZ) (
bd (f_X2_isSign p0 45 S_18) fun (r_70 : Int32) =>
if r_70 = 0 then (
some (.inl (.inl (x1_17, S_18))))
else (
k_32 (()))))
else (
k_32 (()))))
def f_X2_sum (rec : Nat → Nat → Mem → Option ((Nat × Mem) ⊕ (Nat × Mem))) (N : Nat) (LC LZ : Nat) (p0 : Nat) (M : Mem) : Option ((Nat × Mem) ⊕ (Nat × Mem)) :=
gd (mT M p0 = 1) (
gd (mN M ≤ LC ∧ mZ M ≤ LZ) (
bt (rec 5 p0 M) (fun (r_5 : Nat) (M_4 : Mem) =>
bx2 (lp N (fun s_27 : Nat × Mem => f_X2_sum_b1 N rec LC LZ M p0 s_27.1 s_27.2) (r_5, M_4)) (fun (x1_20 : Nat) (S_21 : Mem) =>
gd (mN S_21 ≤ LC ∧ mZ S_21 ≤ LZ) (
some (Sum.inl (x1_20, S_21)))) (fun (w_72 : (Nat × Mem) ⊕ (Nat × Mem)) => some w_72)) (fun (q_10 : Nat) (M_11 : Mem) => some (Sum.inr (q_10, M_11)))))
theorem ok_f_X2_sum {E : En} (hE : EOk E) (hN : NOk E) {fr lo : Nat} (hfr : 10 ≤ fr) (hlo : 500 ≤ lo) {rec : Nat → Nat → Mem → Option ((Nat × Mem) ⊕ (Nat × Mem))} {N : Nat} {LC LZ : Nat} {p0 : Nat} (hrec : ExOk E rec fr lo LC LZ) {M : Mem} {res : (Nat × Mem) ⊕ (Nat × Mem)} (h : f_X2_sum rec N LC LZ p0 M = some res) : RM E faF yX2_sum cX2_sum 3 (some (.object "TroughTreaty$Part")) (rmX (fr + 1) (lo + 40) LC LZ M) [rf E p0] M ((rsA E) res) := by
  unfold f_X2_sum at h
  refine RM_introX (own := RX2) rfl (by decide) (Nat.le_of_ble_eq_true rfl) rfl (fun G hG hEn hI hX => ?_)
  obtain ⟨Q, eQ⟩ : ∃ Q, Q = QR E G faF ((rsA E) res) (LC - mN M) (LZ - mZ M) := ⟨_, rfl⟩
  show V E G M 0 0 3 0 [(0, rf E p0)] [] (QR E G faF ((rsA E) res) (LC - mN M) (LZ - mZ M))
  rw [← eQ]
  refine V_aload_n hG 0 rfl dX2_sum_0 ?_
  obtain ⟨g_1, h⟩ := gd_of h
  obtain ⟨g_2, h⟩ := gd_of h
  refine V_narrow hEn (fun n1 n2 n3 => ?_)
  obtain ⟨rs_6, hc_3, hl_7, hr_8⟩ := bt_of h
  have ok_9 := hrec.2.2.2.2.2.1 _ _ _ hc_3
  rcases rs_6 with ⟨r_5, M_4⟩ | ⟨q_10, M_11⟩
  · have h := hl_7 r_5 M_4 rfl
    refine V_callV hE hG (ci := 1) (As := []) (rest := []) ok_9 g_1 (by decide) rfl hw_X2_244 hdv_X2_product ⟨Nat.le_refl _, by show 8 + (3 + 11) + lo ≤ lo + 40; omega⟩ rfl rfl (Nat.le_of_ble_eq_true rfl) ⟨by show _ + (LC - mN M) ≤ LC - mN M; omega, by show _ + (LZ - mZ M) ≤ LZ - mZ M; omega⟩ dX2_sum_1 ?_
    refine V_astore_n hG rfl [(1, rf E r_5), (0, rf E p0)] dX2_sum_4 (Nat.le_of_ble_eq_true rfl) rfl ?_
    obtain ⟨rr_23, hL_22, hl_24, hr_19⟩ := bx2_of h
    have J_16 : ∀ q_25 : Nat × Mem, Sum.inl q_25 = rr_23 → V E G q_25.2 (mN q_25.2 - mN M) (mZ q_25.2 - mZ M) 3 45 [(1, rf E q_25.1), (0, rf E p0)] [] Q := by
      intro q_25 e9
      obtain ⟨x1_20, S_21⟩ := q_25
      have h := hl_24 x1_20 S_21 e9.symm
      show V E G S_21 (mN S_21 - mN M) (mZ S_21 - mZ M) 3 45 [(1, rf E x1_20), (0, rf E p0)] [] Q
      refine V_aload_n hG 0 rfl dX2_sum_45 ?_
      obtain ⟨g_26, h⟩ := gd_of h
      refine V_narrow hEn (fun n1 n2 n3 => V_widen (k := LC - mN M) (n := LZ - mZ M) (by omega) (by omega) ?_)
      cases h
      subst eQ
      exact V_aret hG (Or.inr ⟨_, rfl⟩) dX2_sum_46
    refine V_narrow hEn (fun _ _ _ => ?_)
    refine lp_walk (W := fun s_27 : Nat × Mem => V E G s_27.2 (mN s_27.2 - mN M) (mZ s_27.2 - mZ M) 3 5 [(1, rf E s_27.1), (0, rf E p0)] [] Q) ?_ N (r_5, M_4) hL_22
    intro s_27 b_12 hb_13 hk_14 hx_15
    obtain ⟨x1_17, S_18⟩ := s_27
    have hb_13 : f_X2_sum_b1 N rec LC LZ M p0 x1_17 S_18 = some b_12 := hb_13
    unfold f_X2_sum_b1 at hb_13
    show V E G S_18 (mN S_18 - mN M) (mZ S_18 - mZ M) 3 5 [(1, rf E x1_17), (0, rf E p0)] [] Q
    refine V_aload_n hG 1 rfl dX2_sum_5 ?_
    refine V_bipush hG 43 (by decide) dX2_sum_6 ?_
    obtain ⟨g_28, hb_13⟩ := gd_of hb_13
    obtain ⟨g_29, hb_13⟩ := gd_of hb_13
    refine V_narrow hEn (fun n1 n2 n3 => ?_)
    obtain ⟨r_31, hc_30, hb_13⟩ := bd_of hb_13
    refine V_callV hE hG (ci := 1) (As := [.int 43]) (rest := []) (ok_f_X2_isSign hE hN hc_30) g_28 (by decide) rfl hw_X2_181 hdv_X2_isSign ⟨by show 0 + 1 ≤ fr + 1; omega, by show 8 + (2 + 11) + 0 ≤ lo + 40; omega⟩ rfl rfl (Nat.le_of_ble_eq_true rfl) ⟨by show _ + 0 ≤ LC - mN M; omega, by show _ + 0 ≤ LZ - mZ M; omega⟩ dX2_sum_8 ?_
    obtain ⟨k_32, ek_32, hb_13⟩ := bek1_of hb_13
    have J_33 : ∀ (u_34 : Unit), k_32 u_34 = some b_12 → V E G S_18 (mN S_18 - mN M) (mZ S_18 - mZ M) 3 23 [(1, rf E x1_17), (0, rf E p0)] [] Q := by
      intro u_34 hb_13
      have hb_13 := ek_32 _ _ hb_13
      refine V_aload_n hG 1 rfl dX2_sum_23 ?_
      obtain ⟨g_35, hb_13⟩ := gd_of hb_13
      obtain ⟨g_36, hb_13⟩ := gd_of hb_13
      refine V_narrow hEn (fun n1 n2 n3 => ?_)
      obtain ⟨rs_40, hc_37, hl_41, hr_42⟩ := bt_of hb_13
      have ok_43 := ok_f_X2_knot hE hN hc_37
      rcases rs_40 with ⟨r_39, M_38⟩ | ⟨q_44, M_45⟩
      · have hb_13 := hl_41 r_39 M_38 rfl
        refine V_callV hE hG (ci := 1) (As := []) (rest := []) ok_43 g_35 (by decide) rfl hw_X2_222 hdv_X2_knot ⟨by show 6 + 1 ≤ fr + 1; omega, by show 8 + (2 + 11) + 187 ≤ lo + 40; omega⟩ rfl rfl (Nat.le_of_ble_eq_true rfl) ⟨by show _ + (LC - mN S_18) ≤ LC - mN M; omega, by show _ + (LZ - mZ S_18) ≤ LZ - mZ M; omega⟩ dX2_sum_24 ?_
        refine V_istore_n hG rfl [(2, .int r_39), (1, rf E x1_17), (0, rf E p0)] dX2_sum_27 (Nat.le_of_ble_eq_true rfl) rfl ?_
        obtain ⟨g_46, hb_13⟩ := gd_of hb_13
        obtain ⟨M_47, eM_47, hb_13⟩ := be_of hb_13
        refine nw_X2_225 hG hEn rfl rfl eM_47 g_46 dX2_sum_28 ?_
        refine V_dup hG rfl dX2_sum_31 ?_
        refine V_iload_n hG 0 rfl dX2_sum_32 ?_
        refine V_aload_n hG 1 rfl dX2_sum_33 ?_
        refine V_aload_n hG 2 rfl dX2_sum_34 ?_
        obtain ⟨g_48, hb_13⟩ := gd_of hb_13
        obtain ⟨g_49, hb_13⟩ := gd_of hb_13
        refine V_narrow hEn (fun n1 n2 n3 => ?_)
        obtain ⟨rs_53, hc_50, hl_54, hr_55⟩ := bt_of hb_13
        have ok_56 := hrec.2.2.2.2.2.1 _ _ _ hc_50
        rcases rs_53 with ⟨r_52, M_51⟩ | ⟨q_57, M_58⟩
        · have hb_13 := hl_54 r_52 M_51 rfl
          refine V_callV hE hG (ci := 1) (As := []) (rest := [rf E x1_17, .int r_39, rf E (mN M_38), rf E (mN M_38)]) ok_56 g_48 (by decide) rfl hw_X2_244 hdv_X2_product ⟨Nat.le_refl _, by show 8 + (3 + 11) + lo ≤ lo + 40; omega⟩ rfl rfl (Nat.le_of_ble_eq_true rfl) ⟨by show _ + (LC - mN M_47) ≤ LC - mN M; omega, by show _ + (LZ - mZ M_47) ≤ LZ - mZ M; omega⟩ dX2_sum_35 ?_
          obtain ⟨g_59, hb_13⟩ := gd_of hb_13
          refine V_narrow hEn (fun n1 n2 n3 => ?_)
          obtain ⟨M_61, hc_60, hb_13⟩ := bd_of hb_13
          refine V_callI hE hG (rt := none) (As := [.int r_39, rf E x1_17, rf E r_52]) (rest := [rf E (mN M_38)]) (ok_f_X18_init hE hN hc_60) (lw_meth q975) q155 q973 q974 rfl hdc_X18_init ⟨by show 3 + 1 ≤ fr + 1; omega, by show 8 + (4 + 11) + 81 ≤ lo + 40; omega⟩ rfl rfl (Nat.le_of_ble_eq_true rfl) ⟨by show _ + 0 ≤ LC - mN M; omega, by show _ + 0 ≤ LZ - mZ M; omega⟩ dX2_sum_38 ?_
          obtain ⟨x1_62, ex1_62, hb_13⟩ := be_of hb_13
          refine V_topa ex1_62 ?_
          refine V_astore_n hG rfl [(1, rf E x1_62), (2, .int r_39), (0, rf E p0)] dX2_sum_41 (Nat.le_of_ble_eq_true rfl) rfl ?_
          refine V_goto hG 5 dX2_sum_42 (by decide) ?_
          cases hb_13
          exact V_narrow hEn (fun _ _ _ => V_lv [0, 2] rfl (hk_14 _ rfl))
        · have hb_13 : some (Sum.inl (Sum.inr (Sum.inr (q_57, M_58)))) = some b_12 := hr_55 q_57 M_58 rfl
          cases hb_13
          have e_63 := hx_15 _ rfl
          have h_64 : some (Sum.inr (q_57, M_58)) = some res := hr_19 _ e_63.symm
          cases h_64
          subst eQ
          exact T_callV hE hG (ci := 1) (As := []) (rest := [rf E x1_17, .int r_39, rf E (mN M_38), rf E (mN M_38)]) ok_56 g_48 (by decide) rfl hw_X2_244 hdv_X2_product ⟨Nat.le_refl _, by show 8 + (3 + 11) + lo ≤ lo + 40; omega⟩ rfl rfl (Nat.le_of_ble_eq_true rfl) ⟨by show _ + (LC - mN M_47) ≤ LC - mN M; omega, by show _ + (LZ - mZ M_47) ≤ LZ - mZ M; omega⟩ dX2_sum_35 hX
      · have hb_13 : some (Sum.inl (Sum.inr (Sum.inr (q_44, M_45)))) = some b_12 := hr_42 q_44 M_45 rfl
        cases hb_13
        have e_65 := hx_15 _ rfl
        have h_66 : some (Sum.inr (q_44, M_45)) = some res := hr_19 _ e_65.symm
        cases h_66
        subst eQ
        exact T_callV hE hG (ci := 1) (As := []) (rest := []) ok_43 g_35 (by decide) rfl hw_X2_222 hdv_X2_knot ⟨by show 6 + 1 ≤ fr + 1; omega, by show 8 + (2 + 11) + 187 ≤ lo + 40; omega⟩ rfl rfl (Nat.le_of_ble_eq_true rfl) ⟨by show _ + (LC - mN S_18) ≤ LC - mN M; omega, by show _ + (LZ - mZ S_18) ≤ LZ - mZ M; omega⟩ dX2_sum_24 hX
    refine V_if_ne hG 23 dX2_sum_11 (by decide) (fun c_67 => ?_) (fun c_67 => ?_)
    · have hb_13 := if_f c_67 hb_13
      exact V_narrow hEn (fun _ _ _ => J_33 (()) hb_13)
    · have hb_13 := if_t c_67 hb_13
      refine V_aload_n hG 1 rfl dX2_sum_14 ?_
      refine V_bipush hG 45 (by decide) dX2_sum_15 ?_
      obtain ⟨g_68, hb_13⟩ := gd_of hb_13
      refine V_narrow hEn (fun n1 n2 n3 => ?_)
      obtain ⟨r_70, hc_69, hb_13⟩ := bd_of hb_13
      refine V_callV hE hG (ci := 1) (As := [.int 45]) (rest := []) (ok_f_X2_isSign hE hN hc_69) g_28 (by decide) rfl hw_X2_181 hdv_X2_isSign ⟨by show 0 + 1 ≤ fr + 1; omega, by show 8 + (2 + 11) + 0 ≤ lo + 40; omega⟩ rfl rfl (Nat.le_of_ble_eq_true rfl) ⟨by show _ + 0 ≤ LC - mN M; omega, by show _ + 0 ≤ LZ - mZ M; omega⟩ dX2_sum_17 ?_
      refine V_if_eq hG 45 dX2_sum_20 (by decide) (fun c_71 => ?_) (fun c_71 => ?_)
      · have hb_13 := if_t c_71 hb_13
        cases hb_13
        exact V_narrow hEn (fun _ _ _ => J_16 _ (hx_15 _ rfl))
      · have hb_13 := if_f c_71 hb_13
        exact V_narrow hEn (fun _ _ _ => J_33 (()) hb_13)
  · have h : some (Sum.inr (q_10, M_11)) = some res := hr_8 q_10 M_11 rfl
    cases h
    subst eQ
    exact T_callV hE hG (ci := 1) (As := []) (rest := []) ok_9 g_1 (by decide) rfl hw_X2_244 hdv_X2_product ⟨Nat.le_refl _, by show 8 + (3 + 11) + lo ≤ lo + 40; omega⟩ rfl rfl (Nat.le_of_ble_eq_true rfl) ⟨by show _ + (LC - mN M) ≤ LC - mN M; omega, by show _ + (LZ - mZ M) ≤ LZ - mZ M; omega⟩ dX2_sum_1 hX

def f_X2_trough (N : Nat) (LC LZ : Nat) (p0 : Nat) (M : Mem) : Option ((Mem) ⊕ (Nat × Mem)) :=
gd (mN M + 1 ≤ LC ∧ mZ M + 4 ≤ LZ) (
be (nw M 7 4) fun (M_2 : Mem) =>
gd (mT M_2 p0 = 1) (
bd (mR M_2 p0 7) fun (a_4 : Nat) =>
gd (mT M_2 a_4 = 2) (
bd (mR M_2 a_4 0) fun (a_7 : Nat) =>
gd (mN M_2 ≤ LC ∧ mZ M_2 ≤ LZ) (
bt (f_X2_fresh N LC LZ p0 a_7 M_2) (fun (r_12 : Int32) (M_11 : Mem) =>
gd (mN M_11 ≤ LC ∧ mZ M_11 ≤ LZ) (
bd (f_X11_init (mN M) r_12 M_11) fun (M_21 : Mem) =>
be (mN M) fun (x1_22 : Nat) =>
gd (mT M_21 p0 = 1) (
be (fun (u_26 : Unit) =>
gd (mT M_21 p0 = 1) (
bd (mR M_21 p0 7) fun (a_28 : Nat) =>
gd (mT M_21 a_28 = 2) (
gd (mN M_21 ≤ LC ∧ mZ M_21 ≤ LZ) (
bt (f_X2_number N LC LZ p0 0 (mI M_21 a_28 4) M_21) (fun (r_34 : Int32) (M_33 : Mem) =>
gd (mT M_33 x1_22 = 7) (
be (sI M_33 x1_22 0 r_34) fun (M_42 : Mem) =>
gd (mT M_42 p0 = 1) (
gd (mN M_42 ≤ LC ∧ mZ M_42 ≤ LZ) (
bt (f_X2_number N LC LZ p0 0 99 M_42) (fun (r_48 : Int32) (M_47 : Mem) =>
gd (mT M_47 x1_22 = 7) (
be (sI M_47 x1_22 2 r_48) fun (M_56 : Mem) =>
gd (mT M_56 p0 = 1) (
gd (mN M_56 ≤ LC ∧ mZ M_56 ≤ LZ) (
bt (f_X2_number N LC LZ p0 0 9 M_56) (fun (r_62 : Int32) (M_61 : Mem) =>
gd (mT M_61 x1_22 = 7) (
be (sI M_61 x1_22 3 r_62) fun (M_70 : Mem) =>
gd (mT M_70 p0 = 1) (
bd (mR M_70 p0 7) fun (a_73 : Nat) =>
gd (mT M_70 a_73 = 2) (
bd (mR M_70 a_73 0) fun (a_76 : Nat) =>
gd (mT M_70 a_76 = 3) (
gd (mN M_70 ≤ LC ∧ mZ M_70 ≤ LZ) (
bd2 (f_J2_add a_76 x1_22 M_70) fun (r_82 : Int32) (M_81 : Mem) =>
gd (mN M_81 ≤ LC ∧ mZ M_81 ≤ LZ) (
some (Sum.inl M_81)))))))) (fun (q_67 : Nat) (M_68 : Mem) => some (Sum.inr (q_67, M_68))))))) (fun (q_53 : Nat) (M_54 : Mem) => some (Sum.inr (q_53, M_54))))))) (fun (q_39 : Nat) (M_40 : Mem) => some (Sum.inr (q_39, M_40))))))) fun (k_24 : Unit → Option ((Mem) ⊕ (Nat × Mem))) =>
if mI M_21 p0 3 = 2 then (
bd (mR M_21 p0 7) fun (a_85 : Nat) =>
gd (mT M_21 a_85 = 2) (
bd (mR M_21 a_85 0) fun (a_88 : Nat) =>
gd (mN M_21 ≤ LC ∧ mZ M_21 ≤ LZ) (
bd (f_X10_at N a_88 (mI M_21 p0 4) M_21) fun (r_92 : Int32) =>
if r_92 = (-1) then (
k_24 (()))
else (
gd (mN M_21 ≤ LC ∧ mZ M_21 ≤ LZ) (
bd2 (f_X2_wrong LC LZ p0 3 M_21) fun (r_97 : Nat) (M_96 : Mem) =>
gd (mT M_96 r_97 = 16) (
gd (mN M_96 ≤ LC ∧ mZ M_96 ≤ LZ) (
some (Sum.inr (r_97, M_96)))))))))
else (
k_24 (()))))) (fun (q_17 : Nat) (M_18 : Mem) => some (Sum.inr (q_17, M_18)))))))
def rm_f_X2_trough (LC LZ : Nat) (M : Mem) : Room := { frames := 8, cells := LC - mN M, slots := LZ - mZ M, locals := 232 }
theorem ok_f_X2_trough {E : En} (hE : EOk E) (hN : NOk E) {N : Nat} {LC LZ : Nat} {p0 : Nat} {M : Mem} {res : (Mem) ⊕ (Nat × Mem)} (h : f_X2_trough N LC LZ p0 M = some res) : RM E faF yX2_trough cX2_trough 2 none (rm_f_X2_trough LC LZ M) [rf E p0] M (rsV res) := by
  unfold f_X2_trough at h
  refine RM_introX (own := RX2) rfl (by decide) (Nat.le_of_ble_eq_true rfl) rfl (fun G hG hEn hI hX => ?_)
  obtain ⟨Q, eQ⟩ : ∃ Q, Q = QR E G faF (rsV res) (LC - mN M) (LZ - mZ M) := ⟨_, rfl⟩
  show V E G M 0 0 2 0 [(0, rf E p0)] [] (QR E G faF (rsV res) (LC - mN M) (LZ - mZ M))
  rw [← eQ]
  obtain ⟨g_1, h⟩ := gd_of h
  obtain ⟨M_2, eM_2, h⟩ := be_of h
  refine nw_X2_184 hG hEn rfl rfl eM_2 g_1 dX2_trough_0 ?_
  refine V_dup hG rfl dX2_trough_3 ?_
  refine V_aload_n hG 0 rfl dX2_trough_4 ?_
  refine V_aload_n hG 0 rfl dX2_trough_5 ?_
  obtain ⟨g_3, h⟩ := gd_of h
  obtain ⟨a_4, hr_5, h⟩ := bd_of h
  refine gf_X2_111 hN hG g_3 hr_5 dX2_trough_6 ?_
  obtain ⟨g_6, h⟩ := gd_of h
  obtain ⟨a_7, hr_8, h⟩ := bd_of h
  refine gf_X2_118 hN hG g_6 hr_8 dX2_trough_9 ?_
  obtain ⟨g_9, h⟩ := gd_of h
  refine V_narrow hEn (fun n1 n2 n3 => ?_)
  obtain ⟨rs_13, hc_10, hl_14, hr_15⟩ := bt_of h
  have ok_16 := ok_f_X2_fresh hE hN hc_10
  rcases rs_13 with ⟨r_12, M_11⟩ | ⟨q_17, M_18⟩
  · have h := hl_14 r_12 M_11 rfl
    refine V_callV hE hG (ci := 1) (As := [rf E a_7]) (rest := [rf E (mN M), rf E (mN M)]) ok_16 g_3 (by decide) rfl hw_X2_186 hdv_X2_fresh ⟨Nat.le_of_ble_eq_true rfl, Nat.le_of_ble_eq_true rfl⟩ rfl rfl (Nat.le_of_ble_eq_true rfl) ⟨by show _ + (LC - mN M_2) ≤ LC - mN M; omega, by show _ + (LZ - mZ M_2) ≤ LZ - mZ M; omega⟩ dX2_trough_12 ?_
    obtain ⟨g_19, h⟩ := gd_of h
    refine V_narrow hEn (fun n1 n2 n3 => ?_)
    obtain ⟨M_21, hc_20, h⟩ := bd_of h
    refine V_callI hE hG (rt := none) (As := [.int r_12]) (rest := [rf E (mN M)]) (ok_f_X11_init hE hN hc_20) (lw_meth q761) q145 q759 q760 rfl hdc_X11_init ⟨Nat.le_of_ble_eq_true rfl, Nat.le_of_ble_eq_true rfl⟩ rfl rfl (Nat.le_of_ble_eq_true rfl) ⟨by show _ + 0 ≤ LC - mN M; omega, by show _ + 0 ≤ LZ - mZ M; omega⟩ dX2_trough_15 ?_
    obtain ⟨x1_22, ex1_22, h⟩ := be_of h
    refine V_topa ex1_22 ?_
    refine V_astore_n hG rfl [(1, rf E x1_22), (0, rf E p0)] dX2_trough_18 (Nat.le_of_ble_eq_true rfl) rfl ?_
    refine V_aload_n hG 1 rfl dX2_trough_19 ?_
    obtain ⟨g_23, h⟩ := gd_of h
    refine gf_X2_33 hN hG g_23 dX2_trough_20 ?_
    refine V_iconst hG 2 rfl dX2_trough_23 ?_
    obtain ⟨k_24, ek_24, h⟩ := bek1_of h
    have J_25 : ∀ (u_26 : Unit), k_24 u_26 = some res → V E G M_21 (mN M_21 - mN M) (mZ M_21 - mZ M) 2 51 [(1, rf E x1_22), (0, rf E p0)] [] Q := by
      intro u_26 h
      have h := ek_24 _ _ h
      refine V_aload_n hG 0 rfl dX2_trough_51 ?_
      refine V_aload_n hG 1 rfl dX2_trough_52 ?_
      refine V_iconst hG 0 rfl dX2_trough_53 ?_
      refine V_aload_n hG 1 rfl dX2_trough_54 ?_
      obtain ⟨g_27, h⟩ := gd_of h
      obtain ⟨a_28, hr_29, h⟩ := bd_of h
      refine gf_X2_111 hN hG g_27 hr_29 dX2_trough_55 ?_
      obtain ⟨g_30, h⟩ := gd_of h
      refine gf_X2_146 hN hG g_30 dX2_trough_58 ?_
      obtain ⟨g_31, h⟩ := gd_of h
      refine V_narrow hEn (fun n1 n2 n3 => ?_)
      obtain ⟨rs_35, hc_32, hl_36, hr_37⟩ := bt_of h
      have ok_38 := ok_f_X2_number hE hN hc_32
      rcases rs_35 with ⟨r_34, M_33⟩ | ⟨q_39, M_40⟩
      · have h := hl_36 r_34 M_33 rfl
        refine V_callV hE hG (ci := 1) (As := [.int 0, .int (mI M_21 a_28 4)]) (rest := [rf E x1_22]) ok_38 g_27 (by decide) rfl hw_X2_143 hdv_X2_number ⟨Nat.le_of_ble_eq_true rfl, Nat.le_of_ble_eq_true rfl⟩ rfl rfl (Nat.le_of_ble_eq_true rfl) ⟨by show _ + (LC - mN M_21) ≤ LC - mN M; omega, by show _ + (LZ - mZ M_21) ≤ LZ - mZ M; omega⟩ dX2_trough_61 ?_
        obtain ⟨g_41, h⟩ := gd_of h
        obtain ⟨M_42, eM_42, h⟩ := be_of h
        refine pf_X2_196 hN hG g_41 eM_42 dX2_trough_64 ?_
        have g_43 : mT M_42 x1_22 = 7 := by rw [eM_42]; exact g_41
        refine V_aload_n hG 0 rfl dX2_trough_67 ?_
        refine V_aload_n hG 1 rfl dX2_trough_68 ?_
        refine V_iconst hG 0 rfl dX2_trough_69 ?_
        refine V_bipush hG 99 (by decide) dX2_trough_70 ?_
        obtain ⟨g_44, h⟩ := gd_of h
        obtain ⟨g_45, h⟩ := gd_of h
        refine V_narrow hEn (fun n1 n2 n3 => ?_)
        obtain ⟨rs_49, hc_46, hl_50, hr_51⟩ := bt_of h
        have ok_52 := ok_f_X2_number hE hN hc_46
        rcases rs_49 with ⟨r_48, M_47⟩ | ⟨q_53, M_54⟩
        · have h := hl_50 r_48 M_47 rfl
          refine V_callV hE hG (ci := 1) (As := [.int 0, .int 99]) (rest := [rf E x1_22]) ok_52 g_44 (by decide) rfl hw_X2_143 hdv_X2_number ⟨Nat.le_of_ble_eq_true rfl, Nat.le_of_ble_eq_true rfl⟩ rfl rfl (Nat.le_of_ble_eq_true rfl) ⟨by show _ + (LC - mN M_42) ≤ LC - mN M; omega, by show _ + (LZ - mZ M_42) ≤ LZ - mZ M; omega⟩ dX2_trough_72 ?_
          obtain ⟨g_55, h⟩ := gd_of h
          obtain ⟨M_56, eM_56, h⟩ := be_of h
          refine pf_X2_197 hN hG g_55 eM_56 dX2_trough_75 ?_
          have g_57 : mT M_56 x1_22 = 7 := by rw [eM_56]; exact g_55
          refine V_aload_n hG 0 rfl dX2_trough_78 ?_
          refine V_aload_n hG 1 rfl dX2_trough_79 ?_
          refine V_iconst hG 0 rfl dX2_trough_80 ?_
          refine V_bipush hG 9 (by decide) dX2_trough_81 ?_
          obtain ⟨g_58, h⟩ := gd_of h
          obtain ⟨g_59, h⟩ := gd_of h
          refine V_narrow hEn (fun n1 n2 n3 => ?_)
          obtain ⟨rs_63, hc_60, hl_64, hr_65⟩ := bt_of h
          have ok_66 := ok_f_X2_number hE hN hc_60
          rcases rs_63 with ⟨r_62, M_61⟩ | ⟨q_67, M_68⟩
          · have h := hl_64 r_62 M_61 rfl
            refine V_callV hE hG (ci := 1) (As := [.int 0, .int 9]) (rest := [rf E x1_22]) ok_66 g_58 (by decide) rfl hw_X2_143 hdv_X2_number ⟨Nat.le_of_ble_eq_true rfl, Nat.le_of_ble_eq_true rfl⟩ rfl rfl (Nat.le_of_ble_eq_true rfl) ⟨by show _ + (LC - mN M_56) ≤ LC - mN M; omega, by show _ + (LZ - mZ M_56) ≤ LZ - mZ M; omega⟩ dX2_trough_83 ?_
            obtain ⟨g_69, h⟩ := gd_of h
            obtain ⟨M_70, eM_70, h⟩ := be_of h
            refine pf_X2_200 hN hG g_69 eM_70 dX2_trough_86 ?_
            have g_71 : mT M_70 x1_22 = 7 := by rw [eM_70]; exact g_69
            refine V_aload_n hG 1 rfl dX2_trough_89 ?_
            obtain ⟨g_72, h⟩ := gd_of h
            obtain ⟨a_73, hr_74, h⟩ := bd_of h
            refine gf_X2_111 hN hG g_72 hr_74 dX2_trough_90 ?_
            obtain ⟨g_75, h⟩ := gd_of h
            obtain ⟨a_76, hr_77, h⟩ := bd_of h
            refine gf_X2_118 hN hG g_75 hr_77 dX2_trough_93 ?_
            refine V_aload_n hG 0 rfl dX2_trough_96 ?_
            obtain ⟨g_78, h⟩ := gd_of h
            obtain ⟨g_79, h⟩ := gd_of h
            refine V_narrow hEn (fun n1 n2 n3 => ?_)
            obtain ⟨r_82, M_81, hc_80, h⟩ := bd2_of h
            refine V_callV hE hG (ci := 3) (As := [rf E x1_22]) (rest := []) (ok_f_J2_add hE hN hc_80) g_78 (by decide) rfl hw_X2_163 hdv_J2_add ⟨Nat.le_of_ble_eq_true rfl, Nat.le_of_ble_eq_true rfl⟩ rfl rfl (Nat.le_of_ble_eq_true rfl) ⟨by show _ + 0 ≤ LC - mN M; omega, by show _ + 0 ≤ LZ - mZ M; omega⟩ dX2_trough_97 ?_
            refine V_pop hG rfl dX2_trough_100 ?_
            obtain ⟨g_83, h⟩ := gd_of h
            refine V_narrow hEn (fun n1 n2 n3 => V_widen (k := LC - mN M) (n := LZ - mZ M) (by omega) (by omega) ?_)
            cases h
            subst eQ
            exact V_vret hG dX2_trough_101
          · have h : some (Sum.inr (q_67, M_68)) = some res := hr_65 q_67 M_68 rfl
            cases h
            subst eQ
            exact T_callV hE hG (ci := 1) (As := [.int 0, .int 9]) (rest := [rf E x1_22]) ok_66 g_58 (by decide) rfl hw_X2_143 hdv_X2_number ⟨Nat.le_of_ble_eq_true rfl, Nat.le_of_ble_eq_true rfl⟩ rfl rfl (Nat.le_of_ble_eq_true rfl) ⟨by show _ + (LC - mN M_56) ≤ LC - mN M; omega, by show _ + (LZ - mZ M_56) ≤ LZ - mZ M; omega⟩ dX2_trough_83 hX
        · have h : some (Sum.inr (q_53, M_54)) = some res := hr_51 q_53 M_54 rfl
          cases h
          subst eQ
          exact T_callV hE hG (ci := 1) (As := [.int 0, .int 99]) (rest := [rf E x1_22]) ok_52 g_44 (by decide) rfl hw_X2_143 hdv_X2_number ⟨Nat.le_of_ble_eq_true rfl, Nat.le_of_ble_eq_true rfl⟩ rfl rfl (Nat.le_of_ble_eq_true rfl) ⟨by show _ + (LC - mN M_42) ≤ LC - mN M; omega, by show _ + (LZ - mZ M_42) ≤ LZ - mZ M; omega⟩ dX2_trough_72 hX
      · have h : some (Sum.inr (q_39, M_40)) = some res := hr_37 q_39 M_40 rfl
        cases h
        subst eQ
        exact T_callV hE hG (ci := 1) (As := [.int 0, .int (mI M_21 a_28 4)]) (rest := [rf E x1_22]) ok_38 g_27 (by decide) rfl hw_X2_143 hdv_X2_number ⟨Nat.le_of_ble_eq_true rfl, Nat.le_of_ble_eq_true rfl⟩ rfl rfl (Nat.le_of_ble_eq_true rfl) ⟨by show _ + (LC - mN M_21) ≤ LC - mN M; omega, by show _ + (LZ - mZ M_21) ≤ LZ - mZ M; omega⟩ dX2_trough_61 hX
    refine V_icmp_ne hG 51 dX2_trough_24 (by decide) (fun c_84 => ?_) (fun c_84 => ?_)
    · have h := if_f c_84 h
      exact V_narrow hEn (fun _ _ _ => J_25 (()) h)
    · have h := if_t c_84 h
      refine V_aload_n hG 1 rfl dX2_trough_27 ?_
      obtain ⟨a_85, hr_86, h⟩ := bd_of h
      refine gf_X2_111 hN hG g_23 hr_86 dX2_trough_28 ?_
      obtain ⟨g_87, h⟩ := gd_of h
      obtain ⟨a_88, hr_89, h⟩ := bd_of h
      refine gf_X2_118 hN hG g_87 hr_89 dX2_trough_31 ?_
      refine V_aload_n hG 1 rfl dX2_trough_34 ?_
      refine gf_X2_47 hN hG g_23 dX2_trough_35 ?_
      obtain ⟨g_90, h⟩ := gd_of h
      refine V_narrow hEn (fun n1 n2 n3 => ?_)
      obtain ⟨r_92, hc_91, h⟩ := bd_of h
      refine V_callS hE hG (As := [rf E a_88, .int (mI M_21 p0 4)]) (rest := []) (ok_f_X10_at hE hN hc_91) hw_X2_192 hdc_X10_at ⟨Nat.le_of_ble_eq_true rfl, Nat.le_of_ble_eq_true rfl⟩ rfl rfl (Nat.le_of_ble_eq_true rfl) ⟨by show _ + 0 ≤ LC - mN M; omega, by show _ + 0 ≤ LZ - mZ M; omega⟩ dX2_trough_38 ?_
      refine V_iconst hG (-1) rfl dX2_trough_41 ?_
      refine V_icmp_eq hG 51 dX2_trough_42 (by decide) (fun c_93 => ?_) (fun c_93 => ?_)
      · have h := if_t c_93 h
        exact V_narrow hEn (fun _ _ _ => J_25 (()) h)
      · have h := if_f c_93 h
        refine V_aload_n hG 1 rfl dX2_trough_45 ?_
        refine V_iconst hG 3 rfl dX2_trough_46 ?_
        obtain ⟨g_94, h⟩ := gd_of h
        refine V_narrow hEn (fun n1 n2 n3 => ?_)
        obtain ⟨r_97, M_96, hc_95, h⟩ := bd2_of h
        refine V_callV hE hG (ci := 1) (As := [.int 3]) (rest := []) (ok_f_X2_wrong hE hN hc_95) g_23 (by decide) rfl hw_X2_85 hdv_X2_wrong ⟨Nat.le_of_ble_eq_true rfl, Nat.le_of_ble_eq_true rfl⟩ rfl rfl (Nat.le_of_ble_eq_true rfl) ⟨by show _ + (LC - mN M_21) ≤ LC - mN M; omega, by show _ + (LZ - mZ M_21) ≤ LZ - mZ M; omega⟩ dX2_trough_47 ?_
        obtain ⟨g_98, h⟩ := gd_of h
        obtain ⟨g_99, h⟩ := gd_of h
        refine V_narrow hEn (fun n1 n2 n3 => ?_)
        cases h
        subst eQ
        exact T_athrow hG (ci := 16) g_98 (by decide) rfl rfl rfl ⟨by show _ ≤ LC - mN M; omega, by show _ ≤ LZ - mZ M; omega⟩ dX2_trough_50 hX
  · have h : some (Sum.inr (q_17, M_18)) = some res := hr_15 q_17 M_18 rfl
    cases h
    subst eQ
    exact T_callV hE hG (ci := 1) (As := [rf E a_7]) (rest := [rf E (mN M), rf E (mN M)]) ok_16 g_3 (by decide) rfl hw_X2_186 hdv_X2_fresh ⟨Nat.le_of_ble_eq_true rfl, Nat.le_of_ble_eq_true rfl⟩ rfl rfl (Nat.le_of_ble_eq_true rfl) ⟨by show _ + (LC - mN M_2) ≤ LC - mN M; omega, by show _ + (LZ - mZ M_2) ≤ LZ - mZ M; omega⟩ dX2_trough_12 hX

def pex (N LC LZ : Nat) : Nat → Nat → Nat → Mem → Option ((Nat × Mem) ⊕ (Nat × Mem))
  | 0, _, _, _ => none
  | d + 1, j, p0, M =>
    if j = 0 then f_X2_or (pex N LC LZ d) N LC LZ p0 M else
    if j = 1 then f_X2_and (pex N LC LZ d) N LC LZ p0 M else
    if j = 2 then f_X2_not (pex N LC LZ d) N LC LZ p0 M else
    if j = 3 then f_X2_compare (pex N LC LZ d) N LC LZ p0 M else
    if j = 4 then f_X2_sum (pex N LC LZ d) N LC LZ p0 M else
    if j = 5 then f_X2_product (pex N LC LZ d) N LC LZ p0 M else
    gd (j = 6) (f_X2_one (pex N LC LZ d) N LC LZ p0 M)
theorem pex_ok {E : En} (hE : EOk E) (hN : NOk E) (N LC LZ : Nat) : ∀ d : Nat, ExOk E (pex N LC LZ d) (d + 10) (40 * d + 500) LC LZ
  | 0 => by
    unfold ExOk
    exact ⟨fun _ _ _ h => (by cases h), fun _ _ _ h => (by cases h), fun _ _ _ h => (by cases h), fun _ _ _ h => (by cases h), fun _ _ _ h => (by cases h), fun _ _ _ h => (by cases h), fun _ _ _ h => (by cases h)⟩
  | d + 1 => by
    have ih := pex_ok hE hN N LC LZ d
    unfold ExOk
    refine ⟨fun p0 M res h => ?_, fun p0 M res h => ?_, fun p0 M res h => ?_, fun p0 M res h => ?_, fun p0 M res h => ?_, fun p0 M res h => ?_, fun p0 M res h => ?_⟩
    · have h : f_X2_or (pex N LC LZ d) N LC LZ p0 M = some res := by simpa [pex, gd] using h
      exact ok_f_X2_or hE hN (fr := d + 10) (lo := 40 * d + 500) (by omega) (by omega) ih h
    · have h : f_X2_and (pex N LC LZ d) N LC LZ p0 M = some res := by simpa [pex, gd] using h
      exact ok_f_X2_and hE hN (fr := d + 10) (lo := 40 * d + 500) (by omega) (by omega) ih h
    · have h : f_X2_not (pex N LC LZ d) N LC LZ p0 M = some res := by simpa [pex, gd] using h
      exact ok_f_X2_not hE hN (fr := d + 10) (lo := 40 * d + 500) (by omega) (by omega) ih h
    · have h : f_X2_compare (pex N LC LZ d) N LC LZ p0 M = some res := by simpa [pex, gd] using h
      exact ok_f_X2_compare hE hN (fr := d + 10) (lo := 40 * d + 500) (by omega) (by omega) ih h
    · have h : f_X2_sum (pex N LC LZ d) N LC LZ p0 M = some res := by simpa [pex, gd] using h
      exact ok_f_X2_sum hE hN (fr := d + 10) (lo := 40 * d + 500) (by omega) (by omega) ih h
    · have h : f_X2_product (pex N LC LZ d) N LC LZ p0 M = some res := by simpa [pex, gd] using h
      exact ok_f_X2_product hE hN (fr := d + 10) (lo := 40 * d + 500) (by omega) (by omega) ih h
    · have h : f_X2_one (pex N LC LZ d) N LC LZ p0 M = some res := by simpa [pex, gd] using h
      exact ok_f_X2_one hE hN (fr := d + 10) (lo := 40 * d + 500) (by omega) (by omega) ih h
def f_X2_orT (N LC LZ p0 : Nat) (M : Mem) : Option ((Nat × Mem) ⊕ (Nat × Mem)) := pex N LC LZ 200 0 p0 M
theorem ok_f_X2_orT {E : En} (hE : EOk E) (hN : NOk E) {N LC LZ p0 : Nat} {M : Mem} {res : (Nat × Mem) ⊕ (Nat × Mem)} (h : f_X2_orT N LC LZ p0 M = some res) : RM E faF yX2_or cX2_or 3 (some (.object "TroughTreaty$Part")) (rmX 210 8500 LC LZ M) [rf E p0] M (rsA E res) := (pex_ok hE hN N LC LZ 200).1 p0 M res h
