set_option maxRecDepth 100000
set_option maxHeartbeats 4000000
theorem C_text {E : En} {G : Ctx} {M M' : Mem} {cells slots nL : Nat} {lv : List (Nat × Value)} {st0 : List Value} {Q : State → Prop} {cc : ByteArray} {ret : Option FieldType} {rm0 : Room} (hE : EOk E) (hG : Cx E G cc nL ret RX1 rm0) (hN : NOk E) (htb : Tab G = tableOf [(32, 44, 47, 155)]) {y : MethodName} {bytes : ByteArray} {maxL n index q : Nat} {rt : Option FieldType} {rm : Room} {As rest : List Value} {a ci N : Nat} {C : String} {T : u_T} (hM : RM E faF y bytes maxL rt rm (rf E a :: As) M (.inr (q, M'))) (hT : mT M a = ci) (h99 : ci < 98) (hc : vwCl[ci]? = some (C, T, N)) (hW : GoodIn lw_all (wsV RX1 index C y (ws_ y bytes maxL rt))) (hd : y.cls = C ∧ y.cls ≠ "java/lang/invoke/MethodHandle" ∧ y.cls ≠ "java/lang/invoke/VarHandle" ∧ (parseMethodDescriptor y.desc).map (fun d => d.parameters.length) = some n) (hR9 : rm.frames + 1 ≤ rm0.frames ∧ 8 + (maxL + 11) + rm.locals ≤ rm0.locals) (hn : As.length = n) (hst : st0 = As.reverse ++ rf E a :: rest) (hcat : (rest.map fun v => v.category).sum ≤ 8) (hf : cells + rm.cells ≤ rm0.cells ∧ slots + rm.slots ≤ rm0.slots) (d : decode cc 38 = .ok (.invokevirtual index, 3)) (k : V E G M' (cells + rm.cells) (slots + rm.slots) nL 47 lv [rf E q] Q) : V E G M cells slots nL 38 lv st0 Q := by
  obtain ⟨p, e, R, s, m, args, below, meth, c⟩ := G
  obtain ⟨hx, hb, hml, hown, hts, hr, hlk, hRm, hK, hbs, hKs⟩ := hG
  intro H locs ls hR hS hl
  subst hRm
  obtain ⟨fs, g1, -, -⟩ := hR.obj hT h99
  have hM : TM E y bytes maxL rt rm (rf E a :: As) M faF.1 (faF.2 E q) M' := hM
  exact V_catchR (vx_runV (As := As) (rest := rest) ⟨hx, hb, hml, hown, hts⟩ hM (cwV n hts hW rfl rfl rfl hd hR9) ⟨KX.blind hE, va_recv hK (oneP g1) hc (q0 := 0) rfl, fun U hU hW => ⟨rfl, by rw [hU]; exact hR, KX.at hE ⟨hK, hbs, hKs⟩ hS hU hW⟩⟩ rfl hn hl.1 hst (lv_room hcat) d hf) hS hl hown [] _ [] htb (fun z hz => by cases hz) (by decide) (by decide) (hts _ q503) (va_Nw.use rfl (hN.1 s hKs _ q661 rfl)) (fun q9 hq9 => by rw [show q9 = E.2.1 + q from hq9]; exact k)
theorem pf_X1_73 {E : En} {G : Ctx} {M M1 : Mem} {cells slots nL pc : Nat} {lv : List (Nat × Value)} {st : List Value} {Q : State → Prop} {cc : ByteArray} {ret : Option FieldType} {rm0 : Room} (hN : NOk E) (hG : Cx E G cc nL ret RX1 rm0) (hI : IsInit G) {a : Nat} {x : Nat} (hT : mT M a = 0) (hM1 : M1 = sR M a 0 (some x)) (d : decode cc pc = .ok (.putfield 73, 3)) (kk : V E G M1 cells slots nL (pc + 3) lv st Q) : V E G M cells slots nL pc lv (rf E x :: rf E a :: st) Q := V_putQF (M := M) hG (a := a) (ci := 0) (C := RX1) (T := TX1) (N := 19) (k := 0) (x := some x) (ty := tyX1 0) hT (by decide) rfl in_X1 (by decide) tyX1 tyX1_ok nmX1 rfl rfl hI (by decide +kernel) (Or.inr ⟨_, rfl⟩) rfl q429 d (by rw [← hM1]; exact kk)
theorem pf_X1_77 {E : En} {G : Ctx} {M M1 : Mem} {cells slots nL pc : Nat} {lv : List (Nat × Value)} {st : List Value} {Q : State → Prop} {cc : ByteArray} {ret : Option FieldType} {rm0 : Room} (hN : NOk E) (hG : Cx E G cc nL ret RX1 rm0) {a : Nat} {x : Int32} (hT : mT M a = 0) (hM1 : M1 = sI M a 3 x) (d : decode cc pc = .ok (.putfield 77, 3)) (kk : V E G M1 cells slots nL (pc + 3) lv st Q) : V E G M cells slots nL pc lv (.int x :: rf E a :: st) Q := W_putPI hG (ci := 0) (C := RX1) (T := TX1) (N := 19) (k := 3) hT (by decide) rfl in_X1 (by decide) (Or.inl rfl) tyX1 tyX1_ok nmX1 rfl (by decide +kernel) rfl q432 M1 hM1 d kk
theorem nw_X1_81 {E : En} {G : Ctx} {M M1 : Mem} {cells slots nL pc : Nat} {lv : List (Nat × Value)} {st : List Value} {Q : State → Prop} {cc : ByteArray} {ret : Option FieldType} {rm0 : Room} (hG : Cx E G cc nL ret RX1 rm0) {Me : Mem} (hEn : Ent E G Me) {LC LZ : Nat} (hrc : rm0.cells = LC - mN Me) (hrs : rm0.slots = LZ - mZ Me) (hM1 : M1 = nw M 1 9) (hg : mN M + 1 ≤ LC ∧ mZ M + 9 ≤ LZ) (d : decode cc pc = .ok (.new 81, 3)) (kk : V E G M1 (mN M1 - mN Me) (mZ M1 - mZ Me) nL (pc + 3) lv (rf E (mN M) :: st) Q) : V E G M cells slots nL pc lv st Q := by
  subst hM1
  refine V_narrow hEn (fun h1 h2 h3 => ?_)
  exact V_new hG (ci := 1) (C := RX2) (T := TX2) (N := 9) (by decide) rfl in_X2 tyX2 tyX2_ok (by decide +kernel) q172 q173 q124 (by rw [hrc]; omega) (by rw [hrs]; omega) d (V_narrow hEn (fun _ _ _ => kk))
theorem hdc_X2_init : yX2_init.cls ≠ "java/lang/invoke/MethodHandle" ∧ yX2_init.cls ≠ "java/lang/invoke/VarHandle" ∧ (parseMethodDescriptor yX2_init.desc).map (fun d => d.parameters.length) = some 1 := by decide +kernel
theorem pf_X1_86 {E : En} {G : Ctx} {M M1 : Mem} {cells slots nL pc : Nat} {lv : List (Nat × Value)} {st : List Value} {Q : State → Prop} {cc : ByteArray} {ret : Option FieldType} {rm0 : Room} (hN : NOk E) (hG : Cx E G cc nL ret RX1 rm0) (hI : IsInit G) {a : Nat} {x : Nat} (hT : mT M a = 0) (hM1 : M1 = sR M a 5 (some x)) (d : decode cc pc = .ok (.putfield 86, 3)) (kk : V E G M1 cells slots nL (pc + 3) lv st Q) : V E G M cells slots nL pc lv (rf E x :: rf E a :: st) Q := V_putQF (M := M) hG (a := a) (ci := 0) (C := RX1) (T := TX1) (N := 19) (k := 5) (x := some x) (ty := .object "TroughTreaty$Reader") hT (by decide) rfl in_X1 (by decide) tyX1 tyX1_ok nmX1 rfl rfl hI (by decide +kernel) (Or.inl ⟨_, rfl⟩) rfl q434 d (by rw [← hM1]; exact kk)
theorem nw_X1_18 {E : En} {G : Ctx} {M M1 : Mem} {cells slots nL pc : Nat} {lv : List (Nat × Value)} {st : List Value} {Q : State → Prop} {cc : ByteArray} {ret : Option FieldType} {rm0 : Room} (hG : Cx E G cc nL ret RX1 rm0) {Me : Mem} (hEn : Ent E G Me) {LC LZ : Nat} (hrc : rm0.cells = LC - mN Me) (hrs : rm0.slots = LZ - mZ Me) (hM1 : M1 = nw M 2 9) (hg : mN M + 1 ≤ LC ∧ mZ M + 9 ≤ LZ) (d : decode cc pc = .ok (.new 18, 3)) (kk : V E G M1 (mN M1 - mN Me) (mZ M1 - mZ Me) nL (pc + 3) lv (rf E (mN M) :: st) Q) : V E G M cells slots nL pc lv st Q := by
  subst hM1
  refine V_narrow hEn (fun h1 h2 h3 => ?_)
  exact V_new hG (ci := 2) (C := RX3) (T := TX3) (N := 9) (by decide) rfl in_X3 tyX3 tyX3_ok (by decide +kernel) q207 q208 q125 (by rw [hrc]; omega) (by rw [hrs]; omega) d (V_narrow hEn (fun _ _ _ => kk))
theorem pf_X1_13 {E : En} {G : Ctx} {M M1 : Mem} {cells slots nL pc : Nat} {lv : List (Nat × Value)} {st : List Value} {Q : State → Prop} {cc : ByteArray} {ret : Option FieldType} {rm0 : Room} (hN : NOk E) (hG : Cx E G cc nL ret RX1 rm0) {a : Nat} {x : Nat} (hT : mT M a = 0) (hM1 : M1 = sR M a 6 (some x)) (d : decode cc pc = .ok (.putfield 13, 3)) (kk : V E G M1 cells slots nL (pc + 3) lv st Q) : V E G M cells slots nL pc lv (rf E x :: rf E a :: st) Q := W_putPQ hG (ci := 0) (C := RX1) (T := TX1) (N := 19) (k := 6) (x := some x) (ty := .object "TroughTreaty$Road") hT (by decide) rfl in_X1 (by decide) (Or.inl rfl) tyX1 tyX1_ok nmX1 rfl (by decide +kernel) (Or.inl ⟨_, rfl⟩) rfl q436 M1 hM1 d kk
theorem pf_X1_46 {E : En} {G : Ctx} {M M1 : Mem} {cells slots nL pc : Nat} {lv : List (Nat × Value)} {st : List Value} {Q : State → Prop} {cc : ByteArray} {ret : Option FieldType} {rm0 : Room} (hN : NOk E) (hG : Cx E G cc nL ret RX1 rm0) (hI : IsInit G) {a : Nat} {x : Nat} (hT : mT M a = 0) (hM1 : M1 = sR M a 7 (some x)) (d : decode cc pc = .ok (.putfield 46, 3)) (kk : V E G M1 cells slots nL (pc + 3) lv st Q) : V E G M cells slots nL pc lv (rf E x :: rf E a :: st) Q := V_putQF (M := M) hG (a := a) (ci := 0) (C := RX1) (T := TX1) (N := 19) (k := 7) (x := some x) (ty := tyX1 7) hT (by decide) rfl in_X1 (by decide) tyX1 tyX1_ok nmX1 rfl rfl hI (by decide +kernel) (Or.inr ⟨_, rfl⟩) rfl q437 d (by rw [← hM1]; exact kk)
theorem nw_X1_91 {E : En} {G : Ctx} {M M1 : Mem} {cells slots nL pc : Nat} {lv : List (Nat × Value)} {st : List Value} {Q : State → Prop} {cc : ByteArray} {ret : Option FieldType} {rm0 : Room} (hG : Cx E G cc nL ret RX1 rm0) {Me : Mem} (hEn : Ent E G Me) {LC LZ : Nat} (hrc : rm0.cells = LC - mN Me) (hrs : rm0.slots = LZ - mZ Me) (hM1 : M1 = nw M 4 2) (hg : mN M + 1 ≤ LC ∧ mZ M + 2 ≤ LZ) (d : decode cc pc = .ok (.new 91, 3)) (kk : V E G M1 (mN M1 - mN Me) (mZ M1 - mZ Me) nL (pc + 3) lv (rf E (mN M) :: st) Q) : V E G M cells slots nL pc lv st Q := by
  subst hM1
  refine V_narrow hEn (fun h1 h2 h3 => ?_)
  exact V_new hG (ci := 4) (C := RX5) (T := TX5) (N := 2) (by decide) rfl in_X5 tyX5 tyX5_ok (by decide +kernel) q288 q289 q130 (by rw [hrc]; omega) (by rw [hrs]; omega) d (V_narrow hEn (fun _ _ _ => kk))
theorem hdc_X5_init : yX5_init.cls ≠ "java/lang/invoke/MethodHandle" ∧ yX5_init.cls ≠ "java/lang/invoke/VarHandle" ∧ (parseMethodDescriptor yX5_init.desc).map (fun d => d.parameters.length) = some 1 := by decide +kernel
theorem pf_X1_94 {E : En} {G : Ctx} {M M1 : Mem} {cells slots nL pc : Nat} {lv : List (Nat × Value)} {st : List Value} {Q : State → Prop} {cc : ByteArray} {ret : Option FieldType} {rm0 : Room} (hN : NOk E) (hG : Cx E G cc nL ret RX1 rm0) (hI : IsInit G) {a : Nat} {x : Nat} (hT : mT M a = 0) (hM1 : M1 = sR M a 8 (some x)) (d : decode cc pc = .ok (.putfield 94, 3)) (kk : V E G M1 cells slots nL (pc + 3) lv st Q) : V E G M cells slots nL pc lv (rf E x :: rf E a :: st) Q := V_putQF (M := M) hG (a := a) (ci := 0) (C := RX1) (T := TX1) (N := 19) (k := 8) (x := some x) (ty := .object "TroughTreaty$Nature") hT (by decide) rfl in_X1 (by decide) tyX1 tyX1_ok nmX1 rfl rfl hI (by decide +kernel) (Or.inl ⟨_, rfl⟩) rfl q439 d (by rw [← hM1]; exact kk)
theorem pf_X1_101 {E : En} {G : Ctx} {M M1 : Mem} {cells slots nL pc : Nat} {lv : List (Nat × Value)} {st : List Value} {Q : State → Prop} {cc : ByteArray} {ret : Option FieldType} {rm0 : Room} (hN : NOk E) (hG : Cx E G cc nL ret RX1 rm0) (hI : IsInit G) {a : Nat} {x : Nat} (hT : mT M a = 0) (hM1 : M1 = sR M a 9 (some x)) (d : decode cc pc = .ok (.putfield 101, 3)) (kk : V E G M1 cells slots nL (pc + 3) lv st Q) : V E G M cells slots nL pc lv (rf E x :: rf E a :: st) Q := V_putQF (M := M) hG (a := a) (ci := 0) (C := RX1) (T := TX1) (N := 19) (k := 9) (x := some x) (ty := .object "TroughTreaty$State") hT (by decide) rfl in_X1 (by decide) tyX1 tyX1_ok nmX1 rfl rfl hI (by decide +kernel) (Or.inl ⟨_, rfl⟩) rfl q441 d (by rw [← hM1]; exact kk)
theorem pf_X1_105 {E : En} {G : Ctx} {M M1 : Mem} {cells slots nL pc : Nat} {lv : List (Nat × Value)} {st : List Value} {Q : State → Prop} {cc : ByteArray} {ret : Option FieldType} {rm0 : Room} (hN : NOk E) (hG : Cx E G cc nL ret RX1 rm0) (hI : IsInit G) {a : Nat} {x : Nat} (hT : mT M a = 0) (hM1 : M1 = sR M a 10 (some x)) (d : decode cc pc = .ok (.putfield 105, 3)) (kk : V E G M1 cells slots nL (pc + 3) lv st Q) : V E G M cells slots nL pc lv (rf E x :: rf E a :: st) Q := V_putQF (M := M) hG (a := a) (ci := 0) (C := RX1) (T := TX1) (N := 19) (k := 10) (x := some x) (ty := .object "TroughTreaty$State") hT (by decide) rfl in_X1 (by decide) tyX1 tyX1_ok nmX1 rfl rfl hI (by decide +kernel) (Or.inl ⟨_, rfl⟩) rfl q442 d (by rw [← hM1]; exact kk)
theorem pf_X1_108 {E : En} {G : Ctx} {M M1 : Mem} {cells slots nL pc : Nat} {lv : List (Nat × Value)} {st : List Value} {Q : State → Prop} {cc : ByteArray} {ret : Option FieldType} {rm0 : Room} (hN : NOk E) (hG : Cx E G cc nL ret RX1 rm0) (hI : IsInit G) {a : Nat} {x : Nat} (hT : mT M a = 0) (hM1 : M1 = sR M a 11 (some x)) (d : decode cc pc = .ok (.putfield 108, 3)) (kk : V E G M1 cells slots nL (pc + 3) lv st Q) : V E G M cells slots nL pc lv (rf E x :: rf E a :: st) Q := V_putQF (M := M) hG (a := a) (ci := 0) (C := RX1) (T := TX1) (N := 19) (k := 11) (x := some x) (ty := .object "TroughTreaty$State") hT (by decide) rfl in_X1 (by decide) tyX1 tyX1_ok nmX1 rfl rfl hI (by decide +kernel) (Or.inl ⟨_, rfl⟩) rfl q443 d (by rw [← hM1]; exact kk)
theorem pf_X1_111 {E : En} {G : Ctx} {M M1 : Mem} {cells slots nL pc : Nat} {lv : List (Nat × Value)} {st : List Value} {Q : State → Prop} {cc : ByteArray} {ret : Option FieldType} {rm0 : Room} (hN : NOk E) (hG : Cx E G cc nL ret RX1 rm0) (hI : IsInit G) {a : Nat} {x : Nat} (hT : mT M a = 0) (hM1 : M1 = sR M a 12 (some x)) (d : decode cc pc = .ok (.putfield 111, 3)) (kk : V E G M1 cells slots nL (pc + 3) lv st Q) : V E G M cells slots nL pc lv (rf E x :: rf E a :: st) Q := V_putQF (M := M) hG (a := a) (ci := 0) (C := RX1) (T := TX1) (N := 19) (k := 12) (x := some x) (ty := tyX1 12) hT (by decide) rfl in_X1 (by decide) tyX1 tyX1_ok nmX1 rfl rfl hI (by decide +kernel) (Or.inr ⟨_, rfl⟩) rfl q444 d (by rw [← hM1]; exact kk)
theorem pf_X1_115 {E : En} {G : Ctx} {M M1 : Mem} {cells slots nL pc : Nat} {lv : List (Nat × Value)} {st : List Value} {Q : State → Prop} {cc : ByteArray} {ret : Option FieldType} {rm0 : Room} (hN : NOk E) (hG : Cx E G cc nL ret RX1 rm0) (hI : IsInit G) {a : Nat} {x : Nat} (hT : mT M a = 0) (hM1 : M1 = sR M a 14 (some x)) (d : decode cc pc = .ok (.putfield 115, 3)) (kk : V E G M1 cells slots nL (pc + 3) lv st Q) : V E G M cells slots nL pc lv (rf E x :: rf E a :: st) Q := V_putQF (M := M) hG (a := a) (ci := 0) (C := RX1) (T := TX1) (N := 19) (k := 14) (x := some x) (ty := tyX1 14) hT (by decide) rfl in_X1 (by decide) tyX1 tyX1_ok nmX1 rfl rfl hI (by decide +kernel) (Or.inr ⟨_, rfl⟩) rfl q446 d (by rw [← hM1]; exact kk)
theorem pf_X1_119 {E : En} {G : Ctx} {M M1 : Mem} {cells slots nL pc : Nat} {lv : List (Nat × Value)} {st : List Value} {Q : State → Prop} {cc : ByteArray} {ret : Option FieldType} {rm0 : Room} (hN : NOk E) (hG : Cx E G cc nL ret RX1 rm0) (hI : IsInit G) {a : Nat} {x : Nat} (hT : mT M a = 0) (hM1 : M1 = sR M a 15 (some x)) (d : decode cc pc = .ok (.putfield 119, 3)) (kk : V E G M1 cells slots nL (pc + 3) lv st Q) : V E G M cells slots nL pc lv (rf E x :: rf E a :: st) Q := V_putQF (M := M) hG (a := a) (ci := 0) (C := RX1) (T := TX1) (N := 19) (k := 15) (x := some x) (ty := tyX1 15) hT (by decide) rfl in_X1 (by decide) tyX1 tyX1_ok nmX1 rfl rfl hI (by decide +kernel) (Or.inr ⟨_, rfl⟩) rfl q447 d (by rw [← hM1]; exact kk)
theorem nw_X1_24 {E : En} {G : Ctx} {M M1 : Mem} {cells slots nL pc : Nat} {lv : List (Nat × Value)} {st : List Value} {Q : State → Prop} {cc : ByteArray} {ret : Option FieldType} {rm0 : Room} (hG : Cx E G cc nL ret RX1 rm0) {Me : Mem} (hEn : Ent E G Me) {LC LZ : Nat} (hrc : rm0.cells = LC - mN Me) (hrs : rm0.slots = LZ - mZ Me) (hM1 : M1 = nw M 3 3) (hg : mN M + 1 ≤ LC ∧ mZ M + 3 ≤ LZ) (d : decode cc pc = .ok (.new 24, 3)) (kk : V E G M1 (mN M1 - mN Me) (mZ M1 - mZ Me) nL (pc + 3) lv (rf E (mN M) :: st) Q) : V E G M cells slots nL pc lv st Q := by
  subst hM1
  refine V_narrow hEn (fun h1 h2 h3 => ?_)
  exact V_new hG (ci := 3) (C := RJ2) (T := TJ2) (N := 3) (by decide) rfl in_J2 tyJ2 tyJ2_ok (by decide +kernel) q386 q214 q128 (by rw [hrc]; omega) (by rw [hrs]; omega) d (V_narrow hEn (fun _ _ _ => kk))
theorem pf_X1_125 {E : En} {G : Ctx} {M M1 : Mem} {cells slots nL pc : Nat} {lv : List (Nat × Value)} {st : List Value} {Q : State → Prop} {cc : ByteArray} {ret : Option FieldType} {rm0 : Room} (hN : NOk E) (hG : Cx E G cc nL ret RX1 rm0) (hI : IsInit G) {a : Nat} {x : Nat} (hT : mT M a = 0) (hM1 : M1 = sR M a 16 (some x)) (d : decode cc pc = .ok (.putfield 125, 3)) (kk : V E G M1 cells slots nL (pc + 3) lv st Q) : V E G M cells slots nL pc lv (rf E x :: rf E a :: st) Q := V_putQF (M := M) hG (a := a) (ci := 0) (C := RX1) (T := TX1) (N := 19) (k := 16) (x := some x) (ty := .object "java/util/ArrayList") hT (by decide) rfl in_X1 (by decide) tyX1 tyX1_ok nmX1 rfl rfl hI (by decide +kernel) (Or.inl ⟨_, rfl⟩) rfl q448 d (by rw [← hM1]; exact kk)
theorem pf_X1_128 {E : En} {G : Ctx} {M M1 : Mem} {cells slots nL pc : Nat} {lv : List (Nat × Value)} {st : List Value} {Q : State → Prop} {cc : ByteArray} {ret : Option FieldType} {rm0 : Room} (hN : NOk E) (hG : Cx E G cc nL ret RX1 rm0) (hI : IsInit G) {a : Nat} {x : Nat} (hT : mT M a = 0) (hM1 : M1 = sR M a 17 (some x)) (d : decode cc pc = .ok (.putfield 128, 3)) (kk : V E G M1 cells slots nL (pc + 3) lv st Q) : V E G M cells slots nL pc lv (rf E x :: rf E a :: st) Q := V_putQF (M := M) hG (a := a) (ci := 0) (C := RX1) (T := TX1) (N := 19) (k := 17) (x := some x) (ty := tyX1 17) hT (by decide) rfl in_X1 (by decide) tyX1 tyX1_ok nmX1 rfl rfl hI (by decide +kernel) (Or.inr ⟨_, rfl⟩) rfl q449 d (by rw [← hM1]; exact kk)
theorem hdc_X1_orNone : yX1_orNone.cls ≠ "java/lang/invoke/MethodHandle" ∧ yX1_orNone.cls ≠ "java/lang/invoke/VarHandle" ∧ (parseMethodDescriptor yX1_orNone.desc).map (fun d => d.parameters.length) = some 1 := by decide +kernel
theorem hw_X1_212 : GoodIn lw_all (va_wsS RX1 212 yX1_orNone (ws_ yX1_orNone cX1_orNone 1 (some .int))) := lw_S q1514 q1515 q123 q1516
theorem gf_X1_216 {E : En} {G : Ctx} {M : Mem} {cells slots nL pc : Nat} {lv : List (Nat × Value)} {st : List Value} {Q : State → Prop} {cc : ByteArray} {ret : Option FieldType} {rm0 : Room} (hN : NOk E) (hG : Cx E G cc nL ret RX1 rm0) {a : Nat} (hT : mT M a = 5) {r : Nat} (hr : mR M a 3 = some r) (d : decode cc pc = .ok (.getfield 216, 3)) (kk : V E G M cells slots nL (pc + 3) lv (rf E r :: st) Q) : V E G M cells slots nL pc lv (rf E a :: st) Q := W_getNR hG (ci := 5) (C := RX6) (T := TX6) (N := 18) (k := 3) hT (by decide) rfl in_X6 (by decide) (Or.inl rfl) hr rfl hN q318 d kk
theorem gf_X1_222 {E : En} {G : Ctx} {M : Mem} {cells slots nL pc : Nat} {lv : List (Nat × Value)} {st : List Value} {Q : State → Prop} {cc : ByteArray} {ret : Option FieldType} {rm0 : Room} (hN : NOk E) (hG : Cx E G cc nL ret RX1 rm0) {a : Nat} (hT : mT M a = 5) {r : Nat} (hr : mR M a 4 = some r) (d : decode cc pc = .ok (.getfield 222, 3)) (kk : V E G M cells slots nL (pc + 3) lv (rf E r :: st) Q) : V E G M cells slots nL pc lv (rf E a :: st) Q := W_getNR hG (ci := 5) (C := RX6) (T := TX6) (N := 18) (k := 4) hT (by decide) rfl in_X6 (by decide) (Or.inl rfl) hr rfl hN q320 d kk
theorem pf_X1_148 {E : En} {G : Ctx} {M M1 : Mem} {cells slots nL pc : Nat} {lv : List (Nat × Value)} {st : List Value} {Q : State → Prop} {cc : ByteArray} {ret : Option FieldType} {rm0 : Room} (hN : NOk E) (hG : Cx E G cc nL ret RX1 rm0) {a : Nat} {x : Int32} (hT : mT M a = 0) (hM1 : M1 = sI M a 2 x) (d : decode cc pc = .ok (.putfield 148, 3)) (kk : V E G M1 cells slots nL (pc + 3) lv st Q) : V E G M cells slots nL pc lv (.int x :: rf E a :: st) Q := W_putPI hG (ci := 0) (C := RX1) (T := TX1) (N := 19) (k := 2) hT (by decide) rfl in_X1 (by decide) (Or.inl rfl) tyX1 tyX1_ok nmX1 rfl (by decide +kernel) rfl q431 M1 hM1 d kk
theorem gf_X1_86 {E : En} {G : Ctx} {M : Mem} {cells slots nL pc : Nat} {lv : List (Nat × Value)} {st : List Value} {Q : State → Prop} {cc : ByteArray} {ret : Option FieldType} {rm0 : Room} (hN : NOk E) (hG : Cx E G cc nL ret RX1 rm0) {a : Nat} (hT : mT M a = 0) {r : Nat} (hr : mR M a 5 = some r) (d : decode cc pc = .ok (.getfield 86, 3)) (kk : V E G M cells slots nL (pc + 3) lv (rf E r :: st) Q) : V E G M cells slots nL pc lv (rf E a :: st) Q := W_getPR hG (ci := 0) (C := RX1) (T := TX1) (N := 19) (k := 5) hT (by decide) rfl in_X1 (by decide) (Or.inl rfl) hr rfl q434 d kk
theorem hdc_X2_read : yX2_read.cls ≠ "java/lang/invoke/MethodHandle" ∧ yX2_read.cls ≠ "java/lang/invoke/VarHandle" ∧ (parseMethodDescriptor yX2_read.desc).map (fun d => d.parameters.length) = some 1 := by decide +kernel
theorem hdv_X2_read : yX2_read.cls = RX2 ∧ yX2_read.cls ≠ "java/lang/invoke/MethodHandle" ∧ yX2_read.cls ≠ "java/lang/invoke/VarHandle" ∧ (parseMethodDescriptor yX2_read.desc).map (fun d => d.parameters.length) = some 1 := by decide +kernel
theorem hw_X1_151 : GoodIn lw_all (wsV RX1 151 RX2 yX2_read (ws_ yX2_read cX2_read 2 (some (.object "TroughTreaty$Road")))) := lw_V q507 q508 q509 q124 q510
theorem hdc_J2_clear : yJ2_clear.cls ≠ "java/lang/invoke/MethodHandle" ∧ yJ2_clear.cls ≠ "java/lang/invoke/VarHandle" ∧ (parseMethodDescriptor yJ2_clear.desc).map (fun d => d.parameters.length) = some 0 := by decide +kernel
theorem hdv_J2_clear : yJ2_clear.cls = RJ2 ∧ yJ2_clear.cls ≠ "java/lang/invoke/MethodHandle" ∧ yJ2_clear.cls ≠ "java/lang/invoke/VarHandle" ∧ (parseMethodDescriptor yJ2_clear.desc).map (fun d => d.parameters.length) = some 0 := by decide +kernel
theorem hw_X1_170 : GoodIn lw_all (wsV RX1 170 RJ2 yJ2_clear (ws_ yJ2_clear cJ2_clear 4 none)) := lw_V q997 q998 q999 q128 q1000
theorem gf_X1_173 {E : En} {G : Ctx} {M : Mem} {cells slots nL pc : Nat} {lv : List (Nat × Value)} {st : List Value} {Q : State → Prop} {cc : ByteArray} {ret : Option FieldType} {rm0 : Room} (hN : NOk E) (hG : Cx E G cc nL ret RX1 rm0) {a : Nat} (hT : mT M a = 2) (d : decode cc pc = .ok (.getfield 173, 3)) (kk : V E G M cells slots nL (pc + 3) lv (.int (mI M a 8) :: st) Q) : V E G M cells slots nL pc lv (rf E a :: st) Q := W_getNI hG (ci := 2) (C := RX3) (T := TX3) (N := 9) (k := 8) hT (by decide) rfl in_X3 (by decide) (Or.inl rfl)  rfl hN q267 d kk
theorem gf_X1_157 {E : En} {G : Ctx} {M : Mem} {cells slots nL pc : Nat} {lv : List (Nat × Value)} {st : List Value} {Q : State → Prop} {cc : ByteArray} {ret : Option FieldType} {rm0 : Room} (hN : NOk E) (hG : Cx E G cc nL ret RX1 rm0) {a : Nat} (hT : mT M a = 16) (d : decode cc pc = .ok (.getfield 157, 3)) (kk : V E G M cells slots nL (pc + 3) lv (.int (mI M a 6) :: st) Q) : V E G M cells slots nL pc lv (rf E a :: st) Q := W_getNI hG (ci := 16) (C := RX8) (T := TX8) (N := 8) (k := 6) hT (by decide) rfl in_X8 (by decide) (Or.inl rfl)  rfl hN q710 d kk
theorem gf_X1_160 {E : En} {G : Ctx} {M : Mem} {cells slots nL pc : Nat} {lv : List (Nat × Value)} {st : List Value} {Q : State → Prop} {cc : ByteArray} {ret : Option FieldType} {rm0 : Room} (hN : NOk E) (hG : Cx E G cc nL ret RX1 rm0) {a : Nat} (hT : mT M a = 16) (d : decode cc pc = .ok (.getfield 160, 3)) (kk : V E G M cells slots nL (pc + 3) lv (.int (mI M a 7) :: st) Q) : V E G M cells slots nL pc lv (rf E a :: st) Q := W_getNI hG (ci := 16) (C := RX8) (T := TX8) (N := 8) (k := 7) hT (by decide) rfl in_X8 (by decide) (Or.inl rfl)  rfl hN q712 d kk
def f_X1_init (N : Nat) (LC LZ : Nat) (p0 : Nat) (M : Mem) : Option (Mem) :=
gd (mN M + 1 ≤ LC ∧ mZ M + 700 ≤ LZ) (
be (nw M 101 700) fun (M_2 : Mem) =>
gd (mT M_2 p0 = 0) (
be (sR M_2 p0 0 (some (mN M))) fun (M_4 : Mem) =>
be (sI M_4 p0 3 (-1)) fun (M_6 : Mem) =>
gd (mN M_6 + 1 ≤ LC ∧ mZ M_6 + 9 ≤ LZ) (
be (nw M_6 1 9) fun (M_9 : Mem) =>
gd (mN M_9 ≤ LC ∧ mZ M_9 ≤ LZ) (
bd (f_X2_init (mN M_6) p0 M_9) fun (M_12 : Mem) =>
gd (mT M_12 p0 = 0) (
be (sR M_12 p0 5 (some (mN M_6))) fun (M_14 : Mem) =>
gd (mN M_14 + 1 ≤ LC ∧ mZ M_14 + 9 ≤ LZ) (
be (nw M_14 2 9) fun (M_17 : Mem) =>
gd (mN M_17 ≤ LC ∧ mZ M_17 ≤ LZ) (
bd (f_X3_init LC LZ (mN M_14) M_17) fun (M_20 : Mem) =>
gd (mT M_20 p0 = 0) (
be (sR M_20 p0 6 (some (mN M_14))) fun (M_22 : Mem) =>
gd (mN M_22 + 1 ≤ LC ∧ mZ M_22 + 7 ≤ LZ) (
be (nw M_22 103 7) fun (M_25 : Mem) =>
gd (mT M_25 p0 = 0) (
be (sR M_25 p0 7 (some (mN M_22))) fun (M_27 : Mem) =>
gd (mN M_27 + 1 ≤ LC ∧ mZ M_27 + 2 ≤ LZ) (
be (nw M_27 4 2) fun (M_30 : Mem) =>
gd (mN M_30 ≤ LC ∧ mZ M_30 ≤ LZ) (
bd (f_X5_init (mN M_27) p0 M_30) fun (M_33 : Mem) =>
gd (mT M_33 p0 = 0) (
be (sR M_33 p0 8 (some (mN M_27))) fun (M_35 : Mem) =>
gd (mN M_35 + 1 ≤ LC ∧ mZ M_35 + 18 ≤ LZ) (
be (nw M_35 5 18) fun (M_38 : Mem) =>
gd (mN M_38 ≤ LC ∧ mZ M_38 ≤ LZ) (
bd (f_X6_init LC LZ (mN M_35) p0 M_38) fun (M_41 : Mem) =>
gd (mT M_41 p0 = 0) (
be (sR M_41 p0 9 (some (mN M_35))) fun (M_43 : Mem) =>
gd (mN M_43 + 1 ≤ LC ∧ mZ M_43 + 18 ≤ LZ) (
be (nw M_43 5 18) fun (M_46 : Mem) =>
gd (mN M_46 ≤ LC ∧ mZ M_46 ≤ LZ) (
bd (f_X6_init LC LZ (mN M_43) p0 M_46) fun (M_49 : Mem) =>
gd (mT M_49 p0 = 0) (
be (sR M_49 p0 10 (some (mN M_43))) fun (M_51 : Mem) =>
gd (mN M_51 + 1 ≤ LC ∧ mZ M_51 + 18 ≤ LZ) (
be (nw M_51 5 18) fun (M_54 : Mem) =>
gd (mN M_54 ≤ LC ∧ mZ M_54 ≤ LZ) (
bd (f_X6_init LC LZ (mN M_51) p0 M_54) fun (M_57 : Mem) =>
gd (mT M_57 p0 = 0) (
be (sR M_57 p0 11 (some (mN M_51))) fun (M_59 : Mem) =>
gd (mN M_59 + 1 ≤ LC ∧ mZ M_59 + 20 ≤ LZ) (
be (nw M_59 106 20) fun (M_62 : Mem) =>
gd (mT M_62 p0 = 0) (
be (sR M_62 p0 12 (some (mN M_59))) fun (M_64 : Mem) =>
gd (mN M_64 + 1 ≤ LC ∧ mZ M_64 + 6 ≤ LZ) (
be (nw M_64 100 6) fun (M_67 : Mem) =>
gd (mT M_67 p0 = 0) (
be (sR M_67 p0 14 (some (mN M_64))) fun (M_69 : Mem) =>
gd (mN M_69 + 1 ≤ LC ∧ mZ M_69 + 6 ≤ LZ) (
be (nw M_69 100 6) fun (M_72 : Mem) =>
gd (mT M_72 p0 = 0) (
be (sR M_72 p0 15 (some (mN M_69))) fun (M_74 : Mem) =>
gd (mN M_74 + 1 ≤ LC ∧ mZ M_74 + 3 ≤ LZ) (
be (nw M_74 3 3) fun (M_77 : Mem) =>
gd (mN M_77 ≤ LC ∧ mZ M_77 ≤ LZ) (
bd (f_J2_init LC LZ (mN M_74) 24 M_77) fun (M_80 : Mem) =>
gd (mT M_80 p0 = 0) (
be (sR M_80 p0 16 (some (mN M_74))) fun (M_82 : Mem) =>
gd (mN M_82 + 1 ≤ LC ∧ mZ M_82 + 24 ≤ LZ) (
be (nw M_82 102 24) fun (M_85 : Mem) =>
gd (mT M_85 p0 = 0) (
be (sR M_85 p0 17 (some (mN M_82))) fun (M_87 : Mem) =>
be (sI M_87 p0 18 (-1)) fun (M_89 : Mem) =>
bd (mR M_89 p0 9) fun (a_91 : Nat) =>
gd (mT M_89 a_91 = 5) (
gd (mN M_89 ≤ LC ∧ mZ M_89 ≤ LZ) (
bd (f_X6_begin N a_91 M_89) fun (M_96 : Mem) =>
gd (mN M_96 ≤ LC ∧ mZ M_96 ≤ LZ) (
some M_96))))))))))))))))))))))))))))))))))))
def rm_f_X1_init (LC LZ : Nat) (M : Mem) : Room := { frames := 5, cells := LC - mN M, slots := LZ - mZ M, locals := 121 }
theorem ok_f_X1_init {E : En} (hE : EOk E) (hN : NOk E) {N : Nat} {LC LZ : Nat} {p0 : Nat} {M : Mem}  {M' : Mem} (h : f_X1_init N LC LZ p0 M = some M') : CM E yX1_init cX1_init 1 none (rm_f_X1_init LC LZ M) [rf E p0] M none M' := by
  unfold f_X1_init at h
  refine CM_introX (own := RX1) rfl (by decide +kernel) (Nat.le_of_ble_eq_true rfl) rfl (fun G hG hEn hI => ?_)
  obtain ⟨Q, eQ⟩ : ∃ Q, Q = QM E G none M' (LC - mN M) (LZ - mZ M) := ⟨_, rfl⟩
  show V E G M 0 0 1 0 [(0, rf E p0)] [] (QM E G none M' (LC - mN M) (LZ - mZ M))
  rw [← eQ]
  refine V_aload_n hG 0 rfl dX1_init_0 ?_
  refine V_objInit hG q169 q_oi q_oc (Nat.le_of_ble_eq_true rfl) (Nat.le_of_ble_eq_true rfl) dX1_init_1 ?_
  refine V_aload_n hG 0 rfl dX1_init_4 ?_
  refine V_sipush hG 700 (by decide) dX1_init_5 ?_
  obtain ⟨g_1, h⟩ := gd_of h
  obtain ⟨M_2, eM_2, h⟩ := be_of h
  refine A_newa1 hG hEn rfl rfl (by decide) eM_2 g_1 dX1_init_8 ?_
  obtain ⟨g_3, h⟩ := gd_of h
  obtain ⟨M_4, eM_4, h⟩ := be_of h
  refine pf_X1_73 hN hG (hI rfl) g_3 eM_4 dX1_init_10 ?_
  have g_5 : mT M_4 p0 = 0 := by rw [eM_4]; exact g_3
  refine V_aload_n hG 0 rfl dX1_init_13 ?_
  refine V_iconst hG (-1) rfl dX1_init_14 ?_
  obtain ⟨M_6, eM_6, h⟩ := be_of h
  refine pf_X1_77 hN hG g_5 eM_6 dX1_init_15 ?_
  have g_7 : mT M_6 p0 = 0 := by rw [eM_6]; exact g_5
  refine V_aload_n hG 0 rfl dX1_init_18 ?_
  obtain ⟨g_8, h⟩ := gd_of h
  obtain ⟨M_9, eM_9, h⟩ := be_of h
  refine nw_X1_81 hG hEn rfl rfl eM_9 g_8 dX1_init_19 ?_
  refine V_dup hG rfl dX1_init_22 ?_
  refine V_aload_n hG 0 rfl dX1_init_23 ?_
  obtain ⟨g_10, h⟩ := gd_of h
  refine V_narrow hEn (fun n1 n2 n3 => ?_)
  obtain ⟨M_12, hc_11, h⟩ := bd_of h
  refine W_callIN hE hG hN (rt := none) (As := [rf E p0]) (rest := [rf E (mN M_6), rf E p0]) (ok_f_X2_init hE hN hc_11) q174 (lw_meth q176) q124 q175 rfl hdc_X2_init ⟨Nat.le_of_ble_eq_true rfl, Nat.le_of_ble_eq_true rfl⟩ rfl rfl (Nat.le_of_ble_eq_true rfl) ⟨by show _ + 0 ≤ LC - mN M; omega, by show _ + 0 ≤ LZ - mZ M; omega⟩ dX1_init_24 ?_
  obtain ⟨g_13, h⟩ := gd_of h
  obtain ⟨M_14, eM_14, h⟩ := be_of h
  refine pf_X1_86 hN hG (hI rfl) g_13 eM_14 dX1_init_27 ?_
  have g_15 : mT M_14 p0 = 0 := by rw [eM_14]; exact g_13
  refine V_aload_n hG 0 rfl dX1_init_30 ?_
  obtain ⟨g_16, h⟩ := gd_of h
  obtain ⟨M_17, eM_17, h⟩ := be_of h
  refine nw_X1_18 hG hEn rfl rfl eM_17 g_16 dX1_init_31 ?_
  refine V_dup hG rfl dX1_init_34 ?_
  obtain ⟨g_18, h⟩ := gd_of h
  refine V_narrow hEn (fun n1 n2 n3 => ?_)
  obtain ⟨M_20, hc_19, h⟩ := bd_of h
  refine W_callIN hE hG hN (rt := none) (As := []) (rest := [rf E (mN M_14), rf E p0]) (ok_f_X3_init hE hN hc_19) q209 (lw_meth q211) q125 q210 rfl hdc_X3_init ⟨Nat.le_of_ble_eq_true rfl, Nat.le_of_ble_eq_true rfl⟩ rfl rfl (Nat.le_of_ble_eq_true rfl) ⟨by show _ + (LC - mN M_17) ≤ LC - mN M; omega, by show _ + (LZ - mZ M_17) ≤ LZ - mZ M; omega⟩ dX1_init_35 ?_
  obtain ⟨g_21, h⟩ := gd_of h
  obtain ⟨M_22, eM_22, h⟩ := be_of h
  refine pf_X1_13 hN hG g_21 eM_22 dX1_init_38 ?_
  have g_23 : mT M_22 p0 = 0 := by rw [eM_22]; exact g_21
  refine V_aload_n hG 0 rfl dX1_init_41 ?_
  refine V_bipush hG 7 (by decide) dX1_init_42 ?_
  obtain ⟨g_24, h⟩ := gd_of h
  obtain ⟨M_25, eM_25, h⟩ := be_of h
  refine A_newa3 hG hEn rfl rfl (by decide) eM_25 g_24 dX1_init_44 ?_
  obtain ⟨g_26, h⟩ := gd_of h
  obtain ⟨M_27, eM_27, h⟩ := be_of h
  refine pf_X1_46 hN hG (hI rfl) g_26 eM_27 dX1_init_46 ?_
  have g_28 : mT M_27 p0 = 0 := by rw [eM_27]; exact g_26
  refine V_aload_n hG 0 rfl dX1_init_49 ?_
  obtain ⟨g_29, h⟩ := gd_of h
  obtain ⟨M_30, eM_30, h⟩ := be_of h
  refine nw_X1_91 hG hEn rfl rfl eM_30 g_29 dX1_init_50 ?_
  refine V_dup hG rfl dX1_init_53 ?_
  refine V_aload_n hG 0 rfl dX1_init_54 ?_
  obtain ⟨g_31, h⟩ := gd_of h
  refine V_narrow hEn (fun n1 n2 n3 => ?_)
  obtain ⟨M_33, hc_32, h⟩ := bd_of h
  refine W_callIN hE hG hN (rt := none) (As := [rf E p0]) (rest := [rf E (mN M_27), rf E p0]) (ok_f_X5_init hE hN hc_32) q290 (lw_meth q292) q130 q291 rfl hdc_X5_init ⟨Nat.le_of_ble_eq_true rfl, Nat.le_of_ble_eq_true rfl⟩ rfl rfl (Nat.le_of_ble_eq_true rfl) ⟨by show _ + 0 ≤ LC - mN M; omega, by show _ + 0 ≤ LZ - mZ M; omega⟩ dX1_init_55 ?_
  obtain ⟨g_34, h⟩ := gd_of h
  obtain ⟨M_35, eM_35, h⟩ := be_of h
  refine pf_X1_94 hN hG (hI rfl) g_34 eM_35 dX1_init_58 ?_
  have g_36 : mT M_35 p0 = 0 := by rw [eM_35]; exact g_34
  refine V_aload_n hG 0 rfl dX1_init_61 ?_
  obtain ⟨g_37, h⟩ := gd_of h
  obtain ⟨M_38, eM_38, h⟩ := be_of h
  refine nw_X1_98 hG hEn rfl rfl eM_38 g_37 dX1_init_62 ?_
  refine V_dup hG rfl dX1_init_65 ?_
  refine V_aload_n hG 0 rfl dX1_init_66 ?_
  obtain ⟨g_39, h⟩ := gd_of h
  refine V_narrow hEn (fun n1 n2 n3 => ?_)
  obtain ⟨M_41, hc_40, h⟩ := bd_of h
  refine W_callIN hE hG hN (rt := none) (As := [rf E p0]) (rest := [rf E (mN M_35), rf E p0]) (ok_f_X6_init hE hN hc_40) q307 (lw_meth q309) q131 q308 rfl hdc_X6_init ⟨Nat.le_of_ble_eq_true rfl, Nat.le_of_ble_eq_true rfl⟩ rfl rfl (Nat.le_of_ble_eq_true rfl) ⟨by show _ + (LC - mN M_38) ≤ LC - mN M; omega, by show _ + (LZ - mZ M_38) ≤ LZ - mZ M; omega⟩ dX1_init_67 ?_
  obtain ⟨g_42, h⟩ := gd_of h
  obtain ⟨M_43, eM_43, h⟩ := be_of h
  refine pf_X1_101 hN hG (hI rfl) g_42 eM_43 dX1_init_70 ?_
  have g_44 : mT M_43 p0 = 0 := by rw [eM_43]; exact g_42
  refine V_aload_n hG 0 rfl dX1_init_73 ?_
  obtain ⟨g_45, h⟩ := gd_of h
  obtain ⟨M_46, eM_46, h⟩ := be_of h
  refine nw_X1_98 hG hEn rfl rfl eM_46 g_45 dX1_init_74 ?_
  refine V_dup hG rfl dX1_init_77 ?_
  refine V_aload_n hG 0 rfl dX1_init_78 ?_
  obtain ⟨g_47, h⟩ := gd_of h
  refine V_narrow hEn (fun n1 n2 n3 => ?_)
  obtain ⟨M_49, hc_48, h⟩ := bd_of h
  refine W_callIN hE hG hN (rt := none) (As := [rf E p0]) (rest := [rf E (mN M_43), rf E p0]) (ok_f_X6_init hE hN hc_48) q307 (lw_meth q309) q131 q308 rfl hdc_X6_init ⟨Nat.le_of_ble_eq_true rfl, Nat.le_of_ble_eq_true rfl⟩ rfl rfl (Nat.le_of_ble_eq_true rfl) ⟨by show _ + (LC - mN M_46) ≤ LC - mN M; omega, by show _ + (LZ - mZ M_46) ≤ LZ - mZ M; omega⟩ dX1_init_79 ?_
  obtain ⟨g_50, h⟩ := gd_of h
  obtain ⟨M_51, eM_51, h⟩ := be_of h
  refine pf_X1_105 hN hG (hI rfl) g_50 eM_51 dX1_init_82 ?_
  have g_52 : mT M_51 p0 = 0 := by rw [eM_51]; exact g_50
  refine V_aload_n hG 0 rfl dX1_init_85 ?_
  obtain ⟨g_53, h⟩ := gd_of h
  obtain ⟨M_54, eM_54, h⟩ := be_of h
  refine nw_X1_98 hG hEn rfl rfl eM_54 g_53 dX1_init_86 ?_
  refine V_dup hG rfl dX1_init_89 ?_
  refine V_aload_n hG 0 rfl dX1_init_90 ?_
  obtain ⟨g_55, h⟩ := gd_of h
  refine V_narrow hEn (fun n1 n2 n3 => ?_)
  obtain ⟨M_57, hc_56, h⟩ := bd_of h
  refine W_callIN hE hG hN (rt := none) (As := [rf E p0]) (rest := [rf E (mN M_51), rf E p0]) (ok_f_X6_init hE hN hc_56) q307 (lw_meth q309) q131 q308 rfl hdc_X6_init ⟨Nat.le_of_ble_eq_true rfl, Nat.le_of_ble_eq_true rfl⟩ rfl rfl (Nat.le_of_ble_eq_true rfl) ⟨by show _ + (LC - mN M_54) ≤ LC - mN M; omega, by show _ + (LZ - mZ M_54) ≤ LZ - mZ M; omega⟩ dX1_init_91 ?_
  obtain ⟨g_58, h⟩ := gd_of h
  obtain ⟨M_59, eM_59, h⟩ := be_of h
  refine pf_X1_108 hN hG (hI rfl) g_58 eM_59 dX1_init_94 ?_
  have g_60 : mT M_59 p0 = 0 := by rw [eM_59]; exact g_58
  refine V_aload_n hG 0 rfl dX1_init_97 ?_
  refine V_bipush hG 20 (by decide) dX1_init_98 ?_
  obtain ⟨g_61, h⟩ := gd_of h
  obtain ⟨M_62, eM_62, h⟩ := be_of h
  refine A_anew6 hG hN hEn rfl rfl q305 (by decide) eM_62 g_61 dX1_init_100 ?_
  obtain ⟨g_63, h⟩ := gd_of h
  obtain ⟨M_64, eM_64, h⟩ := be_of h
  refine pf_X1_111 hN hG (hI rfl) g_63 eM_64 dX1_init_103 ?_
  have g_65 : mT M_64 p0 = 0 := by rw [eM_64]; exact g_63
  refine V_aload_n hG 0 rfl dX1_init_106 ?_
  refine V_bipush hG 6 (by decide) dX1_init_107 ?_
  obtain ⟨g_66, h⟩ := gd_of h
  obtain ⟨M_67, eM_67, h⟩ := be_of h
  refine A_newa0 hG hEn rfl rfl (by decide) eM_67 g_66 dX1_init_109 ?_
  obtain ⟨g_68, h⟩ := gd_of h
  obtain ⟨M_69, eM_69, h⟩ := be_of h
  refine pf_X1_115 hN hG (hI rfl) g_68 eM_69 dX1_init_111 ?_
  have g_70 : mT M_69 p0 = 0 := by rw [eM_69]; exact g_68
  refine V_aload_n hG 0 rfl dX1_init_114 ?_
  refine V_bipush hG 6 (by decide) dX1_init_115 ?_
  obtain ⟨g_71, h⟩ := gd_of h
  obtain ⟨M_72, eM_72, h⟩ := be_of h
  refine A_newa0 hG hEn rfl rfl (by decide) eM_72 g_71 dX1_init_117 ?_
  obtain ⟨g_73, h⟩ := gd_of h
  obtain ⟨M_74, eM_74, h⟩ := be_of h
  refine pf_X1_119 hN hG (hI rfl) g_73 eM_74 dX1_init_119 ?_
  have g_75 : mT M_74 p0 = 0 := by rw [eM_74]; exact g_73
  refine V_aload_n hG 0 rfl dX1_init_122 ?_
  obtain ⟨g_76, h⟩ := gd_of h
  obtain ⟨M_77, eM_77, h⟩ := be_of h
  refine nw_X1_24 hG hEn rfl rfl eM_77 g_76 dX1_init_123 ?_
  refine V_dup hG rfl dX1_init_126 ?_
  refine V_bipush hG 24 (by decide) dX1_init_127 ?_
  obtain ⟨g_78, h⟩ := gd_of h
  refine V_narrow hEn (fun n1 n2 n3 => ?_)
  obtain ⟨M_80, hc_79, h⟩ := bd_of h
  refine V_callI hE hG (rt := none) (As := [.int 24]) (rest := [rf E (mN M_74), rf E p0]) (ok_f_J2_init hE hN hc_79) (lw_meth q217) q128 q387 q216 rfl hdc_J2_init ⟨Nat.le_of_ble_eq_true rfl, Nat.le_of_ble_eq_true rfl⟩ rfl rfl (Nat.le_of_ble_eq_true rfl) ⟨by show _ + (LC - mN M_77) ≤ LC - mN M; omega, by show _ + (LZ - mZ M_77) ≤ LZ - mZ M; omega⟩ dX1_init_129 ?_
  obtain ⟨g_81, h⟩ := gd_of h
  obtain ⟨M_82, eM_82, h⟩ := be_of h
  refine pf_X1_125 hN hG (hI rfl) g_81 eM_82 dX1_init_132 ?_
  have g_83 : mT M_82 p0 = 0 := by rw [eM_82]; exact g_81
  refine V_aload_n hG 0 rfl dX1_init_135 ?_
  refine V_bipush hG 24 (by decide) dX1_init_136 ?_
  obtain ⟨g_84, h⟩ := gd_of h
  obtain ⟨M_85, eM_85, h⟩ := be_of h
  refine A_newa2 hG hEn rfl rfl (by decide) eM_85 g_84 dX1_init_138 ?_
  obtain ⟨g_86, h⟩ := gd_of h
  obtain ⟨M_87, eM_87, h⟩ := be_of h
  refine pf_X1_128 hN hG (hI rfl) g_86 eM_87 dX1_init_140 ?_
  have g_88 : mT M_87 p0 = 0 := by rw [eM_87]; exact g_86
  refine V_aload_n hG 0 rfl dX1_init_143 ?_
  refine V_iconst hG (-1) rfl dX1_init_144 ?_
  obtain ⟨M_89, eM_89, h⟩ := be_of h
  refine pf_X1_132 hN hG g_88 eM_89 dX1_init_145 ?_
  have g_90 : mT M_89 p0 = 0 := by rw [eM_89]; exact g_88
  refine V_aload_n hG 0 rfl dX1_init_148 ?_
  obtain ⟨a_91, hr_92, h⟩ := bd_of h
  refine gf_X1_101 hN hG g_90 hr_92 dX1_init_149 ?_
  obtain ⟨g_93, h⟩ := gd_of h
  obtain ⟨g_94, h⟩ := gd_of h
  refine V_narrow hEn (fun n1 n2 n3 => ?_)
  obtain ⟨M_96, hc_95, h⟩ := bd_of h
  refine V_callV hE hG (ci := 5) (As := []) (rest := []) (ok_f_X6_begin hE hN hc_95) g_93 (by decide) rfl hw_X1_135 hdv_X6_begin ⟨Nat.le_of_ble_eq_true rfl, Nat.le_of_ble_eq_true rfl⟩ rfl rfl (Nat.le_of_ble_eq_true rfl) ⟨by show _ + 0 ≤ LC - mN M; omega, by show _ + 0 ≤ LZ - mZ M; omega⟩ dX1_init_152 ?_
  obtain ⟨g_97, h⟩ := gd_of h
  refine V_narrow hEn (fun n1 n2 n3 => V_widen (k := LC - mN M) (n := LZ - mZ M) (by omega) (by omega) ?_)
  cases h
  subst eQ
  exact V_vret hG dX1_init_155

def f_X1_horse_2 (p0 : Nat) (p1 : Int32) (p2 : Int32) (M : Mem) : Option (Int32) :=
gd (mT M p0 = 0) (
bd (f_X1_isHorse p0 p1 M) fun (r_3 : Int32) =>
if r_3 = 0 then (
none)
else (
if p2 = 0 then (
bd (f_X1_horse p0 p1 M) fun (r_7 : Nat) =>
gd (mT M r_7 = 8) (
some (mI M r_7 2)))
else (
if p2 = 1 then (
bd (mR M p0 9) fun (a_10 : Nat) =>
gd (mT M a_10 = 5) (
bd (mR M a_10 0) fun (a_13 : Nat) =>
gd (mT M a_13 = 100) (
gd (inb p1 (mLn M a_13)) (
some (mI M a_13 (Int32.toNatClampNeg p1))))))
else (
if p2 = 2 then (
bd (mR M p0 9) fun (a_18 : Nat) =>
gd (mT M a_18 = 5) (
bd (mR M a_18 1) fun (a_21 : Nat) =>
gd (mT M a_21 = 100) (
gd (inb p1 (mLn M a_21)) (
some (mI M a_21 (Int32.toNatClampNeg p1))))))
else (
if p2 = 3 then (
bd (f_X1_horse p0 p1 M) fun (r_27 : Nat) =>
gd (mT M r_27 = 8) (
some (mI M r_27 4)))
else (
if p2 = 4 then (
bd (mR M p0 9) fun (a_30 : Nat) =>
gd (mT M a_30 = 5) (
bd (mR M a_30 2) fun (a_33 : Nat) =>
gd (mT M a_33 = 100) (
gd (inb p1 (mLn M a_33)) (
bd (f_X1_orNone (mI M a_33 (Int32.toNatClampNeg p1)) M) fun (r_38 : Int32) =>
some r_38))))
else (
if p2 = 5 then (
bd (mR M p0 9) fun (a_40 : Nat) =>
gd (mT M a_40 = 5) (
bd (mR M a_40 3) fun (a_43 : Nat) =>
gd (mT M a_43 = 100) (
gd (inb p1 (mLn M a_43)) (
some (mI M a_43 (Int32.toNatClampNeg p1))))))
else (
if p2 = 6 then (
bd (mR M p0 9) fun (a_48 : Nat) =>
gd (mT M a_48 = 5) (
bd (f_X6_isOn a_48 p1 M) fun (r_52 : Int32) =>
be (if r_52 = 0 then (
0)
else (
1) : Int32) fun (y_56 : Int32) =>
some y_56))
else (
if p2 = 7 then (
bd (mR M p0 9) fun (a_58 : Nat) =>
gd (mT M a_58 = 5) (
bd (mR M a_58 4) fun (a_61 : Nat) =>
gd (mT M a_61 = 100) (
gd (inb p1 (mLn M a_61)) (
some (mI M a_61 (Int32.toNatClampNeg p1))))))
else (
none))))))))))
def rm_f_X1_horse_2 : Room := { frames := 4, cells := 0, slots := 0, locals := 85 }
theorem ok_f_X1_horse_2 {E : En} (hE : EOk E) (hN : NOk E) {p0 : Nat} {p1 : Int32} {p2 : Int32} {M : Mem} {r : Int32} (h : f_X1_horse_2 p0 p1 p2 M = some r) : CM E yX1_horse_2 cX1_horse_2 3 (some .int) rm_f_X1_horse_2 [rf E p0, .int p1, .int p2] M (some (.int r)) M := by
  unfold f_X1_horse_2 at h
  refine CM_introX (own := RX1) rfl (by decide +kernel) (Nat.le_of_ble_eq_true rfl) rfl (fun G hG hEn hI => ?_)
  obtain ⟨Q, eQ⟩ : ∃ Q, Q = QM E G (some (.int r)) M 0 0 := ⟨_, rfl⟩
  show V E G M 0 0 3 0 [(0, rf E p0), (1, .int p1), (2, .int p2)] [] (QM E G (some (.int r)) M 0 0)
  rw [← eQ]
  refine V_aload_n hG 0 rfl dX1_horse_2_0 ?_
  refine V_iload_n hG 1 rfl dX1_horse_2_1 ?_
  obtain ⟨g_1, h⟩ := gd_of h
  obtain ⟨r_3, hc_2, h⟩ := bd_of h
  refine V_callV hE hG (ci := 0) (As := [.int p1]) (rest := []) (ok_f_X1_isHorse hE hN hc_2) g_1 (by decide) rfl hw_X1_186 hdv_X1_isHorse ⟨Nat.le_of_ble_eq_true rfl, Nat.le_of_ble_eq_true rfl⟩ rfl rfl (Nat.le_of_ble_eq_true rfl) ⟨Nat.le_of_ble_eq_true rfl, Nat.le_of_ble_eq_true rfl⟩ dX1_horse_2_2 (V_zero rfl rfl ?_)
  refine V_if_ne hG 16 dX1_horse_2_5 (by decide) (fun c_4 => ?_) (fun c_4 => ?_)
  · have h := if_f c_4 h
    refine V_iload_n hG 2 rfl dX1_horse_2_16 ?_
    by_cases c_5 : p2 = 0
    · have h := if_t c_5 h
      refine V_tableIn hG 64 dX1_horse_2_17 (by rw [c_5]; decide) (by rw [c_5]; decide) (by rw [c_5]; rfl) (by decide) ?_
      refine V_aload_n hG 0 rfl dX1_horse_2_64 ?_
      refine V_iload_n hG 1 rfl dX1_horse_2_65 ?_
      obtain ⟨r_7, hc_6, h⟩ := bd_of h
      refine V_callV hE hG (ci := 0) (As := [.int p1]) (rest := []) (ok_f_X1_horse hE hN hc_6) g_1 (by decide) rfl hw_X1_193 hdv_X1_horse ⟨Nat.le_of_ble_eq_true rfl, Nat.le_of_ble_eq_true rfl⟩ rfl rfl (Nat.le_of_ble_eq_true rfl) ⟨Nat.le_of_ble_eq_true rfl, Nat.le_of_ble_eq_true rfl⟩ dX1_horse_2_66 (V_zero rfl rfl ?_)
      obtain ⟨g_8, h⟩ := gd_of h
      refine gf_X1_197 hN hG g_8 dX1_horse_2_69 ?_
      cases h
      subst eQ
      exact V_iret hG dX1_horse_2_72
    have h := if_f c_5 h
    by_cases c_9 : p2 = 1
    · have h := if_t c_9 h
      refine V_tableIn hG 73 dX1_horse_2_17 (by rw [c_9]; decide) (by rw [c_9]; decide) (by rw [c_9]; rfl) (by decide) ?_
      refine V_aload_n hG 0 rfl dX1_horse_2_73 ?_
      obtain ⟨a_10, hr_11, h⟩ := bd_of h
      refine gf_X1_101 hN hG g_1 hr_11 dX1_horse_2_74 ?_
      obtain ⟨g_12, h⟩ := gd_of h
      obtain ⟨a_13, hr_14, h⟩ := bd_of h
      refine gf_X1_200 hN hG g_12 hr_14 dX1_horse_2_77 ?_
      refine V_iload_n hG 1 rfl dX1_horse_2_80 ?_
      obtain ⟨g_15, h⟩ := gd_of h
      obtain ⟨g_16, h⟩ := gd_of h
      refine V_iaload hG g_15 g_16 dX1_horse_2_81 ?_
      cases h
      subst eQ
      exact V_iret hG dX1_horse_2_82
    have h := if_f c_9 h
    by_cases c_17 : p2 = 2
    · have h := if_t c_17 h
      refine V_tableIn hG 83 dX1_horse_2_17 (by rw [c_17]; decide) (by rw [c_17]; decide) (by rw [c_17]; rfl) (by decide) ?_
      refine V_aload_n hG 0 rfl dX1_horse_2_83 ?_
      obtain ⟨a_18, hr_19, h⟩ := bd_of h
      refine gf_X1_101 hN hG g_1 hr_19 dX1_horse_2_84 ?_
      obtain ⟨g_20, h⟩ := gd_of h
      obtain ⟨a_21, hr_22, h⟩ := bd_of h
      refine gf_X1_203 hN hG g_20 hr_22 dX1_horse_2_87 ?_
      refine V_iload_n hG 1 rfl dX1_horse_2_90 ?_
      obtain ⟨g_23, h⟩ := gd_of h
      obtain ⟨g_24, h⟩ := gd_of h
      refine V_iaload hG g_23 g_24 dX1_horse_2_91 ?_
      cases h
      subst eQ
      exact V_iret hG dX1_horse_2_92
    have h := if_f c_17 h
    by_cases c_25 : p2 = 3
    · have h := if_t c_25 h
      refine V_tableIn hG 93 dX1_horse_2_17 (by rw [c_25]; decide) (by rw [c_25]; decide) (by rw [c_25]; rfl) (by decide) ?_
      refine V_aload_n hG 0 rfl dX1_horse_2_93 ?_
      refine V_iload_n hG 1 rfl dX1_horse_2_94 ?_
      obtain ⟨r_27, hc_26, h⟩ := bd_of h
      refine V_callV hE hG (ci := 0) (As := [.int p1]) (rest := []) (ok_f_X1_horse hE hN hc_26) g_1 (by decide) rfl hw_X1_193 hdv_X1_horse ⟨Nat.le_of_ble_eq_true rfl, Nat.le_of_ble_eq_true rfl⟩ rfl rfl (Nat.le_of_ble_eq_true rfl) ⟨Nat.le_of_ble_eq_true rfl, Nat.le_of_ble_eq_true rfl⟩ dX1_horse_2_95 (V_zero rfl rfl ?_)
      obtain ⟨g_28, h⟩ := gd_of h
      refine gf_X1_206 hN hG g_28 dX1_horse_2_98 ?_
      cases h
      subst eQ
      exact V_iret hG dX1_horse_2_101
    have h := if_f c_25 h
    by_cases c_29 : p2 = 4
    · have h := if_t c_29 h
      refine V_tableIn hG 102 dX1_horse_2_17 (by rw [c_29]; decide) (by rw [c_29]; decide) (by rw [c_29]; rfl) (by decide) ?_
      refine V_aload_n hG 0 rfl dX1_horse_2_102 ?_
      obtain ⟨a_30, hr_31, h⟩ := bd_of h
      refine gf_X1_101 hN hG g_1 hr_31 dX1_horse_2_103 ?_
      obtain ⟨g_32, h⟩ := gd_of h
      obtain ⟨a_33, hr_34, h⟩ := bd_of h
      refine gf_X1_209 hN hG g_32 hr_34 dX1_horse_2_106 ?_
      refine V_iload_n hG 1 rfl dX1_horse_2_109 ?_
      obtain ⟨g_35, h⟩ := gd_of h
      obtain ⟨g_36, h⟩ := gd_of h
      refine V_iaload hG g_35 g_36 dX1_horse_2_110 ?_
      obtain ⟨r_38, hc_37, h⟩ := bd_of h
      refine V_callS hE hG (As := [.int (mI M a_33 (Int32.toNatClampNeg p1))]) (rest := []) (ok_f_X1_orNone hE hN hc_37) hw_X1_212 hdc_X1_orNone ⟨Nat.le_of_ble_eq_true rfl, Nat.le_of_ble_eq_true rfl⟩ rfl rfl (Nat.le_of_ble_eq_true rfl) ⟨Nat.le_of_ble_eq_true rfl, Nat.le_of_ble_eq_true rfl⟩ dX1_horse_2_111 (V_zero rfl rfl ?_)
      cases h
      subst eQ
      exact V_iret hG dX1_horse_2_114
    have h := if_f c_29 h
    by_cases c_39 : p2 = 5
    · have h := if_t c_39 h
      refine V_tableIn hG 115 dX1_horse_2_17 (by rw [c_39]; decide) (by rw [c_39]; decide) (by rw [c_39]; rfl) (by decide) ?_
      refine V_aload_n hG 0 rfl dX1_horse_2_115 ?_
      obtain ⟨a_40, hr_41, h⟩ := bd_of h
      refine gf_X1_101 hN hG g_1 hr_41 dX1_horse_2_116 ?_
      obtain ⟨g_42, h⟩ := gd_of h
      obtain ⟨a_43, hr_44, h⟩ := bd_of h
      refine gf_X1_216 hN hG g_42 hr_44 dX1_horse_2_119 ?_
      refine V_iload_n hG 1 rfl dX1_horse_2_122 ?_
      obtain ⟨g_45, h⟩ := gd_of h
      obtain ⟨g_46, h⟩ := gd_of h
      refine V_iaload hG g_45 g_46 dX1_horse_2_123 ?_
      cases h
      subst eQ
      exact V_iret hG dX1_horse_2_124
    have h := if_f c_39 h
    by_cases c_47 : p2 = 6
    · have h := if_t c_47 h
      refine V_tableIn hG 125 dX1_horse_2_17 (by rw [c_47]; decide) (by rw [c_47]; decide) (by rw [c_47]; rfl) (by decide) ?_
      refine V_aload_n hG 0 rfl dX1_horse_2_125 ?_
      obtain ⟨a_48, hr_49, h⟩ := bd_of h
      refine gf_X1_101 hN hG g_1 hr_49 dX1_horse_2_126 ?_
      refine V_iload_n hG 1 rfl dX1_horse_2_129 ?_
      obtain ⟨g_50, h⟩ := gd_of h
      obtain ⟨r_52, hc_51, h⟩ := bd_of h
      refine V_callV hE hG (ci := 5) (As := [.int p1]) (rest := []) (ok_f_X6_isOn hE hN hc_51) g_50 (by decide) rfl hw_X1_219 hdv_X6_isOn ⟨Nat.le_of_ble_eq_true rfl, Nat.le_of_ble_eq_true rfl⟩ rfl rfl (Nat.le_of_ble_eq_true rfl) ⟨Nat.le_of_ble_eq_true rfl, Nat.le_of_ble_eq_true rfl⟩ dX1_horse_2_130 (V_zero rfl rfl ?_)
      obtain ⟨t_53, et_53, h⟩ := be_of h
      have J_54 : ∀ y_56 : Int32, y_56 = t_53 → V E G M 0 0 3 141 [(0, rf E p0), (1, .int p1), (2, .int p2)] [.int y_56] Q := by
        intro y_56 ey
        subst ey
        cases h
        subst eQ
        exact V_iret hG dX1_horse_2_141
      refine V_if_eq hG 140 dX1_horse_2_133 (by decide) (fun c_55 => ?_) (fun c_55 => ?_)
      · refine V_iconst hG 0 rfl dX1_horse_2_140 ?_
        exact J_54 _ (by rw [et_53, if_pos c_55])
      · refine V_iconst hG 1 rfl dX1_horse_2_136 ?_
        refine V_goto hG 141 dX1_horse_2_137 (by decide) ?_
        exact J_54 _ (by rw [et_53, if_neg c_55])
    have h := if_f c_47 h
    by_cases c_57 : p2 = 7
    · have h := if_t c_57 h
      refine V_tableIn hG 142 dX1_horse_2_17 (by rw [c_57]; decide) (by rw [c_57]; decide) (by rw [c_57]; rfl) (by decide) ?_
      refine V_aload_n hG 0 rfl dX1_horse_2_142 ?_
      obtain ⟨a_58, hr_59, h⟩ := bd_of h
      refine gf_X1_101 hN hG g_1 hr_59 dX1_horse_2_143 ?_
      obtain ⟨g_60, h⟩ := gd_of h
      obtain ⟨a_61, hr_62, h⟩ := bd_of h
      refine gf_X1_222 hN hG g_60 hr_62 dX1_horse_2_146 ?_
      refine V_iload_n hG 1 rfl dX1_horse_2_149 ?_
      obtain ⟨g_63, h⟩ := gd_of h
      obtain ⟨g_64, h⟩ := gd_of h
      refine V_iaload hG g_63 g_64 dX1_horse_2_150 ?_
      cases h
      subst eQ
      exact V_iret hG dX1_horse_2_151
    have h := if_f c_57 h
    refine V_tableOut hG 152 dX1_horse_2_17 (by have := lv_neT c_5 (show Int32.toInt 0 = 0 from rfl); have := lv_neT c_9 (show Int32.toInt 1 = 1 from rfl); have := lv_neT c_17 (show Int32.toInt 2 = 2 from rfl); have := lv_neT c_25 (show Int32.toInt 3 = 3 from rfl); have := lv_neT c_29 (show Int32.toInt 4 = 4 from rfl); have := lv_neT c_39 (show Int32.toInt 5 = 5 from rfl); have := lv_neT c_47 (show Int32.toInt 6 = 6 from rfl); have := lv_neT c_57 (show Int32.toInt 7 = 7 from rfl); omega) (by decide) ?_
    cases h
  · have h := if_t c_4 h
    cases h

def f_X1_text (N : Nat) (LC LZ : Nat) (p0 : Nat) (p1 : Int32) (M : Mem) : Option (Int32 × Mem) :=
gd (mT M p0 = 0) (
gd (mN M ≤ LC ∧ mZ M ≤ LZ) (
bd (f_X1_in (Int32.toInt64 p1) 0 (Int32.toInt64 (mI M p0 1)) M) fun (r_4 : Int32) =>
if r_4 = 0 then (
gd (mN M ≤ LC ∧ mZ M ≤ LZ) (
some ((-2), M)))
else (
be (sI M p0 1 0) fun (M_6 : Mem) =>
be (sI M_6 p0 2 0) fun (M_8 : Mem) =>
be (sI M_8 p0 3 (-1)) fun (M_10 : Mem) =>
bd (mR M_10 p0 5) fun (a_12 : Nat) =>
gd (mT M_10 a_12 = 1) (
gd (mN M_10 ≤ LC ∧ mZ M_10 ≤ LZ) (
bt (f_X2_read N LC LZ a_12 p1 M_10) (fun (r_18 : Nat) (M_17 : Mem) =>
gd (mT M_17 p0 = 0) (
be (sR M_17 p0 6 (some r_18)) fun (M_26 : Mem) =>
bd (mR M_26 p0 9) fun (a_28 : Nat) =>
gd (mT M_26 a_28 = 5) (
gd (mN M_26 ≤ LC ∧ mZ M_26 ≤ LZ) (
bd (f_X6_begin N a_28 M_26) fun (M_33 : Mem) =>
gd (mT M_33 p0 = 0) (
be (sI M_33 p0 4 0) fun (M_35 : Mem) =>
be (sI M_35 p0 13 0) fun (M_37 : Mem) =>
bd (mR M_37 p0 16) fun (a_39 : Nat) =>
gd (mT M_37 a_39 = 3) (
gd (mN M_37 ≤ LC ∧ mZ M_37 ≤ LZ) (
bd (f_J2_clear N a_39 M_37) fun (M_44 : Mem) =>
gd (mT M_44 p0 = 0) (
be (sI M_44 p0 18 (-1)) fun (M_46 : Mem) =>
bd (mR M_46 p0 6) fun (a_48 : Nat) =>
gd (mT M_46 a_48 = 2) (
gd (mN M_46 ≤ LC ∧ mZ M_46 ≤ LZ) (
some (mI M_46 a_48 8, M_46))))))))))) (fun (q_23 : Nat) (M_24 : Mem) =>
gd (mT M_24 q_23 = 16) (
gd (mT M_24 p0 = 0) (
be (sI M_24 p0 2 (mI M_24 q_23 6)) fun (M_54 : Mem) =>
be (sI M_54 p0 3 (mI M_54 q_23 7)) fun (M_57 : Mem) =>
gd (mN M_57 ≤ LC ∧ mZ M_57 ≤ LZ) (
some ((-1), M_57))))))))))
def rm_f_X1_text (LC LZ : Nat) (M : Mem) : Room := { frames := 242, cells := LC - mN M, slots := LZ - mZ M, locals := 12121 }
theorem ok_f_X1_text {E : En} (hE : EOk E) (hN : NOk E) {N : Nat} {LC LZ : Nat} {p0 : Nat} {p1 : Int32} {M : Mem} {r : Int32} {M' : Mem} (h : f_X1_text N LC LZ p0 p1 M = some (r, M')) : CW E yX1_text cX1_text 3 (some .int) [(32, 44, 47, 155)] (rm_f_X1_text LC LZ M) [rf E p0, .int p1] M (some (.int r)) M' := by
  unfold f_X1_text at h
  refine CW_intro (own := RX1) rfl (by decide) (Nat.le_of_ble_eq_true rfl) rfl (fun G hG hEn htb => ?_)
  obtain ⟨Q, eQ⟩ : ∃ Q, Q = QM E G (some (.int r)) M' (LC - mN M) (LZ - mZ M) := ⟨_, rfl⟩
  show V E G M 0 0 3 0 [(0, rf E p0), (1, .int p1)] [] (QM E G (some (.int r)) M' (LC - mN M) (LZ - mZ M))
  rw [← eQ]
  refine V_iload_n hG 1 rfl dX1_text_0 ?_
  refine V_i2l hG dX1_text_1 ?_
  refine V_lconst hG 0 rfl dX1_text_2 ?_
  refine V_aload_n hG 0 rfl dX1_text_3 ?_
  obtain ⟨g_1, h⟩ := gd_of h
  refine gf_X1_138 hN hG g_1 dX1_text_4 ?_
  refine V_i2l hG dX1_text_7 ?_
  obtain ⟨g_2, h⟩ := gd_of h
  refine V_narrow hEn (fun n1 n2 n3 => ?_)
  obtain ⟨r_4, hc_3, h⟩ := bd_of h
  refine V_callS hE hG (As := [.long (Int32.toInt64 p1), .long 0, .long (Int32.toInt64 (mI M p0 1))]) (rest := []) (ok_f_X1_in hE hN hc_3) hw_X1_144 hdc_X1_in ⟨Nat.le_of_ble_eq_true rfl, Nat.le_of_ble_eq_true rfl⟩ rfl rfl (Nat.le_of_ble_eq_true rfl) ⟨by show _ + 0 ≤ LC - mN M; omega, by show _ + 0 ≤ LZ - mZ M; omega⟩ dX1_text_8 ?_
  refine V_if_ne hG 17 dX1_text_11 (by decide) (fun c_5 => ?_) (fun c_5 => ?_)
  · have h := if_f c_5 h
    refine V_aload_n hG 0 rfl dX1_text_17 ?_
    refine V_iconst hG 0 rfl dX1_text_18 ?_
    obtain ⟨M_6, eM_6, h⟩ := be_of h
    refine pf_X1_138 hN hG g_1 eM_6 dX1_text_19 ?_
    have g_7 : mT M_6 p0 = 0 := by rw [eM_6]; exact g_1
    refine V_aload_n hG 0 rfl dX1_text_22 ?_
    refine V_iconst hG 0 rfl dX1_text_23 ?_
    obtain ⟨M_8, eM_8, h⟩ := be_of h
    refine pf_X1_148 hN hG g_7 eM_8 dX1_text_24 ?_
    have g_9 : mT M_8 p0 = 0 := by rw [eM_8]; exact g_7
    refine V_aload_n hG 0 rfl dX1_text_27 ?_
    refine V_iconst hG (-1) rfl dX1_text_28 ?_
    obtain ⟨M_10, eM_10, h⟩ := be_of h
    refine pf_X1_77 hN hG g_9 eM_10 dX1_text_29 ?_
    have g_11 : mT M_10 p0 = 0 := by rw [eM_10]; exact g_9
    refine V_aload_n hG 0 rfl dX1_text_32 ?_
    refine V_aload_n hG 0 rfl dX1_text_33 ?_
    obtain ⟨a_12, hr_13, h⟩ := bd_of h
    refine gf_X1_86 hN hG g_11 hr_13 dX1_text_34 ?_
    refine V_iload_n hG 1 rfl dX1_text_37 ?_
    obtain ⟨g_14, h⟩ := gd_of h
    obtain ⟨g_15, h⟩ := gd_of h
    refine V_narrow hEn (fun n1 n2 n3 => ?_)
    obtain ⟨rs_19, hc_16, hl_20, hr_21⟩ := bt_of h
    have ok_22 := ok_f_X2_read hE hN hc_16
    rcases rs_19 with ⟨r_18, M_17⟩ | ⟨q_23, M_24⟩
    · have h := hl_20 r_18 M_17 rfl
      refine V_callV hE hG (ci := 1) (As := [.int p1]) (rest := [rf E p0]) ok_22 g_14 (by decide) rfl hw_X1_151 hdv_X2_read ⟨Nat.le_of_ble_eq_true rfl, Nat.le_of_ble_eq_true rfl⟩ rfl rfl (Nat.le_of_ble_eq_true rfl) ⟨by show _ + (LC - mN M_10) ≤ LC - mN M; omega, by show _ + (LZ - mZ M_10) ≤ LZ - mZ M; omega⟩ dX1_text_38 ?_
      obtain ⟨g_25, h⟩ := gd_of h
      obtain ⟨M_26, eM_26, h⟩ := be_of h
      refine pf_X1_13 hN hG g_25 eM_26 dX1_text_41 ?_
      have g_27 : mT M_26 p0 = 0 := by rw [eM_26]; exact g_25
      refine V_goto hG 66 dX1_text_44 (by decide) ?_
      refine V_aload_n hG 0 rfl dX1_text_66 ?_
      obtain ⟨a_28, hr_29, h⟩ := bd_of h
      refine gf_X1_101 hN hG g_27 hr_29 dX1_text_67 ?_
      obtain ⟨g_30, h⟩ := gd_of h
      obtain ⟨g_31, h⟩ := gd_of h
      refine V_narrow hEn (fun n1 n2 n3 => ?_)
      obtain ⟨M_33, hc_32, h⟩ := bd_of h
      refine V_callV hE hG (ci := 5) (As := []) (rest := []) (ok_f_X6_begin hE hN hc_32) g_30 (by decide) rfl hw_X1_135 hdv_X6_begin ⟨Nat.le_of_ble_eq_true rfl, Nat.le_of_ble_eq_true rfl⟩ rfl rfl (Nat.le_of_ble_eq_true rfl) ⟨by show _ + 0 ≤ LC - mN M; omega, by show _ + 0 ≤ LZ - mZ M; omega⟩ dX1_text_70 ?_
      refine V_aload_n hG 0 rfl dX1_text_73 ?_
      refine V_iconst hG 0 rfl dX1_text_74 ?_
      obtain ⟨g_34, h⟩ := gd_of h
      obtain ⟨M_35, eM_35, h⟩ := be_of h
      refine pf_X1_163 hN hG g_34 eM_35 dX1_text_75 ?_
      have g_36 : mT M_35 p0 = 0 := by rw [eM_35]; exact g_34
      refine V_aload_n hG 0 rfl dX1_text_78 ?_
      refine V_iconst hG 0 rfl dX1_text_79 ?_
      obtain ⟨M_37, eM_37, h⟩ := be_of h
      refine pf_X1_166 hN hG g_36 (Or.inl rfl) eM_37 dX1_text_80 ?_
      have g_38 : mT M_37 p0 = 0 := by rw [eM_37]; exact g_36
      refine V_aload_n hG 0 rfl dX1_text_83 ?_
      obtain ⟨a_39, hr_40, h⟩ := bd_of h
      refine gf_X1_125 hN hG g_38 hr_40 dX1_text_84 ?_
      obtain ⟨g_41, h⟩ := gd_of h
      obtain ⟨g_42, h⟩ := gd_of h
      refine V_narrow hEn (fun n1 n2 n3 => ?_)
      obtain ⟨M_44, hc_43, h⟩ := bd_of h
      refine V_callV hE hG (ci := 3) (As := []) (rest := []) (ok_f_J2_clear hE hN hc_43) g_41 (by decide) rfl hw_X1_170 hdv_J2_clear ⟨Nat.le_of_ble_eq_true rfl, Nat.le_of_ble_eq_true rfl⟩ rfl rfl (Nat.le_of_ble_eq_true rfl) ⟨by show _ + 0 ≤ LC - mN M; omega, by show _ + 0 ≤ LZ - mZ M; omega⟩ dX1_text_87 ?_
      refine V_aload_n hG 0 rfl dX1_text_90 ?_
      refine V_iconst hG (-1) rfl dX1_text_91 ?_
      obtain ⟨g_45, h⟩ := gd_of h
      obtain ⟨M_46, eM_46, h⟩ := be_of h
      refine pf_X1_132 hN hG g_45 eM_46 dX1_text_92 ?_
      have g_47 : mT M_46 p0 = 0 := by rw [eM_46]; exact g_45
      refine V_aload_n hG 0 rfl dX1_text_95 ?_
      obtain ⟨a_48, hr_49, h⟩ := bd_of h
      refine gf_X1_13 hN hG g_47 hr_49 dX1_text_96 ?_
      obtain ⟨g_50, h⟩ := gd_of h
      refine gf_X1_173 hN hG g_50 dX1_text_99 ?_
      obtain ⟨g_51, h⟩ := gd_of h
      refine V_narrow hEn (fun n1 n2 n3 => V_widen (k := LC - mN M) (n := LZ - mZ M) (by omega) (by omega) ?_)
      cases h
      subst eQ
      exact V_iret hG dX1_text_102
    · have h := hr_21 q_23 M_24 rfl
      refine C_text hE hG hN htb (As := [.int p1]) (rest := [rf E p0]) ok_22 g_14 (by decide) rfl hw_X1_151 hdv_X2_read ⟨Nat.le_of_ble_eq_true rfl, Nat.le_of_ble_eq_true rfl⟩ rfl rfl (Nat.le_of_ble_eq_true rfl) ⟨by show _ + (LC - mN M_10) ≤ LC - mN M; omega, by show _ + (LZ - mZ M_10) ≤ LZ - mZ M; omega⟩ dX1_text_38 ?_
      refine V_astore_n hG rfl [(2, rf E q_23), (0, rf E p0), (1, .int p1)] dX1_text_47 (Nat.le_of_ble_eq_true rfl) rfl ?_
      refine V_aload_n hG 1 rfl dX1_text_48 ?_
      refine V_aload_n hG 0 rfl dX1_text_49 ?_
      obtain ⟨g_52, h⟩ := gd_of h
      refine gf_X1_157 hN hG g_52 dX1_text_50 ?_
      obtain ⟨g_53, h⟩ := gd_of h
      obtain ⟨M_54, eM_54, h⟩ := be_of h
      refine pf_X1_148 hN hG g_53 eM_54 dX1_text_53 ?_
      have g_55 : mT M_54 q_23 = 16 := by rw [eM_54]; exact g_52
      have g_56 : mT M_54 p0 = 0 := by rw [eM_54]; exact g_53
      refine V_aload_n hG 1 rfl dX1_text_56 ?_
      refine V_aload_n hG 0 rfl dX1_text_57 ?_
      refine gf_X1_160 hN hG g_55 dX1_text_58 ?_
      obtain ⟨M_57, eM_57, h⟩ := be_of h
      refine pf_X1_77 hN hG g_56 eM_57 dX1_text_61 ?_
      have g_58 : mT M_57 q_23 = 16 := by rw [eM_57]; exact g_55
      have g_59 : mT M_57 p0 = 0 := by rw [eM_57]; exact g_56
      refine V_iconst hG (-1) rfl dX1_text_64 ?_
      obtain ⟨g_60, h⟩ := gd_of h
      refine V_narrow hEn (fun n1 n2 n3 => V_widen (k := LC - mN M) (n := LZ - mZ M) (by omega) (by omega) ?_)
      cases h
      subst eQ
      exact V_iret hG dX1_text_65
  · have h := if_t c_5 h
    refine V_bipush hG (-2) (by decide) dX1_text_14 ?_
    obtain ⟨g_61, h⟩ := gd_of h
    refine V_narrow hEn (fun n1 n2 n3 => V_widen (k := LC - mN M) (n := LZ - mZ M) (by omega) (by omega) ?_)
    cases h
    subst eQ
    exact V_iret hG dX1_text_16

