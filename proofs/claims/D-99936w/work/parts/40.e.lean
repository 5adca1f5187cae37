set_option maxRecDepth 100000
set_option maxHeartbeats 4000000
def btp {α β : Type} (x : Option (Option α)) (f : α → Option β) (k : Option β) : Option β := match x with
  | none => none
  | some none => k
  | some (some a) => f a
theorem btp_of {α β : Type} {x : Option (Option α)} {f : α → Option β} {k : Option β} {r : β} (h : btp x f k = some r) : ∃ y, x = some y ∧ (∀ a, y = some a → f a = some r) ∧ (y = none → k = some r) := by
  cases x with
  | none => cases h
  | some y => exact ⟨y, rfl, fun a e => by subst e; exact h, fun e => by subst e; exact h⟩
def rsP (M : Mem) (r : Option Int64) : Rs := match r with
  | some v => .inl (some (.long v), M)
  | none => .inr (0, M)
def rmP (fr lo : Nat) : Room := { frames := fr, cells := 0, slots := 0, locals := lo }
/-- what the evaluation of parts promises, one level down -/
def PofOk (E : En) (rec : Nat → Nat → Mem → Option (Option Int64)) (fr lo : Nat) : Prop := ∀ (a nm : Nat) (M : Mem) (res : Option Int64), rec a nm M = some res →
  (mT M a = 10 ∧ RM E faT yX15_of cX15_of 2 (some .long) (rmP fr lo) [rf E a, rf E nm] M (rsP M res)) ∨
  (mT M a = 11 ∧ RM E faT yX16_of cX16_of 2 (some .long) (rmP fr lo) [rf E a, rf E nm] M (rsP M res)) ∨
  (mT M a = 12 ∧ RM E faT yX17_of cX17_of 2 (some .long) (rmP fr lo) [rf E a, rf E nm] M (rsP M res)) ∨
  (mT M a = 13 ∧ RM E faT yX18_of cX18_of 6 (some .long) (rmP fr lo) [rf E a, rf E nm] M (rsP M res))
theorem hpo_X17_13_X15 : GoodIn lw_all (va_wsU RX17 13 RX15 RX14 ⟨"TroughTreaty$Part", "of", "([J)J"⟩ yX15_of (ws_ yX15_of cX15_of 2 (some .long))) := by
  intro w hw
  simp only [va_wsU, List.cons_append, List.nil_append, List.mem_cons] at hw
  rcases hw with rfl | rfl | rfl | rfl | rfl | hw
  · exact lw_self _ q1065
  · exact lw_self _ q1058
  · exact lw_self _ q1089
  · exact lw_self _ q1066
  · exact lw_self _ q152
  · exact lw_meth q1067 w (List.mem_cons.mpr hw)
theorem hpo_X17_13_X16 : GoodIn lw_all (va_wsU RX17 13 RX16 RX14 ⟨"TroughTreaty$Part", "of", "([J)J"⟩ yX16_of (ws_ yX16_of cX16_of 2 (some .long))) := by
  intro w hw
  simp only [va_wsU, List.cons_append, List.nil_append, List.mem_cons] at hw
  rcases hw with rfl | rfl | rfl | rfl | rfl | hw
  · exact lw_self _ q1065
  · exact lw_self _ q1058
  · exact lw_self _ q1059
  · exact lw_self _ q1060
  · exact lw_self _ q153
  · exact lw_meth q1061 w (List.mem_cons.mpr hw)
theorem hpo_X17_13_X17 : GoodIn lw_all (va_wsU RX17 13 RX17 RX14 ⟨"TroughTreaty$Part", "of", "([J)J"⟩ yX17_of (ws_ yX17_of cX17_of 2 (some .long))) := by
  intro w hw
  simp only [va_wsU, List.cons_append, List.nil_append, List.mem_cons] at hw
  rcases hw with rfl | rfl | rfl | rfl | rfl | hw
  · exact lw_self _ q1065
  · exact lw_self _ q1058
  · exact lw_self _ q1062
  · exact lw_self _ q1063
  · exact lw_self _ q154
  · exact lw_meth q1064 w (List.mem_cons.mpr hw)
theorem hpo_X17_13_X18 : GoodIn lw_all (va_wsU RX17 13 RX18 RX14 ⟨"TroughTreaty$Part", "of", "([J)J"⟩ yX18_of (ws_ yX18_of cX18_of 6 (some .long))) := by
  intro w hw
  simp only [va_wsU, List.cons_append, List.nil_append, List.mem_cons] at hw
  rcases hw with rfl | rfl | rfl | rfl | rfl | hw
  · exact lw_self _ q1065
  · exact lw_self _ q1058
  · exact lw_self _ q1090
  · exact lw_self _ q1068
  · exact lw_self _ q155
  · exact lw_meth q1069 w (List.mem_cons.mpr hw)
theorem po_X17_13 {E : En} {G : Ctx} {M : Mem} {cells slots nL pc : Nat} {lv : List (Nat × Value)} {st : List Value} {Q : State → Prop} {cc : ByteArray} {ret : Option FieldType} {rm0 : Room} (hE : EOk E) (hG : Cx E G cc nL ret RX17 rm0) (hN : NOk E) {rec : Nat → Nat → Mem → Option (Option Int64)} {fr lo : Nat} (hrec : PofOk E rec fr lo) {a nm : Nat} {v : Int64} (hc : rec a nm M = some (some v)) (hroom : fr + 1 ≤ rm0.frames ∧ 8 + (6 + 11) + lo ≤ rm0.locals) (hcat : (st.map fun v => v.category).sum ≤ 8) (hf : cells ≤ rm0.cells ∧ slots ≤ rm0.slots) (d : decode cc pc = .ok (.invokevirtual 13, 3)) (k : V E G M cells slots nL (pc + 3) lv (.long v :: st) Q) : V E G M cells slots nL pc lv (rf E nm :: rf E a :: st) Q := by
  rcases hrec a nm M (some v) hc with ⟨hT, ok9⟩ | ⟨hT, ok9⟩ | ⟨hT, ok9⟩ | ⟨hT, ok9⟩
  · exact W_callU hE hG (ci := 10) (C := RX15) (T := TX15) (N := 1) (As := [rf E nm]) (rest := st) (v := some (.long v)) (M' := M) ok9 hT (by decide) rfl (fun R s args hts hK9 hR => va_cwA (owner := RX14) 1 hts hpo_X17_13_X15 rfl rfl rfl (hN.1 s hK9 _ q1057 rfl) (by decide +kernel) (by rw [hR]; exact ⟨hroom.1, by show 8 + (2 + 11) + lo ≤ _; omega⟩)) rfl rfl hcat ⟨by show cells + 0 ≤ _; exact hf.1, by show slots + 0 ≤ _; exact hf.2⟩ d k
  · exact W_callU hE hG (ci := 11) (C := RX16) (T := TX16) (N := 1) (As := [rf E nm]) (rest := st) (v := some (.long v)) (M' := M) ok9 hT (by decide) rfl (fun R s args hts hK9 hR => va_cwA (owner := RX14) 1 hts hpo_X17_13_X16 rfl rfl rfl (hN.1 s hK9 _ q1057 rfl) (by decide +kernel) (by rw [hR]; exact ⟨hroom.1, by show 8 + (2 + 11) + lo ≤ _; omega⟩)) rfl rfl hcat ⟨by show cells + 0 ≤ _; exact hf.1, by show slots + 0 ≤ _; exact hf.2⟩ d k
  · exact W_callU hE hG (ci := 12) (C := RX17) (T := TX17) (N := 1) (As := [rf E nm]) (rest := st) (v := some (.long v)) (M' := M) ok9 hT (by decide) rfl (fun R s args hts hK9 hR => va_cwA (owner := RX14) 1 hts hpo_X17_13_X17 rfl rfl rfl (hN.1 s hK9 _ q1057 rfl) (by decide +kernel) (by rw [hR]; exact ⟨hroom.1, by show 8 + (2 + 11) + lo ≤ _; omega⟩)) rfl rfl hcat ⟨by show cells + 0 ≤ _; exact hf.1, by show slots + 0 ≤ _; exact hf.2⟩ d k
  · exact W_callU hE hG (ci := 13) (C := RX18) (T := TX18) (N := 3) (As := [rf E nm]) (rest := st) (v := some (.long v)) (M' := M) ok9 hT (by decide) rfl (fun R s args hts hK9 hR => va_cwA (owner := RX14) 1 hts hpo_X17_13_X18 rfl rfl rfl (hN.1 s hK9 _ q1057 rfl) (by decide +kernel) (by rw [hR]; exact ⟨hroom.1, by show 8 + (6 + 11) + lo ≤ _; omega⟩)) rfl rfl hcat ⟨by show cells + 0 ≤ _; exact hf.1, by show slots + 0 ≤ _; exact hf.2⟩ d k
theorem pt_X17_13 {E : En} {G : Ctx} {M : Mem} {cells slots nL pc : Nat} {lv : List (Nat × Value)} {st : List Value} {cc : ByteArray} {ret : Option FieldType} {rm0 : Room} (hE : EOk E) (hG : Cx E G cc nL ret RX17 rm0) (hN : NOk E) {rec : Nat → Nat → Mem → Option (Option Int64)} {fr lo : Nat} (hrec : PofOk E rec fr lo) {a nm : Nat} (hc : rec a nm M = some none) (hroom : fr + 1 ≤ rm0.frames ∧ 8 + (6 + 11) + lo ≤ rm0.locals) (hcat : (st.map fun v => v.category).sum ≤ 8) (hf : cells ≤ rm0.cells ∧ slots ≤ rm0.slots) (d : decode cc pc = .ok (.invokevirtual 13, 3)) (hX : NoX G) : V E G M cells slots nL pc lv (rf E nm :: rf E a :: st) (QT E G faT.1 (faT.2 E 0) M rm0.cells rm0.slots) := by
  rcases hrec a nm M none hc with ⟨hT, ok9⟩ | ⟨hT, ok9⟩ | ⟨hT, ok9⟩ | ⟨hT, ok9⟩
  · exact T_callU hE hG (ci := 10) (C := RX15) (T := TX15) (N := 1) (As := [rf E nm]) (rest := st) ok9 hT (by decide) rfl (fun R s args hts hK9 hR => va_cwA (owner := RX14) 1 hts hpo_X17_13_X15 rfl rfl rfl (hN.1 s hK9 _ q1057 rfl) (by decide +kernel) (by rw [hR]; exact ⟨hroom.1, by show 8 + (2 + 11) + lo ≤ _; omega⟩)) rfl rfl hcat ⟨by show cells + 0 ≤ _; exact hf.1, by show slots + 0 ≤ _; exact hf.2⟩ d hX
  · exact T_callU hE hG (ci := 11) (C := RX16) (T := TX16) (N := 1) (As := [rf E nm]) (rest := st) ok9 hT (by decide) rfl (fun R s args hts hK9 hR => va_cwA (owner := RX14) 1 hts hpo_X17_13_X16 rfl rfl rfl (hN.1 s hK9 _ q1057 rfl) (by decide +kernel) (by rw [hR]; exact ⟨hroom.1, by show 8 + (2 + 11) + lo ≤ _; omega⟩)) rfl rfl hcat ⟨by show cells + 0 ≤ _; exact hf.1, by show slots + 0 ≤ _; exact hf.2⟩ d hX
  · exact T_callU hE hG (ci := 12) (C := RX17) (T := TX17) (N := 1) (As := [rf E nm]) (rest := st) ok9 hT (by decide) rfl (fun R s args hts hK9 hR => va_cwA (owner := RX14) 1 hts hpo_X17_13_X17 rfl rfl rfl (hN.1 s hK9 _ q1057 rfl) (by decide +kernel) (by rw [hR]; exact ⟨hroom.1, by show 8 + (2 + 11) + lo ≤ _; omega⟩)) rfl rfl hcat ⟨by show cells + 0 ≤ _; exact hf.1, by show slots + 0 ≤ _; exact hf.2⟩ d hX
  · exact T_callU hE hG (ci := 13) (C := RX18) (T := TX18) (N := 3) (As := [rf E nm]) (rest := st) ok9 hT (by decide) rfl (fun R s args hts hK9 hR => va_cwA (owner := RX14) 1 hts hpo_X17_13_X18 rfl rfl rfl (hN.1 s hK9 _ q1057 rfl) (by decide +kernel) (by rw [hR]; exact ⟨hroom.1, by show 8 + (6 + 11) + lo ≤ _; omega⟩)) rfl rfl hcat ⟨by show cells + 0 ≤ _; exact hf.1, by show slots + 0 ≤ _; exact hf.2⟩ d hX
theorem hpo_X18_22_X15 : GoodIn lw_all (va_wsU RX18 22 RX15 RX14 ⟨"TroughTreaty$Part", "of", "([J)J"⟩ yX15_of (ws_ yX15_of cX15_of 2 (some .long))) := by
  intro w hw
  simp only [va_wsU, List.cons_append, List.nil_append, List.mem_cons] at hw
  rcases hw with rfl | rfl | rfl | rfl | rfl | hw
  · exact lw_self _ q1070
  · exact lw_self _ q1058
  · exact lw_self _ q1089
  · exact lw_self _ q1066
  · exact lw_self _ q152
  · exact lw_meth q1067 w (List.mem_cons.mpr hw)
theorem hpo_X18_22_X16 : GoodIn lw_all (va_wsU RX18 22 RX16 RX14 ⟨"TroughTreaty$Part", "of", "([J)J"⟩ yX16_of (ws_ yX16_of cX16_of 2 (some .long))) := by
  intro w hw
  simp only [va_wsU, List.cons_append, List.nil_append, List.mem_cons] at hw
  rcases hw with rfl | rfl | rfl | rfl | rfl | hw
  · exact lw_self _ q1070
  · exact lw_self _ q1058
  · exact lw_self _ q1059
  · exact lw_self _ q1060
  · exact lw_self _ q153
  · exact lw_meth q1061 w (List.mem_cons.mpr hw)
theorem hpo_X18_22_X17 : GoodIn lw_all (va_wsU RX18 22 RX17 RX14 ⟨"TroughTreaty$Part", "of", "([J)J"⟩ yX17_of (ws_ yX17_of cX17_of 2 (some .long))) := by
  intro w hw
  simp only [va_wsU, List.cons_append, List.nil_append, List.mem_cons] at hw
  rcases hw with rfl | rfl | rfl | rfl | rfl | hw
  · exact lw_self _ q1070
  · exact lw_self _ q1058
  · exact lw_self _ q1062
  · exact lw_self _ q1063
  · exact lw_self _ q154
  · exact lw_meth q1064 w (List.mem_cons.mpr hw)
theorem hpo_X18_22_X18 : GoodIn lw_all (va_wsU RX18 22 RX18 RX14 ⟨"TroughTreaty$Part", "of", "([J)J"⟩ yX18_of (ws_ yX18_of cX18_of 6 (some .long))) := by
  intro w hw
  simp only [va_wsU, List.cons_append, List.nil_append, List.mem_cons] at hw
  rcases hw with rfl | rfl | rfl | rfl | rfl | hw
  · exact lw_self _ q1070
  · exact lw_self _ q1058
  · exact lw_self _ q1090
  · exact lw_self _ q1068
  · exact lw_self _ q155
  · exact lw_meth q1069 w (List.mem_cons.mpr hw)
theorem po_X18_22 {E : En} {G : Ctx} {M : Mem} {cells slots nL pc : Nat} {lv : List (Nat × Value)} {st : List Value} {Q : State → Prop} {cc : ByteArray} {ret : Option FieldType} {rm0 : Room} (hE : EOk E) (hG : Cx E G cc nL ret RX18 rm0) (hN : NOk E) {rec : Nat → Nat → Mem → Option (Option Int64)} {fr lo : Nat} (hrec : PofOk E rec fr lo) {a nm : Nat} {v : Int64} (hc : rec a nm M = some (some v)) (hroom : fr + 1 ≤ rm0.frames ∧ 8 + (6 + 11) + lo ≤ rm0.locals) (hcat : (st.map fun v => v.category).sum ≤ 8) (hf : cells ≤ rm0.cells ∧ slots ≤ rm0.slots) (d : decode cc pc = .ok (.invokevirtual 22, 3)) (k : V E G M cells slots nL (pc + 3) lv (.long v :: st) Q) : V E G M cells slots nL pc lv (rf E nm :: rf E a :: st) Q := by
  rcases hrec a nm M (some v) hc with ⟨hT, ok9⟩ | ⟨hT, ok9⟩ | ⟨hT, ok9⟩ | ⟨hT, ok9⟩
  · exact W_callU hE hG (ci := 10) (C := RX15) (T := TX15) (N := 1) (As := [rf E nm]) (rest := st) (v := some (.long v)) (M' := M) ok9 hT (by decide) rfl (fun R s args hts hK9 hR => va_cwA (owner := RX14) 1 hts hpo_X18_22_X15 rfl rfl rfl (hN.1 s hK9 _ q1057 rfl) (by decide +kernel) (by rw [hR]; exact ⟨hroom.1, by show 8 + (2 + 11) + lo ≤ _; omega⟩)) rfl rfl hcat ⟨by show cells + 0 ≤ _; exact hf.1, by show slots + 0 ≤ _; exact hf.2⟩ d k
  · exact W_callU hE hG (ci := 11) (C := RX16) (T := TX16) (N := 1) (As := [rf E nm]) (rest := st) (v := some (.long v)) (M' := M) ok9 hT (by decide) rfl (fun R s args hts hK9 hR => va_cwA (owner := RX14) 1 hts hpo_X18_22_X16 rfl rfl rfl (hN.1 s hK9 _ q1057 rfl) (by decide +kernel) (by rw [hR]; exact ⟨hroom.1, by show 8 + (2 + 11) + lo ≤ _; omega⟩)) rfl rfl hcat ⟨by show cells + 0 ≤ _; exact hf.1, by show slots + 0 ≤ _; exact hf.2⟩ d k
  · exact W_callU hE hG (ci := 12) (C := RX17) (T := TX17) (N := 1) (As := [rf E nm]) (rest := st) (v := some (.long v)) (M' := M) ok9 hT (by decide) rfl (fun R s args hts hK9 hR => va_cwA (owner := RX14) 1 hts hpo_X18_22_X17 rfl rfl rfl (hN.1 s hK9 _ q1057 rfl) (by decide +kernel) (by rw [hR]; exact ⟨hroom.1, by show 8 + (2 + 11) + lo ≤ _; omega⟩)) rfl rfl hcat ⟨by show cells + 0 ≤ _; exact hf.1, by show slots + 0 ≤ _; exact hf.2⟩ d k
  · exact W_callU hE hG (ci := 13) (C := RX18) (T := TX18) (N := 3) (As := [rf E nm]) (rest := st) (v := some (.long v)) (M' := M) ok9 hT (by decide) rfl (fun R s args hts hK9 hR => va_cwA (owner := RX14) 1 hts hpo_X18_22_X18 rfl rfl rfl (hN.1 s hK9 _ q1057 rfl) (by decide +kernel) (by rw [hR]; exact ⟨hroom.1, by show 8 + (6 + 11) + lo ≤ _; omega⟩)) rfl rfl hcat ⟨by show cells + 0 ≤ _; exact hf.1, by show slots + 0 ≤ _; exact hf.2⟩ d k
theorem pt_X18_22 {E : En} {G : Ctx} {M : Mem} {cells slots nL pc : Nat} {lv : List (Nat × Value)} {st : List Value} {cc : ByteArray} {ret : Option FieldType} {rm0 : Room} (hE : EOk E) (hG : Cx E G cc nL ret RX18 rm0) (hN : NOk E) {rec : Nat → Nat → Mem → Option (Option Int64)} {fr lo : Nat} (hrec : PofOk E rec fr lo) {a nm : Nat} (hc : rec a nm M = some none) (hroom : fr + 1 ≤ rm0.frames ∧ 8 + (6 + 11) + lo ≤ rm0.locals) (hcat : (st.map fun v => v.category).sum ≤ 8) (hf : cells ≤ rm0.cells ∧ slots ≤ rm0.slots) (d : decode cc pc = .ok (.invokevirtual 22, 3)) (hX : NoX G) : V E G M cells slots nL pc lv (rf E nm :: rf E a :: st) (QT E G faT.1 (faT.2 E 0) M rm0.cells rm0.slots) := by
  rcases hrec a nm M none hc with ⟨hT, ok9⟩ | ⟨hT, ok9⟩ | ⟨hT, ok9⟩ | ⟨hT, ok9⟩
  · exact T_callU hE hG (ci := 10) (C := RX15) (T := TX15) (N := 1) (As := [rf E nm]) (rest := st) ok9 hT (by decide) rfl (fun R s args hts hK9 hR => va_cwA (owner := RX14) 1 hts hpo_X18_22_X15 rfl rfl rfl (hN.1 s hK9 _ q1057 rfl) (by decide +kernel) (by rw [hR]; exact ⟨hroom.1, by show 8 + (2 + 11) + lo ≤ _; omega⟩)) rfl rfl hcat ⟨by show cells + 0 ≤ _; exact hf.1, by show slots + 0 ≤ _; exact hf.2⟩ d hX
  · exact T_callU hE hG (ci := 11) (C := RX16) (T := TX16) (N := 1) (As := [rf E nm]) (rest := st) ok9 hT (by decide) rfl (fun R s args hts hK9 hR => va_cwA (owner := RX14) 1 hts hpo_X18_22_X16 rfl rfl rfl (hN.1 s hK9 _ q1057 rfl) (by decide +kernel) (by rw [hR]; exact ⟨hroom.1, by show 8 + (2 + 11) + lo ≤ _; omega⟩)) rfl rfl hcat ⟨by show cells + 0 ≤ _; exact hf.1, by show slots + 0 ≤ _; exact hf.2⟩ d hX
  · exact T_callU hE hG (ci := 12) (C := RX17) (T := TX17) (N := 1) (As := [rf E nm]) (rest := st) ok9 hT (by decide) rfl (fun R s args hts hK9 hR => va_cwA (owner := RX14) 1 hts hpo_X18_22_X17 rfl rfl rfl (hN.1 s hK9 _ q1057 rfl) (by decide +kernel) (by rw [hR]; exact ⟨hroom.1, by show 8 + (2 + 11) + lo ≤ _; omega⟩)) rfl rfl hcat ⟨by show cells + 0 ≤ _; exact hf.1, by show slots + 0 ≤ _; exact hf.2⟩ d hX
  · exact T_callU hE hG (ci := 13) (C := RX18) (T := TX18) (N := 3) (As := [rf E nm]) (rest := st) ok9 hT (by decide) rfl (fun R s args hts hK9 hR => va_cwA (owner := RX14) 1 hts hpo_X18_22_X18 rfl rfl rfl (hN.1 s hK9 _ q1057 rfl) (by decide +kernel) (by rw [hR]; exact ⟨hroom.1, by show 8 + (6 + 11) + lo ≤ _; omega⟩)) rfl rfl hcat ⟨by show cells + 0 ≤ _; exact hf.1, by show slots + 0 ≤ _; exact hf.2⟩ d hX
theorem hpo_X1_50_X15 : GoodIn lw_all (va_wsU RX1 50 RX15 RX14 ⟨"TroughTreaty$Part", "of", "([J)J"⟩ yX15_of (ws_ yX15_of cX15_of 2 (some .long))) := by
  intro w hw
  simp only [va_wsU, List.cons_append, List.nil_append, List.mem_cons] at hw
  rcases hw with rfl | rfl | rfl | rfl | rfl | hw
  · exact lw_self _ q1056
  · exact lw_self _ q1058
  · exact lw_self _ q1089
  · exact lw_self _ q1066
  · exact lw_self _ q152
  · exact lw_meth q1067 w (List.mem_cons.mpr hw)
theorem hpo_X1_50_X16 : GoodIn lw_all (va_wsU RX1 50 RX16 RX14 ⟨"TroughTreaty$Part", "of", "([J)J"⟩ yX16_of (ws_ yX16_of cX16_of 2 (some .long))) := by
  intro w hw
  simp only [va_wsU, List.cons_append, List.nil_append, List.mem_cons] at hw
  rcases hw with rfl | rfl | rfl | rfl | rfl | hw
  · exact lw_self _ q1056
  · exact lw_self _ q1058
  · exact lw_self _ q1059
  · exact lw_self _ q1060
  · exact lw_self _ q153
  · exact lw_meth q1061 w (List.mem_cons.mpr hw)
theorem hpo_X1_50_X17 : GoodIn lw_all (va_wsU RX1 50 RX17 RX14 ⟨"TroughTreaty$Part", "of", "([J)J"⟩ yX17_of (ws_ yX17_of cX17_of 2 (some .long))) := by
  intro w hw
  simp only [va_wsU, List.cons_append, List.nil_append, List.mem_cons] at hw
  rcases hw with rfl | rfl | rfl | rfl | rfl | hw
  · exact lw_self _ q1056
  · exact lw_self _ q1058
  · exact lw_self _ q1062
  · exact lw_self _ q1063
  · exact lw_self _ q154
  · exact lw_meth q1064 w (List.mem_cons.mpr hw)
theorem hpo_X1_50_X18 : GoodIn lw_all (va_wsU RX1 50 RX18 RX14 ⟨"TroughTreaty$Part", "of", "([J)J"⟩ yX18_of (ws_ yX18_of cX18_of 6 (some .long))) := by
  intro w hw
  simp only [va_wsU, List.cons_append, List.nil_append, List.mem_cons] at hw
  rcases hw with rfl | rfl | rfl | rfl | rfl | hw
  · exact lw_self _ q1056
  · exact lw_self _ q1058
  · exact lw_self _ q1090
  · exact lw_self _ q1068
  · exact lw_self _ q155
  · exact lw_meth q1069 w (List.mem_cons.mpr hw)
theorem po_X1_50 {E : En} {G : Ctx} {M : Mem} {cells slots nL pc : Nat} {lv : List (Nat × Value)} {st : List Value} {Q : State → Prop} {cc : ByteArray} {ret : Option FieldType} {rm0 : Room} (hE : EOk E) (hG : Cx E G cc nL ret RX1 rm0) (hN : NOk E) {rec : Nat → Nat → Mem → Option (Option Int64)} {fr lo : Nat} (hrec : PofOk E rec fr lo) {a nm : Nat} {v : Int64} (hc : rec a nm M = some (some v)) (hroom : fr + 1 ≤ rm0.frames ∧ 8 + (6 + 11) + lo ≤ rm0.locals) (hcat : (st.map fun v => v.category).sum ≤ 8) (hf : cells ≤ rm0.cells ∧ slots ≤ rm0.slots) (d : decode cc pc = .ok (.invokevirtual 50, 3)) (k : V E G M cells slots nL (pc + 3) lv (.long v :: st) Q) : V E G M cells slots nL pc lv (rf E nm :: rf E a :: st) Q := by
  rcases hrec a nm M (some v) hc with ⟨hT, ok9⟩ | ⟨hT, ok9⟩ | ⟨hT, ok9⟩ | ⟨hT, ok9⟩
  · exact W_callU hE hG (ci := 10) (C := RX15) (T := TX15) (N := 1) (As := [rf E nm]) (rest := st) (v := some (.long v)) (M' := M) ok9 hT (by decide) rfl (fun R s args hts hK9 hR => va_cwA (owner := RX14) 1 hts hpo_X1_50_X15 rfl rfl rfl (hN.1 s hK9 _ q1057 rfl) (by decide +kernel) (by rw [hR]; exact ⟨hroom.1, by show 8 + (2 + 11) + lo ≤ _; omega⟩)) rfl rfl hcat ⟨by show cells + 0 ≤ _; exact hf.1, by show slots + 0 ≤ _; exact hf.2⟩ d k
  · exact W_callU hE hG (ci := 11) (C := RX16) (T := TX16) (N := 1) (As := [rf E nm]) (rest := st) (v := some (.long v)) (M' := M) ok9 hT (by decide) rfl (fun R s args hts hK9 hR => va_cwA (owner := RX14) 1 hts hpo_X1_50_X16 rfl rfl rfl (hN.1 s hK9 _ q1057 rfl) (by decide +kernel) (by rw [hR]; exact ⟨hroom.1, by show 8 + (2 + 11) + lo ≤ _; omega⟩)) rfl rfl hcat ⟨by show cells + 0 ≤ _; exact hf.1, by show slots + 0 ≤ _; exact hf.2⟩ d k
  · exact W_callU hE hG (ci := 12) (C := RX17) (T := TX17) (N := 1) (As := [rf E nm]) (rest := st) (v := some (.long v)) (M' := M) ok9 hT (by decide) rfl (fun R s args hts hK9 hR => va_cwA (owner := RX14) 1 hts hpo_X1_50_X17 rfl rfl rfl (hN.1 s hK9 _ q1057 rfl) (by decide +kernel) (by rw [hR]; exact ⟨hroom.1, by show 8 + (2 + 11) + lo ≤ _; omega⟩)) rfl rfl hcat ⟨by show cells + 0 ≤ _; exact hf.1, by show slots + 0 ≤ _; exact hf.2⟩ d k
  · exact W_callU hE hG (ci := 13) (C := RX18) (T := TX18) (N := 3) (As := [rf E nm]) (rest := st) (v := some (.long v)) (M' := M) ok9 hT (by decide) rfl (fun R s args hts hK9 hR => va_cwA (owner := RX14) 1 hts hpo_X1_50_X18 rfl rfl rfl (hN.1 s hK9 _ q1057 rfl) (by decide +kernel) (by rw [hR]; exact ⟨hroom.1, by show 8 + (6 + 11) + lo ≤ _; omega⟩)) rfl rfl hcat ⟨by show cells + 0 ≤ _; exact hf.1, by show slots + 0 ≤ _; exact hf.2⟩ d k
theorem pt_X1_50 {E : En} {G : Ctx} {M : Mem} {cells slots nL pc : Nat} {lv : List (Nat × Value)} {st : List Value} {cc : ByteArray} {ret : Option FieldType} {rm0 : Room} (hE : EOk E) (hG : Cx E G cc nL ret RX1 rm0) (hN : NOk E) {rec : Nat → Nat → Mem → Option (Option Int64)} {fr lo : Nat} (hrec : PofOk E rec fr lo) {a nm : Nat} (hc : rec a nm M = some none) (hroom : fr + 1 ≤ rm0.frames ∧ 8 + (6 + 11) + lo ≤ rm0.locals) (hcat : (st.map fun v => v.category).sum ≤ 8) (hf : cells ≤ rm0.cells ∧ slots ≤ rm0.slots) (d : decode cc pc = .ok (.invokevirtual 50, 3)) (hX : NoX G) : V E G M cells slots nL pc lv (rf E nm :: rf E a :: st) (QT E G faT.1 (faT.2 E 0) M rm0.cells rm0.slots) := by
  rcases hrec a nm M none hc with ⟨hT, ok9⟩ | ⟨hT, ok9⟩ | ⟨hT, ok9⟩ | ⟨hT, ok9⟩
  · exact T_callU hE hG (ci := 10) (C := RX15) (T := TX15) (N := 1) (As := [rf E nm]) (rest := st) ok9 hT (by decide) rfl (fun R s args hts hK9 hR => va_cwA (owner := RX14) 1 hts hpo_X1_50_X15 rfl rfl rfl (hN.1 s hK9 _ q1057 rfl) (by decide +kernel) (by rw [hR]; exact ⟨hroom.1, by show 8 + (2 + 11) + lo ≤ _; omega⟩)) rfl rfl hcat ⟨by show cells + 0 ≤ _; exact hf.1, by show slots + 0 ≤ _; exact hf.2⟩ d hX
  · exact T_callU hE hG (ci := 11) (C := RX16) (T := TX16) (N := 1) (As := [rf E nm]) (rest := st) ok9 hT (by decide) rfl (fun R s args hts hK9 hR => va_cwA (owner := RX14) 1 hts hpo_X1_50_X16 rfl rfl rfl (hN.1 s hK9 _ q1057 rfl) (by decide +kernel) (by rw [hR]; exact ⟨hroom.1, by show 8 + (2 + 11) + lo ≤ _; omega⟩)) rfl rfl hcat ⟨by show cells + 0 ≤ _; exact hf.1, by show slots + 0 ≤ _; exact hf.2⟩ d hX
  · exact T_callU hE hG (ci := 12) (C := RX17) (T := TX17) (N := 1) (As := [rf E nm]) (rest := st) ok9 hT (by decide) rfl (fun R s args hts hK9 hR => va_cwA (owner := RX14) 1 hts hpo_X1_50_X17 rfl rfl rfl (hN.1 s hK9 _ q1057 rfl) (by decide +kernel) (by rw [hR]; exact ⟨hroom.1, by show 8 + (2 + 11) + lo ≤ _; omega⟩)) rfl rfl hcat ⟨by show cells + 0 ≤ _; exact hf.1, by show slots + 0 ≤ _; exact hf.2⟩ d hX
  · exact T_callU hE hG (ci := 13) (C := RX18) (T := TX18) (N := 3) (As := [rf E nm]) (rest := st) ok9 hT (by decide) rfl (fun R s args hts hK9 hR => va_cwA (owner := RX14) 1 hts hpo_X1_50_X18 rfl rfl rfl (hN.1 s hK9 _ q1057 rfl) (by decide +kernel) (by rw [hR]; exact ⟨hroom.1, by show 8 + (6 + 11) + lo ≤ _; omega⟩)) rfl rfl hcat ⟨by show cells + 0 ≤ _; exact hf.1, by show slots + 0 ≤ _; exact hf.2⟩ d hX
theorem hdc_J8_abs_2 : yJ8_abs_2.cls ≠ "java/lang/invoke/MethodHandle" ∧ yJ8_abs_2.cls ≠ "java/lang/invoke/VarHandle" ∧ (parseMethodDescriptor yJ8_abs_2.desc).map (fun d => d.parameters.length) = some 1 := by decide +kernel
theorem hw_X18_44 : GoodIn lw_all (va_wsS RX18 44 yJ8_abs_2 (ws_ yJ8_abs_2 cJ8_abs_2 2 (some .long))) := lw_S q1081 q1082 q138 q1083
theorem gf_X15_7 {E : En} {G : Ctx} {M : Mem} {cells slots nL pc : Nat} {lv : List (Nat × Value)} {st : List Value} {Q : State → Prop} {cc : ByteArray} {ret : Option FieldType} {rm0 : Room} (hN : NOk E) (hG : Cx E G cc nL ret RX15 rm0) {a : Nat} (hT : mT M a = 10) (d : decode cc pc = .ok (.getfield 7, 3)) (kk : V E G M cells slots nL (pc + 3) lv (.int (mI M a 0) :: st) Q) : V E G M cells slots nL pc lv (rf E a :: st) Q := W_getPI hG (ci := 10) (C := RX15) (T := TX15) (N := 1) (k := 0) hT (by decide) rfl in_X15 (by decide) (Or.inl rfl)  rfl q957 d kk
theorem gf_X16_7 {E : En} {G : Ctx} {M : Mem} {cells slots nL pc : Nat} {lv : List (Nat × Value)} {st : List Value} {Q : State → Prop} {cc : ByteArray} {ret : Option FieldType} {rm0 : Room} (hN : NOk E) (hG : Cx E G cc nL ret RX16 rm0) {a : Nat} (hT : mT M a = 11) (d : decode cc pc = .ok (.getfield 7, 3)) (kk : V E G M cells slots nL (pc + 3) lv (.int (mI M a 0) :: st) Q) : V E G M cells slots nL pc lv (rf E a :: st) Q := W_getPI hG (ci := 11) (C := RX16) (T := TX16) (N := 1) (k := 0) hT (by decide) rfl in_X16 (by decide) (Or.inl rfl)  rfl q967 d kk
theorem gf_X17_7 {E : En} {G : Ctx} {M : Mem} {cells slots nL pc : Nat} {lv : List (Nat × Value)} {st : List Value} {Q : State → Prop} {cc : ByteArray} {ret : Option FieldType} {rm0 : Room} (hN : NOk E) (hG : Cx E G cc nL ret RX17 rm0) {a : Nat} (hT : mT M a = 12 ∨ mT M a = 13) {r : Nat} (hr : mR M a 0 = some r) (d : decode cc pc = .ok (.getfield 7, 3)) (kk : V E G M cells slots nL (pc + 3) lv (rf E r :: st) Q) : V E G M cells slots nL pc lv (rf E a :: st) Q := by
  rcases hT with hT | hT
  · exact W_getPR hG (ci := 12) (C := RX17) (T := TX17) (N := 1) (k := 0) hT (by decide) rfl in_X17 (by decide) (Or.inl rfl) hr rfl q982 d kk
  · exact W_getPR hG (ci := 13) (C := RX18) (T := TX18) (N := 3) (k := 0) hT (by decide) rfl in_X18 (by decide) (Or.inl rfl) hr rfl q982 d kk
theorem gf_X18_19 {E : En} {G : Ctx} {M : Mem} {cells slots nL pc : Nat} {lv : List (Nat × Value)} {st : List Value} {Q : State → Prop} {cc : ByteArray} {ret : Option FieldType} {rm0 : Room} (hN : NOk E) (hG : Cx E G cc nL ret RX18 rm0) {a : Nat} (hT : mT M a = 13) {r : Nat} (hr : mR M a 0 = some r) (d : decode cc pc = .ok (.getfield 19, 3)) (kk : V E G M cells slots nL (pc + 3) lv (rf E r :: st) Q) : V E G M cells slots nL pc lv (rf E a :: st) Q := W_getPR hG (ci := 13) (C := RX18) (T := TX18) (N := 3) (k := 0) hT (by decide) rfl in_X18 (by decide) (Or.inr q984) hr rfl q983 d kk
theorem gf_X18_15 {E : En} {G : Ctx} {M : Mem} {cells slots nL pc : Nat} {lv : List (Nat × Value)} {st : List Value} {Q : State → Prop} {cc : ByteArray} {ret : Option FieldType} {rm0 : Room} (hN : NOk E) (hG : Cx E G cc nL ret RX18 rm0) {a : Nat} (hT : mT M a = 13) {r : Nat} (hr : mR M a 2 = some r) (d : decode cc pc = .ok (.getfield 15, 3)) (kk : V E G M cells slots nL (pc + 3) lv (rf E r :: st) Q) : V E G M cells slots nL pc lv (rf E a :: st) Q := W_getPR hG (ci := 13) (C := RX18) (T := TX18) (N := 3) (k := 2) hT (by decide) rfl in_X18 (by decide) (Or.inl rfl) hr rfl q981 d kk
theorem gf_X18_9 {E : En} {G : Ctx} {M : Mem} {cells slots nL pc : Nat} {lv : List (Nat × Value)} {st : List Value} {Q : State → Prop} {cc : ByteArray} {ret : Option FieldType} {rm0 : Room} (hN : NOk E) (hG : Cx E G cc nL ret RX18 rm0) {a : Nat} (hT : mT M a = 13) (d : decode cc pc = .ok (.getfield 9, 3)) (kk : V E G M cells slots nL (pc + 3) lv (.int (mI M a 1) :: st) Q) : V E G M cells slots nL pc lv (rf E a :: st) Q := W_getPI hG (ci := 13) (C := RX18) (T := TX18) (N := 3) (k := 1) hT (by decide) rfl in_X18 (by decide) (Or.inl rfl)  rfl q980 d kk
theorem hdc_X18_is : yX18_is.cls ≠ "java/lang/invoke/MethodHandle" ∧ yX18_is.cls ≠ "java/lang/invoke/VarHandle" ∧ (parseMethodDescriptor yX18_is.desc).map (fun d => d.parameters.length) = some 1 := by decide +kernel
theorem hw_X18_40 : GoodIn lw_all (va_wsS RX18 40 yX18_is (ws_ yX18_is cX18_is 1 (some .long))) := lw_S q1086 q1087 q155 q1088
theorem hdc_X18_times : yX18_times.cls ≠ "java/lang/invoke/MethodHandle" ∧ yX18_times.cls ≠ "java/lang/invoke/VarHandle" ∧ (parseMethodDescriptor yX18_times.desc).map (fun d => d.parameters.length) = some 2 := by decide +kernel
theorem hw_X18_32 : GoodIn lw_all (va_wsS RX18 32 yX18_times (ws_ yX18_times cX18_times 4 (some .long))) := lw_S q1078 q1079 q155 q1080
theorem hdc_X1_sure : yX1_sure.cls ≠ "java/lang/invoke/MethodHandle" ∧ yX1_sure.cls ≠ "java/lang/invoke/VarHandle" ∧ (parseMethodDescriptor yX1_sure.desc).map (fun d => d.parameters.length) = some 1 := by decide +kernel
def f_X1_sure (p0 : Int64) (M : Mem) : Option (Option Int64) :=
if 0 < lg_cmp p0 1000000000000 then (
some none)
else (
if 0 ≤ lg_cmp p0 (-1000000000000) then (
some (some p0))
else (
some none))
def rm_f_X1_sure : Room := { frames := 0, cells := 0, slots := 0, locals := 0 }
theorem ok_f_X1_sure {E : En} (hE : EOk E) (hN : NOk E) {p0 : Int64} {M : Mem} {res : Option Int64} (h : f_X1_sure p0 M = some res) : RM E faT yX1_sure cX1_sure 2 (some .long) rm_f_X1_sure [.long p0] M (rsP M res) := by
  unfold f_X1_sure at h
  refine RM_introX (own := RX1) rfl (by decide) (Nat.le_of_ble_eq_true rfl) rfl (fun G hG hEn hI hX => ?_)
  obtain ⟨Q, eQ⟩ : ∃ Q, Q = QR E G faT (rsP M res) 0 0 := ⟨_, rfl⟩
  show V E G M 0 0 2 0 [(0, .long p0)] [] (QR E G faT (rsP M res) 0 0)
  rw [← eQ]
  refine V_lload_n hG 0 rfl dX1_sure_0 ?_
  refine V_ldc2 hG q1074 dX1_sure_1 ?_
  refine V_lcmp hG dX1_sure_4 ?_
  refine V_if_gt hG 16 dX1_sure_5 (by decide) (fun c_1 => ?_) (fun c_1 => ?_)
  · have h := if_t c_1 h
    cases h
    subst eQ
    exact T_trouble hG hN q1076 ⟨Nat.le_of_ble_eq_true rfl, Nat.le_of_ble_eq_true rfl⟩ dX1_sure_16 dX1_sure_19 hX
  · have h := if_f c_1 h
    refine V_lload_n hG 0 rfl dX1_sure_8 ?_
    refine V_ldc2 hG q1075 dX1_sure_9 ?_
    refine V_lcmp hG dX1_sure_12 ?_
    refine V_if_ge hG 20 dX1_sure_13 (by decide) (fun c_2 => ?_) (fun c_2 => ?_)
    · have h := if_t c_2 h
      refine V_lload_n hG 0 rfl dX1_sure_20 ?_
      cases h
      subst eQ
      exact V_lret hG dX1_sure_21
    · have h := if_f c_2 h
      cases h
      subst eQ
      exact T_trouble hG hN q1076 ⟨Nat.le_of_ble_eq_true rfl, Nat.le_of_ble_eq_true rfl⟩ dX1_sure_16 dX1_sure_19 hX

def f_X18_times (p0 : Int64) (p2 : Int64) (M : Mem) : Option (Option Int64) :=
if lg_cmp p0 0 = 0 then (
some (some (p0 * p2)))
else (
bd (f_J8_abs_2 p2 M) fun (r_3 : Int64) =>
bd (f_J8_abs_2 p0 M) fun (r_5 : Int64) =>
gd (¬ r_5 = 0) (
if lg_cmp r_3 (1000000000000 / r_5) ≤ 0 then (
some (some (p0 * p2)))
else (
some none)))
def rm_f_X18_times : Room := { frames := 1, cells := 0, slots := 0, locals := 21 }
theorem ok_f_X18_times {E : En} (hE : EOk E) (hN : NOk E) {p0 : Int64} {p2 : Int64} {M : Mem} {res : Option Int64} (h : f_X18_times p0 p2 M = some res) : RM E faT yX18_times cX18_times 4 (some .long) rm_f_X18_times [.long p0, .long p2] M (rsP M res) := by
  unfold f_X18_times at h
  refine RM_introX (own := RX18) rfl (by decide) (Nat.le_of_ble_eq_true rfl) rfl (fun G hG hEn hI hX => ?_)
  obtain ⟨Q, eQ⟩ : ∃ Q, Q = QR E G faT (rsP M res) 0 0 := ⟨_, rfl⟩
  show V E G M 0 0 4 0 [(0, .long p0), (2, .long p2)] [] (QR E G faT (rsP M res) 0 0)
  rw [← eQ]
  refine V_lload_n hG 0 rfl dX18_times_0 ?_
  refine V_lconst hG 0 rfl dX18_times_1 ?_
  refine V_lcmp hG dX18_times_2 ?_
  refine V_if_eq hG 26 dX18_times_3 (by decide) (fun c_1 => ?_) (fun c_1 => ?_)
  · have h := if_t c_1 h
    refine V_lload_n hG 0 rfl dX18_times_26 ?_
    refine V_lload_n hG 1 rfl dX18_times_27 ?_
    refine V_lmul hG dX18_times_28 ?_
    cases h
    subst eQ
    exact V_lret hG dX18_times_29
  · have h := if_f c_1 h
    refine V_lload_n hG 1 rfl dX18_times_6 ?_
    obtain ⟨r_3, hc_2, h⟩ := bd_of h
    refine V_callS hE hG (As := [.long p2]) (rest := []) (ok_f_J8_abs_2 hE hN hc_2) hw_X18_44 hdc_J8_abs_2 ⟨Nat.le_of_ble_eq_true rfl, Nat.le_of_ble_eq_true rfl⟩ rfl rfl (Nat.le_of_ble_eq_true rfl) ⟨Nat.le_of_ble_eq_true rfl, Nat.le_of_ble_eq_true rfl⟩ dX18_times_7 (V_zero rfl rfl ?_)
    refine V_ldc2 hG q1084 dX18_times_10 ?_
    refine V_lload_n hG 0 rfl dX18_times_13 ?_
    obtain ⟨r_5, hc_4, h⟩ := bd_of h
    refine V_callS hE hG (As := [.long p0]) (rest := [.long 1000000000000, .long r_3]) (ok_f_J8_abs_2 hE hN hc_4) hw_X18_44 hdc_J8_abs_2 ⟨Nat.le_of_ble_eq_true rfl, Nat.le_of_ble_eq_true rfl⟩ rfl rfl (Nat.le_of_ble_eq_true rfl) ⟨Nat.le_of_ble_eq_true rfl, Nat.le_of_ble_eq_true rfl⟩ dX18_times_14 (V_zero rfl rfl ?_)
    obtain ⟨g_6, h⟩ := gd_of h
    refine V_ldiv hG g_6 dX18_times_17 ?_
    refine V_lcmp hG dX18_times_18 ?_
    refine V_if_le hG 26 dX18_times_19 (by decide) (fun c_7 => ?_) (fun c_7 => ?_)
    · have h := if_t c_7 h
      refine V_lload_n hG 0 rfl dX18_times_26 ?_
      refine V_lload_n hG 1 rfl dX18_times_27 ?_
      refine V_lmul hG dX18_times_28 ?_
      cases h
      subst eQ
      exact V_lret hG dX18_times_29
    · have h := if_f c_7 h
      cases h
      subst eQ
      exact T_troubleN hG hN q1085 ⟨Nat.le_of_ble_eq_true rfl, Nat.le_of_ble_eq_true rfl⟩ dX18_times_22 dX18_times_25 hX

def f_X18_is (p0 : Int32) (M : Mem) : Option (Int64) :=
be (if p0 = 0 then (
0)
else (
1) : Int64) fun (y_4 : Int64) =>
some y_4
def rm_f_X18_is : Room := { frames := 0, cells := 0, slots := 0, locals := 0 }
theorem ok_f_X18_is {E : En} (hE : EOk E) (hN : NOk E) {p0 : Int32} {M : Mem} {r : Int64} (h : f_X18_is p0 M = some r) : CM E yX18_is cX18_is 1 (some .long) rm_f_X18_is [.int p0] M (some (.long r)) M := by
  unfold f_X18_is at h
  refine CM_introX (own := RX18) rfl (by decide +kernel) (Nat.le_of_ble_eq_true rfl) rfl (fun G hG hEn hI => ?_)
  obtain ⟨Q, eQ⟩ : ∃ Q, Q = QM E G (some (.long r)) M 0 0 := ⟨_, rfl⟩
  show V E G M 0 0 1 0 [(0, .int p0)] [] (QM E G (some (.long r)) M 0 0)
  rw [← eQ]
  refine V_iload_n hG 0 rfl dX18_is_0 ?_
  obtain ⟨t_1, et_1, h⟩ := be_of h
  have J_2 : ∀ y_4 : Int64, y_4 = t_1 → V E G M 0 0 1 9 [(0, .int p0)] [.long y_4] Q := by
    intro y_4 ey
    subst ey
    cases h
    subst eQ
    exact V_lret hG dX18_is_9
  refine V_if_eq hG 8 dX18_is_1 (by decide) (fun c_3 => ?_) (fun c_3 => ?_)
  · refine V_lconst hG 0 rfl dX18_is_8 ?_
    exact J_2 _ (by rw [et_1, if_pos c_3])
  · refine V_lconst hG 1 rfl dX18_is_4 ?_
    refine V_goto hG 9 dX18_is_5 (by decide) ?_
    exact J_2 _ (by rw [et_1, if_neg c_3])

def f_X15_of (p0 : Nat) (p1 : Nat) (M : Mem) : Option (Int64) :=
gd (mT M p0 = 10) (
some (Int32.toInt64 (mI M p0 0)))
theorem ok_f_X15_of {E : En} (hE : EOk E) (hN : NOk E) {fr lo : Nat} {p0 : Nat} {p1 : Nat} {M : Mem} {r : Int64} (h : f_X15_of p0 p1 M = some r) : CM E yX15_of cX15_of 2 (some .long) (rmP fr lo) [rf E p0, rf E p1] M (some (.long r)) M := by
  unfold f_X15_of at h
  refine CM_introX (own := RX15) rfl (by decide +kernel) (Nat.le_of_ble_eq_true rfl) rfl (fun G hG hEn hI => ?_)
  obtain ⟨Q, eQ⟩ : ∃ Q, Q = QM E G (some (.long r)) M 0 0 := ⟨_, rfl⟩
  show V E G M 0 0 2 0 [(0, rf E p0), (1, rf E p1)] [] (QM E G (some (.long r)) M 0 0)
  rw [← eQ]
  refine V_aload_n hG 0 rfl dX15_of_0 ?_
  obtain ⟨g_1, h⟩ := gd_of h
  refine gf_X15_7 hN hG g_1 dX15_of_1 ?_
  refine V_i2l hG dX15_of_4 ?_
  cases h
  subst eQ
  exact V_lret hG dX15_of_5

def f_X16_of (p0 : Nat) (p1 : Nat) (M : Mem) : Option (Int64) :=
gd (mT M p0 = 11) (
gd (mT M p1 = 103) (
gd (inb (mI M p0 0) (mLn M p1)) (
some (mL M p1 (Int32.toNatClampNeg (mI M p0 0))))))
theorem ok_f_X16_of {E : En} (hE : EOk E) (hN : NOk E) {fr lo : Nat} {p0 : Nat} {p1 : Nat} {M : Mem} {r : Int64} (h : f_X16_of p0 p1 M = some r) : CM E yX16_of cX16_of 2 (some .long) (rmP fr lo) [rf E p0, rf E p1] M (some (.long r)) M := by
  unfold f_X16_of at h
  refine CM_introX (own := RX16) rfl (by decide +kernel) (Nat.le_of_ble_eq_true rfl) rfl (fun G hG hEn hI => ?_)
  obtain ⟨Q, eQ⟩ : ∃ Q, Q = QM E G (some (.long r)) M 0 0 := ⟨_, rfl⟩
  show V E G M 0 0 2 0 [(0, rf E p0), (1, rf E p1)] [] (QM E G (some (.long r)) M 0 0)
  rw [← eQ]
  refine V_aload_n hG 1 rfl dX16_of_0 ?_
  refine V_aload_n hG 0 rfl dX16_of_1 ?_
  obtain ⟨g_1, h⟩ := gd_of h
  refine gf_X16_7 hN hG g_1 dX16_of_2 ?_
  obtain ⟨g_2, h⟩ := gd_of h
  obtain ⟨g_3, h⟩ := gd_of h
  refine V_laload hG g_2 g_3 dX16_of_5 ?_
  cases h
  subst eQ
  exact V_lret hG dX16_of_6

def f_X17_of (rec : Nat → Nat → Mem → Option (Option Int64)) (p0 : Nat) (p1 : Nat) (M : Mem) : Option (Option Int64) :=
gd (mT M p0 = 12 ∨ mT M p0 = 13) (
bd (mR M p0 0) fun (a_2 : Nat) =>
btp (rec a_2 p1 M) (fun (r_5 : Int64) =>
be (if lg_cmp r_5 0 = 0 then (
1)
else (
0) : Int64) fun (y_12 : Int64) =>
some (some y_12)) (some none))
theorem ok_f_X17_of {E : En} (hE : EOk E) (hN : NOk E) {fr lo : Nat} {rec : Nat → Nat → Mem → Option (Option Int64)} (hrec : PofOk E rec fr lo) {p0 : Nat} {p1 : Nat} {M : Mem} {res : Option Int64} (h : f_X17_of rec p0 p1 M = some res) : RM E faT yX17_of cX17_of 2 (some .long) (rmP (fr + 3) (lo + 60)) [rf E p0, rf E p1] M (rsP M res) := by
  unfold f_X17_of at h
  refine RM_introX (own := RX17) rfl (by decide) (Nat.le_of_ble_eq_true rfl) rfl (fun G hG hEn hI hX => ?_)
  obtain ⟨Q, eQ⟩ : ∃ Q, Q = QR E G faT (rsP M res) 0 0 := ⟨_, rfl⟩
  show V E G M 0 0 2 0 [(0, rf E p0), (1, rf E p1)] [] (QR E G faT (rsP M res) 0 0)
  rw [← eQ]
  refine V_aload_n hG 0 rfl dX17_of_0 ?_
  obtain ⟨g_1, h⟩ := gd_of h
  obtain ⟨a_2, hr_3, h⟩ := bd_of h
  refine gf_X17_7 hN hG g_1 hr_3 dX17_of_1 ?_
  refine V_aload_n hG 1 rfl dX17_of_4 ?_
  obtain ⟨rs_6, hc_4, hl_7, hr_8⟩ := btp_of h
  rcases rs_6 with _ | r_5
  · have h : some none = some res := hr_8 rfl
    cases h
    subst eQ
    exact pt_X17_13 hE hG hN hrec hc_4 ⟨by show fr + 1 ≤ fr + 3; omega, by show 8 + (6 + 11) + lo ≤ lo + 60; omega⟩ (Nat.le_of_ble_eq_true rfl) ⟨Nat.le_of_ble_eq_true rfl, Nat.le_of_ble_eq_true rfl⟩ dX17_of_5 hX
  · have h := hl_7 r_5 rfl
    refine po_X17_13 hE hG hN hrec hc_4 ⟨by show fr + 1 ≤ fr + 3; omega, by show 8 + (6 + 11) + lo ≤ lo + 60; omega⟩ (Nat.le_of_ble_eq_true rfl) ⟨Nat.le_of_ble_eq_true rfl, Nat.le_of_ble_eq_true rfl⟩ dX17_of_5 ?_
    refine V_lconst hG 0 rfl dX17_of_8 ?_
    refine V_lcmp hG dX17_of_9 ?_
    obtain ⟨t_9, et_9, h⟩ := be_of h
    have J_10 : ∀ y_12 : Int64, y_12 = t_9 → V E G M 0 0 2 18 [(0, rf E p0), (1, rf E p1)] [.long y_12] Q := by
      intro y_12 ey
      subst ey
      cases h
      subst eQ
      exact V_lret hG dX17_of_18
    refine V_if_ne hG 17 dX17_of_10 (by decide) (fun c_11 => ?_) (fun c_11 => ?_)
    · refine V_lconst hG 0 rfl dX17_of_17 ?_
      exact J_10 _ (by rw [et_9, if_neg c_11])
    · refine V_lconst hG 1 rfl dX17_of_13 ?_
      refine V_goto hG 18 dX17_of_14 (by decide) ?_
      exact J_10 _ (by rw [et_9, if_pos c_11])

def f_X18_of (rec : Nat → Nat → Mem → Option (Option Int64)) (p0 : Nat) (p1 : Nat) (M : Mem) : Option (Option Int64) :=
gd (mT M p0 = 13) (
bd (mR M p0 0) fun (a_2 : Nat) =>
btp (rec a_2 p1 M) (fun (r_5 : Int64) =>
bd (mR M p0 2) fun (a_9 : Nat) =>
btp (rec a_9 p1 M) (fun (r_12 : Int64) =>
if mI M p0 1 = 11 then (
be (if lg_cmp r_5 0 = 0 then (
0)
else (
if lg_cmp r_12 0 = 0 then (
0)
else (
1)) : Int32) fun (y_21 : Int32) =>
bd (f_X18_is y_21 M) fun (r_23 : Int64) =>
some (some r_23))
else (
if mI M p0 1 = 42 then (
btp (f_X18_times r_5 r_12 M) (fun (r_26 : Int64) =>
some (some r_26)) (some none))
else (
if mI M p0 1 = 43 then (
btp (f_X1_sure (r_5 + r_12) M) (fun (r_32 : Int64) =>
some (some r_32)) (some none))
else (
if mI M p0 1 = 45 then (
btp (f_X1_sure (r_5 - r_12) M) (fun (r_38 : Int64) =>
some (some r_38)) (some none))
else (
if mI M p0 1 = 47 then (
if lg_cmp r_12 0 = 0 then (
some none)
else (
gd (¬ r_12 = 0) (
some (some (r_5 / r_12)))))
else (
if mI M p0 1 = 60 then (
be (if 0 ≤ lg_cmp r_5 r_12 then (
0)
else (
1) : Int32) fun (y_49 : Int32) =>
bd (f_X18_is y_49 M) fun (r_51 : Int64) =>
some (some r_51))
else (
if mI M p0 1 = 61 then (
be (if lg_cmp r_5 r_12 = 0 then (
1)
else (
0) : Int32) fun (y_56 : Int32) =>
bd (f_X18_is y_56 M) fun (r_58 : Int64) =>
some (some r_58))
else (
if mI M p0 1 = 62 then (
be (if lg_cmp r_5 r_12 ≤ 0 then (
0)
else (
1) : Int32) fun (y_63 : Int32) =>
bd (f_X18_is y_63 M) fun (r_65 : Int64) =>
some (some r_65))
else (
if mI M p0 1 = 256 then (
be (if 0 < lg_cmp r_5 r_12 then (
0)
else (
1) : Int32) fun (y_70 : Int32) =>
bd (f_X18_is y_70 M) fun (r_72 : Int64) =>
some (some r_72))
else (
if mI M p0 1 = 257 then (
be (if lg_cmp r_5 r_12 < 0 then (
0)
else (
1) : Int32) fun (y_77 : Int32) =>
bd (f_X18_is y_77 M) fun (r_79 : Int64) =>
some (some r_79))
else (
if mI M p0 1 = 258 then (
be (if lg_cmp r_5 r_12 = 0 then (
0)
else (
1) : Int32) fun (y_84 : Int32) =>
bd (f_X18_is y_84 M) fun (r_86 : Int64) =>
some (some r_86))
else (
be (if lg_cmp r_5 0 = 0 then (
if lg_cmp r_12 0 = 0 then (
0)
else (
1))
else (
1) : Int32) fun (y_91 : Int32) =>
bd (f_X18_is y_91 M) fun (r_93 : Int64) =>
some (some r_93))))))))))))) (some none)) (some none))
theorem ok_f_X18_of {E : En} (hE : EOk E) (hN : NOk E) {fr lo : Nat} {rec : Nat → Nat → Mem → Option (Option Int64)} (hrec : PofOk E rec fr lo) {p0 : Nat} {p1 : Nat} {M : Mem} {res : Option Int64} (h : f_X18_of rec p0 p1 M = some res) : RM E faT yX18_of cX18_of 6 (some .long) (rmP (fr + 3) (lo + 60)) [rf E p0, rf E p1] M (rsP M res) := by
  unfold f_X18_of at h
  refine RM_introX (own := RX18) rfl (by decide) (Nat.le_of_ble_eq_true rfl) rfl (fun G hG hEn hI hX => ?_)
  obtain ⟨Q, eQ⟩ : ∃ Q, Q = QR E G faT (rsP M res) 0 0 := ⟨_, rfl⟩
  show V E G M 0 0 6 0 [(0, rf E p0), (1, rf E p1)] [] (QR E G faT (rsP M res) 0 0)
  rw [← eQ]
  refine V_aload_n hG 0 rfl dX18_of_0 ?_
  obtain ⟨g_1, h⟩ := gd_of h
  obtain ⟨a_2, hr_3, h⟩ := bd_of h
  refine gf_X18_19 hN hG g_1 hr_3 dX18_of_1 ?_
  refine V_aload_n hG 1 rfl dX18_of_4 ?_
  obtain ⟨rs_6, hc_4, hl_7, hr_8⟩ := btp_of h
  rcases rs_6 with _ | r_5
  · have h : some none = some res := hr_8 rfl
    cases h
    subst eQ
    exact pt_X18_22 hE hG hN hrec hc_4 ⟨by show fr + 1 ≤ fr + 3; omega, by show 8 + (6 + 11) + lo ≤ lo + 60; omega⟩ (Nat.le_of_ble_eq_true rfl) ⟨Nat.le_of_ble_eq_true rfl, Nat.le_of_ble_eq_true rfl⟩ dX18_of_5 hX
  · have h := hl_7 r_5 rfl
    refine po_X18_22 hE hG hN hrec hc_4 ⟨by show fr + 1 ≤ fr + 3; omega, by show 8 + (6 + 11) + lo ≤ lo + 60; omega⟩ (Nat.le_of_ble_eq_true rfl) ⟨Nat.le_of_ble_eq_true rfl, Nat.le_of_ble_eq_true rfl⟩ dX18_of_5 ?_
    refine V_lstore_n hG rfl [(2, .long r_5), (0, rf E p0), (1, rf E p1)] dX18_of_8 (Nat.le_of_ble_eq_true rfl) rfl ?_
    refine V_aload_n hG 1 rfl dX18_of_9 ?_
    obtain ⟨a_9, hr_10, h⟩ := bd_of h
    refine gf_X18_15 hN hG g_1 hr_10 dX18_of_10 ?_
    refine V_aload_n hG 2 rfl dX18_of_13 ?_
    obtain ⟨rs_13, hc_11, hl_14, hr_15⟩ := btp_of h
    rcases rs_13 with _ | r_12
    · have h : some none = some res := hr_15 rfl
      cases h
      subst eQ
      exact pt_X18_22 hE hG hN hrec hc_11 ⟨by show fr + 1 ≤ fr + 3; omega, by show 8 + (6 + 11) + lo ≤ lo + 60; omega⟩ (Nat.le_of_ble_eq_true rfl) ⟨Nat.le_of_ble_eq_true rfl, Nat.le_of_ble_eq_true rfl⟩ dX18_of_14 hX
    · have h := hl_14 r_12 rfl
      refine po_X18_22 hE hG hN hrec hc_11 ⟨by show fr + 1 ≤ fr + 3; omega, by show 8 + (6 + 11) + lo ≤ lo + 60; omega⟩ (Nat.le_of_ble_eq_true rfl) ⟨Nat.le_of_ble_eq_true rfl, Nat.le_of_ble_eq_true rfl⟩ dX18_of_14 ?_
      refine V_lstore hG [(4, .long r_12), (2, .long r_5), (0, rf E p0), (1, rf E p1)] dX18_of_17 (Nat.le_of_ble_eq_true rfl) rfl ?_
      refine V_aload_n hG 2 rfl dX18_of_19 ?_
      refine gf_X18_9 hN hG g_1 dX18_of_20 ?_
      by_cases c_16 : mI M p0 1 = 11
      · have h := if_t c_16 h
        refine V_lookup hG 255 dX18_of_23 (by decide) (by rw [c_16] <;> rfl) (by decide) ?_
        refine V_lload_n hG 1 rfl dX18_of_255 ?_
        refine V_lconst hG 0 rfl dX18_of_256 ?_
        refine V_lcmp hG dX18_of_257 ?_
        obtain ⟨t_17, et_17, h⟩ := be_of h
        have J_18 : ∀ y_21 : Int32, y_21 = t_17 → V E G M 0 0 6 273 [(4, .long r_12), (2, .long r_5), (0, rf E p0), (1, rf E p1)] [.int y_21] Q := by
          intro y_21 ey
          subst ey
          obtain ⟨r_23, hc_22, h⟩ := bd_of h
          refine V_callS hE hG (As := [.int y_21]) (rest := []) (ok_f_X18_is hE hN hc_22) hw_X18_40 hdc_X18_is ⟨by show 0 + 1 ≤ fr + 3; omega, by show 8 + (1 + 11) + 0 ≤ lo + 60; omega⟩ rfl rfl (Nat.le_of_ble_eq_true rfl) ⟨Nat.le_of_ble_eq_true rfl, Nat.le_of_ble_eq_true rfl⟩ dX18_of_273 (V_zero rfl rfl ?_)
          cases h
          subst eQ
          exact V_lret hG dX18_of_276
        refine V_if_eq hG 272 dX18_of_258 (by decide) (fun c_19 => ?_) (fun c_19 => ?_)
        · refine V_iconst hG 0 rfl dX18_of_272 ?_
          exact J_18 _ (by rw [et_17, if_pos c_19])
        · refine V_lload hG 0 rfl dX18_of_261 ?_
          refine V_lconst hG 0 rfl dX18_of_263 ?_
          refine V_lcmp hG dX18_of_264 ?_
          refine V_if_eq hG 272 dX18_of_265 (by decide) (fun c_20 => ?_) (fun c_20 => ?_)
          · refine V_iconst hG 0 rfl dX18_of_272 ?_
            exact J_18 _ (by rw [et_17, if_neg c_19, if_pos c_20])
          · refine V_iconst hG 1 rfl dX18_of_268 ?_
            refine V_goto hG 273 dX18_of_269 (by decide) ?_
            exact J_18 _ (by rw [et_17, if_neg c_19, if_neg c_20])
      have h := if_f c_16 h
      by_cases c_24 : mI M p0 1 = 42
      · have h := if_t c_24 h
        refine V_lookup hG 136 dX18_of_23 (by decide) (by rw [c_24] <;> rfl) (by decide) ?_
        refine V_lload_n hG 1 rfl dX18_of_136 ?_
        refine V_lload hG 0 rfl dX18_of_137 ?_
        obtain ⟨rs_27, hc_25, hl_28, hr_29⟩ := btp_of h
        rcases rs_27 with _ | r_26
        · have h : some none = some res := hr_29 rfl
          cases h
          subst eQ
          exact T_callS hE hG (As := [.long r_5, .long r_12]) (rest := []) (ok_f_X18_times hE hN hc_25) hw_X18_32 hdc_X18_times ⟨by show 1 + 1 ≤ fr + 3; omega, by show 8 + (4 + 11) + 21 ≤ lo + 60; omega⟩ rfl rfl (Nat.le_of_ble_eq_true rfl) ⟨Nat.le_of_ble_eq_true rfl, Nat.le_of_ble_eq_true rfl⟩ dX18_of_139 hX
        · have h := hl_28 r_26 rfl
          refine V_callS hE hG (As := [.long r_5, .long r_12]) (rest := []) (v := some (.long r_26)) (M' := M) (ok_f_X18_times hE hN hc_25) hw_X18_32 hdc_X18_times ⟨by show 1 + 1 ≤ fr + 3; omega, by show 8 + (4 + 11) + 21 ≤ lo + 60; omega⟩ rfl rfl (Nat.le_of_ble_eq_true rfl) ⟨Nat.le_of_ble_eq_true rfl, Nat.le_of_ble_eq_true rfl⟩ dX18_of_139 (V_zero rfl rfl ?_)
          cases h
          subst eQ
          exact V_lret hG dX18_of_142
      have h := if_f c_24 h
      by_cases c_30 : mI M p0 1 = 43
      · have h := if_t c_30 h
        refine V_lookup hG 120 dX18_of_23 (by decide) (by rw [c_30] <;> rfl) (by decide) ?_
        refine V_lload_n hG 1 rfl dX18_of_120 ?_
        refine V_lload hG 0 rfl dX18_of_121 ?_
        refine V_ladd hG dX18_of_123 ?_
        obtain ⟨rs_33, hc_31, hl_34, hr_35⟩ := btp_of h
        rcases rs_33 with _ | r_32
        · have h : some none = some res := hr_35 rfl
          cases h
          subst eQ
          exact T_callSN hE hG hN (As := [.long (r_5 + r_12)]) (rest := []) (ok_f_X1_sure hE hN hc_31) q1071 (lw_meth q1073) q123 q1072 hdc_X1_sure ⟨by show 0 + 1 ≤ fr + 3; omega, by show 8 + (2 + 11) + 0 ≤ lo + 60; omega⟩ rfl rfl (Nat.le_of_ble_eq_true rfl) ⟨Nat.le_of_ble_eq_true rfl, Nat.le_of_ble_eq_true rfl⟩ dX18_of_124 hX
        · have h := hl_34 r_32 rfl
          refine W_callSN hE hG hN (As := [.long (r_5 + r_12)]) (rest := []) (v := some (.long r_32)) (M' := M) (ok_f_X1_sure hE hN hc_31) q1071 (lw_meth q1073) q123 q1072 hdc_X1_sure ⟨by show 0 + 1 ≤ fr + 3; omega, by show 8 + (2 + 11) + 0 ≤ lo + 60; omega⟩ rfl rfl (Nat.le_of_ble_eq_true rfl) ⟨Nat.le_of_ble_eq_true rfl, Nat.le_of_ble_eq_true rfl⟩ dX18_of_124 (V_zero rfl rfl ?_)
          cases h
          subst eQ
          exact V_lret hG dX18_of_127
      have h := if_f c_30 h
      by_cases c_36 : mI M p0 1 = 45
      · have h := if_t c_36 h
        refine V_lookup hG 128 dX18_of_23 (by decide) (by rw [c_36] <;> rfl) (by decide) ?_
        refine V_lload_n hG 1 rfl dX18_of_128 ?_
        refine V_lload hG 0 rfl dX18_of_129 ?_
        refine V_lsub hG dX18_of_131 ?_
        obtain ⟨rs_39, hc_37, hl_40, hr_41⟩ := btp_of h
        rcases rs_39 with _ | r_38
        · have h : some none = some res := hr_41 rfl
          cases h
          subst eQ
          exact T_callSN hE hG hN (As := [.long (r_5 - r_12)]) (rest := []) (ok_f_X1_sure hE hN hc_37) q1071 (lw_meth q1073) q123 q1072 hdc_X1_sure ⟨by show 0 + 1 ≤ fr + 3; omega, by show 8 + (2 + 11) + 0 ≤ lo + 60; omega⟩ rfl rfl (Nat.le_of_ble_eq_true rfl) ⟨Nat.le_of_ble_eq_true rfl, Nat.le_of_ble_eq_true rfl⟩ dX18_of_132 hX
        · have h := hl_40 r_38 rfl
          refine W_callSN hE hG hN (As := [.long (r_5 - r_12)]) (rest := []) (v := some (.long r_38)) (M' := M) (ok_f_X1_sure hE hN hc_37) q1071 (lw_meth q1073) q123 q1072 hdc_X1_sure ⟨by show 0 + 1 ≤ fr + 3; omega, by show 8 + (2 + 11) + 0 ≤ lo + 60; omega⟩ rfl rfl (Nat.le_of_ble_eq_true rfl) ⟨Nat.le_of_ble_eq_true rfl, Nat.le_of_ble_eq_true rfl⟩ dX18_of_132 (V_zero rfl rfl ?_)
          cases h
          subst eQ
          exact V_lret hG dX18_of_135
      have h := if_f c_36 h
      by_cases c_42 : mI M p0 1 = 47
      · have h := if_t c_42 h
        refine V_lookup hG 143 dX18_of_23 (by decide) (by rw [c_42] <;> rfl) (by decide) ?_
        refine V_lload hG 0 rfl dX18_of_143 ?_
        refine V_lconst hG 0 rfl dX18_of_145 ?_
        refine V_lcmp hG dX18_of_146 ?_
        refine V_if_ne hG 154 dX18_of_147 (by decide) (fun c_43 => ?_) (fun c_43 => ?_)
        · have h := if_f c_43 h
          refine V_lload_n hG 1 rfl dX18_of_154 ?_
          refine V_lload hG 0 rfl dX18_of_155 ?_
          obtain ⟨g_44, h⟩ := gd_of h
          refine V_ldiv hG g_44 dX18_of_157 ?_
          cases h
          subst eQ
          exact V_lret hG dX18_of_158
        · have h := if_t c_43 h
          cases h
          subst eQ
          exact T_troubleN hG hN q1085 ⟨Nat.le_of_ble_eq_true rfl, Nat.le_of_ble_eq_true rfl⟩ dX18_of_150 dX18_of_153 hX
      have h := if_f c_42 h
      by_cases c_45 : mI M p0 1 = 60
      · have h := if_t c_45 h
        refine V_lookup hG 159 dX18_of_23 (by decide) (by rw [c_45] <;> rfl) (by decide) ?_
        refine V_lload_n hG 1 rfl dX18_of_159 ?_
        refine V_lload hG 0 rfl dX18_of_160 ?_
        refine V_lcmp hG dX18_of_162 ?_
        obtain ⟨t_46, et_46, h⟩ := be_of h
        have J_47 : ∀ y_49 : Int32, y_49 = t_46 → V E G M 0 0 6 171 [(4, .long r_12), (2, .long r_5), (0, rf E p0), (1, rf E p1)] [.int y_49] Q := by
          intro y_49 ey
          subst ey
          obtain ⟨r_51, hc_50, h⟩ := bd_of h
          refine V_callS hE hG (As := [.int y_49]) (rest := []) (ok_f_X18_is hE hN hc_50) hw_X18_40 hdc_X18_is ⟨by show 0 + 1 ≤ fr + 3; omega, by show 8 + (1 + 11) + 0 ≤ lo + 60; omega⟩ rfl rfl (Nat.le_of_ble_eq_true rfl) ⟨Nat.le_of_ble_eq_true rfl, Nat.le_of_ble_eq_true rfl⟩ dX18_of_171 (V_zero rfl rfl ?_)
          cases h
          subst eQ
          exact V_lret hG dX18_of_174
        refine V_if_ge hG 170 dX18_of_163 (by decide) (fun c_48 => ?_) (fun c_48 => ?_)
        · refine V_iconst hG 0 rfl dX18_of_170 ?_
          exact J_47 _ (by rw [et_46, if_pos c_48])
        · refine V_iconst hG 1 rfl dX18_of_166 ?_
          refine V_goto hG 171 dX18_of_167 (by decide) ?_
          exact J_47 _ (by rw [et_46, if_neg c_48])
      have h := if_f c_45 h
      by_cases c_52 : mI M p0 1 = 61
      · have h := if_t c_52 h
        refine V_lookup hG 191 dX18_of_23 (by decide) (by rw [c_52] <;> rfl) (by decide) ?_
        refine V_lload_n hG 1 rfl dX18_of_191 ?_
        refine V_lload hG 0 rfl dX18_of_192 ?_
        refine V_lcmp hG dX18_of_194 ?_
        obtain ⟨t_53, et_53, h⟩ := be_of h
        have J_54 : ∀ y_56 : Int32, y_56 = t_53 → V E G M 0 0 6 203 [(4, .long r_12), (2, .long r_5), (0, rf E p0), (1, rf E p1)] [.int y_56] Q := by
          intro y_56 ey
          subst ey
          obtain ⟨r_58, hc_57, h⟩ := bd_of h
          refine V_callS hE hG (As := [.int y_56]) (rest := []) (ok_f_X18_is hE hN hc_57) hw_X18_40 hdc_X18_is ⟨by show 0 + 1 ≤ fr + 3; omega, by show 8 + (1 + 11) + 0 ≤ lo + 60; omega⟩ rfl rfl (Nat.le_of_ble_eq_true rfl) ⟨Nat.le_of_ble_eq_true rfl, Nat.le_of_ble_eq_true rfl⟩ dX18_of_203 (V_zero rfl rfl ?_)
          cases h
          subst eQ
          exact V_lret hG dX18_of_206
        refine V_if_ne hG 202 dX18_of_195 (by decide) (fun c_55 => ?_) (fun c_55 => ?_)
        · refine V_iconst hG 0 rfl dX18_of_202 ?_
          exact J_54 _ (by rw [et_53, if_neg c_55])
        · refine V_iconst hG 1 rfl dX18_of_198 ?_
          refine V_goto hG 203 dX18_of_199 (by decide) ?_
          exact J_54 _ (by rw [et_53, if_pos c_55])
      have h := if_f c_52 h
      by_cases c_59 : mI M p0 1 = 62
      · have h := if_t c_59 h
        refine V_lookup hG 175 dX18_of_23 (by decide) (by rw [c_59] <;> rfl) (by decide) ?_
        refine V_lload_n hG 1 rfl dX18_of_175 ?_
        refine V_lload hG 0 rfl dX18_of_176 ?_
        refine V_lcmp hG dX18_of_178 ?_
        obtain ⟨t_60, et_60, h⟩ := be_of h
        have J_61 : ∀ y_63 : Int32, y_63 = t_60 → V E G M 0 0 6 187 [(4, .long r_12), (2, .long r_5), (0, rf E p0), (1, rf E p1)] [.int y_63] Q := by
          intro y_63 ey
          subst ey
          obtain ⟨r_65, hc_64, h⟩ := bd_of h
          refine V_callS hE hG (As := [.int y_63]) (rest := []) (ok_f_X18_is hE hN hc_64) hw_X18_40 hdc_X18_is ⟨by show 0 + 1 ≤ fr + 3; omega, by show 8 + (1 + 11) + 0 ≤ lo + 60; omega⟩ rfl rfl (Nat.le_of_ble_eq_true rfl) ⟨Nat.le_of_ble_eq_true rfl, Nat.le_of_ble_eq_true rfl⟩ dX18_of_187 (V_zero rfl rfl ?_)
          cases h
          subst eQ
          exact V_lret hG dX18_of_190
        refine V_if_le hG 186 dX18_of_179 (by decide) (fun c_62 => ?_) (fun c_62 => ?_)
        · refine V_iconst hG 0 rfl dX18_of_186 ?_
          exact J_61 _ (by rw [et_60, if_pos c_62])
        · refine V_iconst hG 1 rfl dX18_of_182 ?_
          refine V_goto hG 187 dX18_of_183 (by decide) ?_
          exact J_61 _ (by rw [et_60, if_neg c_62])
      have h := if_f c_59 h
      by_cases c_66 : mI M p0 1 = 256
      · have h := if_t c_66 h
        refine V_lookup hG 207 dX18_of_23 (by decide) (by rw [c_66] <;> rfl) (by decide) ?_
        refine V_lload_n hG 1 rfl dX18_of_207 ?_
        refine V_lload hG 0 rfl dX18_of_208 ?_
        refine V_lcmp hG dX18_of_210 ?_
        obtain ⟨t_67, et_67, h⟩ := be_of h
        have J_68 : ∀ y_70 : Int32, y_70 = t_67 → V E G M 0 0 6 219 [(4, .long r_12), (2, .long r_5), (0, rf E p0), (1, rf E p1)] [.int y_70] Q := by
          intro y_70 ey
          subst ey
          obtain ⟨r_72, hc_71, h⟩ := bd_of h
          refine V_callS hE hG (As := [.int y_70]) (rest := []) (ok_f_X18_is hE hN hc_71) hw_X18_40 hdc_X18_is ⟨by show 0 + 1 ≤ fr + 3; omega, by show 8 + (1 + 11) + 0 ≤ lo + 60; omega⟩ rfl rfl (Nat.le_of_ble_eq_true rfl) ⟨Nat.le_of_ble_eq_true rfl, Nat.le_of_ble_eq_true rfl⟩ dX18_of_219 (V_zero rfl rfl ?_)
          cases h
          subst eQ
          exact V_lret hG dX18_of_222
        refine V_if_gt hG 218 dX18_of_211 (by decide) (fun c_69 => ?_) (fun c_69 => ?_)
        · refine V_iconst hG 0 rfl dX18_of_218 ?_
          exact J_68 _ (by rw [et_67, if_pos c_69])
        · refine V_iconst hG 1 rfl dX18_of_214 ?_
          refine V_goto hG 219 dX18_of_215 (by decide) ?_
          exact J_68 _ (by rw [et_67, if_neg c_69])
      have h := if_f c_66 h
      by_cases c_73 : mI M p0 1 = 257
      · have h := if_t c_73 h
        refine V_lookup hG 223 dX18_of_23 (by decide) (by rw [c_73] <;> rfl) (by decide) ?_
        refine V_lload_n hG 1 rfl dX18_of_223 ?_
        refine V_lload hG 0 rfl dX18_of_224 ?_
        refine V_lcmp hG dX18_of_226 ?_
        obtain ⟨t_74, et_74, h⟩ := be_of h
        have J_75 : ∀ y_77 : Int32, y_77 = t_74 → V E G M 0 0 6 235 [(4, .long r_12), (2, .long r_5), (0, rf E p0), (1, rf E p1)] [.int y_77] Q := by
          intro y_77 ey
          subst ey
          obtain ⟨r_79, hc_78, h⟩ := bd_of h
          refine V_callS hE hG (As := [.int y_77]) (rest := []) (ok_f_X18_is hE hN hc_78) hw_X18_40 hdc_X18_is ⟨by show 0 + 1 ≤ fr + 3; omega, by show 8 + (1 + 11) + 0 ≤ lo + 60; omega⟩ rfl rfl (Nat.le_of_ble_eq_true rfl) ⟨Nat.le_of_ble_eq_true rfl, Nat.le_of_ble_eq_true rfl⟩ dX18_of_235 (V_zero rfl rfl ?_)
          cases h
          subst eQ
          exact V_lret hG dX18_of_238
        refine V_if_lt hG 234 dX18_of_227 (by decide) (fun c_76 => ?_) (fun c_76 => ?_)
        · refine V_iconst hG 0 rfl dX18_of_234 ?_
          exact J_75 _ (by rw [et_74, if_pos c_76])
        · refine V_iconst hG 1 rfl dX18_of_230 ?_
          refine V_goto hG 235 dX18_of_231 (by decide) ?_
          exact J_75 _ (by rw [et_74, if_neg c_76])
      have h := if_f c_73 h
      by_cases c_80 : mI M p0 1 = 258
      · have h := if_t c_80 h
        refine V_lookup hG 239 dX18_of_23 (by decide) (by rw [c_80] <;> rfl) (by decide) ?_
        refine V_lload_n hG 1 rfl dX18_of_239 ?_
        refine V_lload hG 0 rfl dX18_of_240 ?_
        refine V_lcmp hG dX18_of_242 ?_
        obtain ⟨t_81, et_81, h⟩ := be_of h
        have J_82 : ∀ y_84 : Int32, y_84 = t_81 → V E G M 0 0 6 251 [(4, .long r_12), (2, .long r_5), (0, rf E p0), (1, rf E p1)] [.int y_84] Q := by
          intro y_84 ey
          subst ey
          obtain ⟨r_86, hc_85, h⟩ := bd_of h
          refine V_callS hE hG (As := [.int y_84]) (rest := []) (ok_f_X18_is hE hN hc_85) hw_X18_40 hdc_X18_is ⟨by show 0 + 1 ≤ fr + 3; omega, by show 8 + (1 + 11) + 0 ≤ lo + 60; omega⟩ rfl rfl (Nat.le_of_ble_eq_true rfl) ⟨Nat.le_of_ble_eq_true rfl, Nat.le_of_ble_eq_true rfl⟩ dX18_of_251 (V_zero rfl rfl ?_)
          cases h
          subst eQ
          exact V_lret hG dX18_of_254
        refine V_if_eq hG 250 dX18_of_243 (by decide) (fun c_83 => ?_) (fun c_83 => ?_)
        · refine V_iconst hG 0 rfl dX18_of_250 ?_
          exact J_82 _ (by rw [et_81, if_pos c_83])
        · refine V_iconst hG 1 rfl dX18_of_246 ?_
          refine V_goto hG 251 dX18_of_247 (by decide) ?_
          exact J_82 _ (by rw [et_81, if_neg c_83])
      have h := if_f c_80 h
      refine V_lookup hG (off := 254) 277 dX18_of_23 (by decide) ((lv_osw c_16 rfl).trans ((lv_osw c_24 rfl).trans ((lv_osw c_30 rfl).trans ((lv_osw c_36 rfl).trans ((lv_osw c_42 rfl).trans ((lv_osw c_45 rfl).trans ((lv_osw c_52 rfl).trans ((lv_osw c_59 rfl).trans ((lv_osw c_66 rfl).trans ((lv_osw c_73 rfl).trans ((lv_osw c_80 rfl).trans rfl))))))))))) (by decide) ?_
      refine V_lload_n hG 1 rfl dX18_of_277 ?_
      refine V_lconst hG 0 rfl dX18_of_278 ?_
      refine V_lcmp hG dX18_of_279 ?_
      obtain ⟨t_87, et_87, h⟩ := be_of h
      have J_88 : ∀ y_91 : Int32, y_91 = t_87 → V E G M 0 0 6 295 [(4, .long r_12), (2, .long r_5), (0, rf E p0), (1, rf E p1)] [.int y_91] Q := by
        intro y_91 ey
        subst ey
        obtain ⟨r_93, hc_92, h⟩ := bd_of h
        refine V_callS hE hG (As := [.int y_91]) (rest := []) (ok_f_X18_is hE hN hc_92) hw_X18_40 hdc_X18_is ⟨by show 0 + 1 ≤ fr + 3; omega, by show 8 + (1 + 11) + 0 ≤ lo + 60; omega⟩ rfl rfl (Nat.le_of_ble_eq_true rfl) ⟨Nat.le_of_ble_eq_true rfl, Nat.le_of_ble_eq_true rfl⟩ dX18_of_295 (V_zero rfl rfl ?_)
        cases h
        subst eQ
        exact V_lret hG dX18_of_298
      refine V_if_ne hG 290 dX18_of_280 (by decide) (fun c_89 => ?_) (fun c_89 => ?_)
      · refine V_iconst hG 1 rfl dX18_of_290 ?_
        refine V_goto hG 295 dX18_of_291 (by decide) ?_
        exact J_88 _ (by rw [et_87, if_neg c_89])
      · refine V_lload hG 0 rfl dX18_of_283 ?_
        refine V_lconst hG 0 rfl dX18_of_285 ?_
        refine V_lcmp hG dX18_of_286 ?_
        refine V_if_eq hG 294 dX18_of_287 (by decide) (fun c_90 => ?_) (fun c_90 => ?_)
        · refine V_iconst hG 0 rfl dX18_of_294 ?_
          exact J_88 _ (by rw [et_87, if_pos c_89, if_pos c_90])
        · refine V_iconst hG 1 rfl dX18_of_290 ?_
          refine V_goto hG 295 dX18_of_291 (by decide) ?_
          exact J_88 _ (by rw [et_87, if_pos c_89, if_neg c_90])

/-- the evaluation of a part, d levels deep at most -/
def pof : Nat → Nat → Nat → Mem → Option (Option Int64)
  | 0, _, _, _ => none
  | d + 1, a, nm, M =>
    if mT M a = 10 then bd (f_X15_of a nm M) fun v => some (some v)
    else if mT M a = 11 then bd (f_X16_of a nm M) fun v => some (some v)
    else if mT M a = 12 then f_X17_of (pof d) a nm M
    else gd (mT M a = 13) (f_X18_of (pof d) a nm M)
theorem pof_ok {E : En} (hE : EOk E) (hN : NOk E) : ∀ d : Nat, PofOk E (pof d) (3 * d) (60 * d)
  | 0 => fun a nm M res h => by cases h
  | d + 1 => by
    intro a nm M res h
    unfold pof at h
    by_cases c1 : mT M a = 10
    · have h := if_t c1 h
      obtain ⟨v, hv, h⟩ := bd_of h
      cases h
      exact Or.inl ⟨c1, ok_f_X15_of hE hN (fr := 3 * (d + 1)) (lo := 60 * (d + 1)) hv⟩
    have h := if_f c1 h
    by_cases c2 : mT M a = 11
    · have h := if_t c2 h
      obtain ⟨v, hv, h⟩ := bd_of h
      cases h
      exact Or.inr (Or.inl ⟨c2, ok_f_X16_of hE hN (fr := 3 * (d + 1)) (lo := 60 * (d + 1)) hv⟩)
    have h := if_f c2 h
    by_cases c3 : mT M a = 12
    · exact Or.inr (Or.inr (Or.inl ⟨c3, ok_f_X17_of hE hN (pof_ok hE hN d) (if_t c3 h)⟩))
    have h := if_f c3 h
    obtain ⟨c4, h⟩ := gd_of h
    exact Or.inr (Or.inr (Or.inr ⟨c4, ok_f_X18_of hE hN (pof_ok hE hN d) h⟩))

