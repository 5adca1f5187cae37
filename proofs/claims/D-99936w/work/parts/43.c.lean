set_option maxRecDepth 100000
set_option maxHeartbeats 4000000
def ComOk (E : En) (rec2 : Int64 → Int64 → Mem → Option Int64) (fr lo : Nat) : Prop := ∀ (a b : Int64) (M : Mem) (r : Int64), rec2 a b M = some r → CM E yX1_common cX1_common 4 (some .long) (rmP fr lo) [.long a, .long b] M (some (.long r)) M
def f_X1_common (rec2 : Int64 → Int64 → Mem → Option Int64) (p0 : Int64) (p2 : Int64) (M : Mem) : Option (Int64) :=
bd (if lg_cmp p2 0 = 0 then (
some p0)
else (
gd (¬ p2 = 0) (
bd (rec2 p2 (p0 - p0 / p2 * p2) M) fun (r_7 : Int64) =>
some r_7)) : Option (Int64)) fun (t_1 : Int64) =>
some t_1
theorem ok_f_X1_common {E : En} (hE : EOk E) (hN : NOk E) {fr lo : Nat} {rec2 : Int64 → Int64 → Mem → Option Int64} (hrec2 : ComOk E rec2 fr lo) {p0 : Int64} {p2 : Int64} {M : Mem} {r : Int64} (h : f_X1_common rec2 p0 p2 M = some r) : CM E yX1_common cX1_common 4 (some .long) (rmP (fr + 3) (lo + 60)) [.long p0, .long p2] M (some (.long r)) M := by
  unfold f_X1_common at h
  refine CM_introX (own := RX1) rfl (by decide +kernel) (Nat.le_of_ble_eq_true rfl) rfl (fun G hG hEn hI => ?_)
  obtain ⟨Q, eQ⟩ : ∃ Q, Q = QM E G (some (.long r)) M 0 0 := ⟨_, rfl⟩
  show V E G M 0 0 4 0 [(0, .long p0), (2, .long p2)] [] (QM E G (some (.long r)) M 0 0)
  rw [← eQ]
  refine V_lload_n hG 1 rfl dX1_common_0 ?_
  refine V_lconst hG 0 rfl dX1_common_1 ?_
  refine V_lcmp hG dX1_common_2 ?_
  obtain ⟨t_1, hj_3, h⟩ := bd_of h
  have J_2 : V E G M 0 0 4 17 [(0, .long p0), (2, .long p2)] [.long t_1] Q := by
    cases h
    subst eQ
    exact V_lret hG dX1_common_17
  refine V_if_ne hG 10 dX1_common_3 (by decide) (fun c_4 => ?_) (fun c_4 => ?_)
  · have hj_3 := if_f c_4 hj_3
    refine V_lload_n hG 1 rfl dX1_common_10 ?_
    refine V_lload_n hG 0 rfl dX1_common_11 ?_
    refine V_lload_n hG 1 rfl dX1_common_12 ?_
    obtain ⟨g_5, hj_3⟩ := gd_of hj_3
    refine V_lrem hG g_5 dX1_common_13 ?_
    obtain ⟨r_7, hc_6, hj_3⟩ := bd_of hj_3
    refine V_callS hE hG (As := [.long p2, .long (p0 - p0 / p2 * p2)]) (rest := []) (hrec2 _ _ _ _ hc_6) hw_X1_346 hdc_X1_common ⟨by show fr + 1 ≤ fr + 3; omega, by show 8 + (4 + 11) + lo ≤ lo + 60; omega⟩ rfl rfl (Nat.le_of_ble_eq_true rfl) ⟨Nat.le_of_ble_eq_true rfl, Nat.le_of_ble_eq_true rfl⟩ dX1_common_14 (V_zero rfl rfl ?_)
    cases hj_3
    exact J_2
  · have hj_3 := if_t c_4 hj_3
    refine V_lload_n hG 0 rfl dX1_common_6 ?_
    refine V_goto hG 17 dX1_common_7 (by decide) ?_
    cases hj_3
    exact J_2

def gcdF : Nat → Int64 → Int64 → Mem → Option Int64
  | 0, _, _, _ => none
  | d + 1, a, b, M => f_X1_common (gcdF d) a b M
theorem gcdF_ok {E : En} (hE : EOk E) (hN : NOk E) : ∀ d : Nat, ComOk E (gcdF d) (3 * d) (60 * d)
  | 0 => fun a b M r h => by cases h
  | d + 1 => fun a b M r h => ok_f_X1_common hE hN (gcdF_ok hE hN d) h
def f_X1_com (a b : Int64) (M : Mem) : Option Int64 := gcdF 100 a b M
theorem ok_f_X1_com {E : En} (hE : EOk E) (hN : NOk E) {p0 p2 : Int64} {M : Mem} {r : Int64} (h : f_X1_com p0 p2 M = some r) : CM E yX1_common cX1_common 4 (some .long) (rmP 300 6000) [.long p0, .long p2] M (some (.long r)) M := gcdF_ok hE hN 100 p0 p2 M r h
def fd_hours (a : Nat) (M : Mem) : Option Int32 := if mT M a = 14 then f_X20_hours a M else gd (mT M a = 15) (f_X19_hours a M)
theorem hdl_386_X20 : GoodIn lw_all (va_wsO RX1 386 RX20 RX19 ⟨"TroughTreaty$Leaf", "hours", "()I"⟩ yX20_hours (ws_ yX20_hours cX20_hours 1 (some .int))) := by
  intro w hw
  simp only [va_wsO, List.cons_append, List.nil_append, List.mem_cons] at hw
  rcases hw with rfl | rfl | rfl | rfl | rfl | rfl | hw
  · exact lw_self _ q1403
  · exact lw_self _ q1405
  · exact lw_self _ q1404
  · exact lw_self _ q1406
  · exact lw_self _ q1407
  · exact lw_self _ q162
  · exact lw_meth q1408 w (List.mem_cons.mpr hw)
theorem hdl_386_X21 : GoodIn lw_all (va_wsU RX1 386 RX21 RX19 ⟨"TroughTreaty$Leaf", "hours", "()I"⟩ yX19_hours (ws_ yX19_hours cX19_hours 1 (some .int))) := by
  intro w hw
  simp only [va_wsU, List.cons_append, List.nil_append, List.mem_cons] at hw
  rcases hw with rfl | rfl | rfl | rfl | rfl | hw
  · exact lw_self _ q1403
  · exact lw_self _ q1405
  · exact lw_self _ q1409
  · exact lw_self _ q1404
  · exact lw_self _ q161
  · exact lw_meth q1410 w (List.mem_cons.mpr hw)
theorem dl_X1_386 {E : En} {G : Ctx} {M : Mem} {cells slots nL pc : Nat} {lv : List (Nat × Value)} {st : List Value} {Q : State → Prop} {cc : ByteArray} {ret : Option FieldType} {rm0 : Room} (hE : EOk E) (hG : Cx E G cc nL ret RX1 rm0) (hN : NOk E) {a : Nat} {r : Int32} (hc : fd_hours a M = some r) (hroom : 0 + 1 ≤ rm0.frames ∧ 8 + (2 + 11) + 0 ≤ rm0.locals) (hcat : (st.map fun v => v.category).sum ≤ 8) (hf : cells + 0 ≤ rm0.cells ∧ slots + 0 ≤ rm0.slots) (d : decode cc pc = .ok (.invokevirtual 386, 3)) (k : V E G M cells slots nL (pc + 3) lv (.int r :: st) Q) : V E G M cells slots nL pc lv (rf E a :: st) Q := by
  unfold fd_hours at hc
  by_cases c1 : mT M a = 14
  · have h := if_t c1 hc
    exact W_callU hE hG (ci := 14) (C := RX20) (T := TX20) (N := 4) (As := []) (rest := st) (v := some (.int r)) (M' := M) (ok_f_X20_hours hE hN h) c1 (by decide) rfl (fun R s args hts hK9 hR => va_cwO (owner := RX19) 0 hts hdl_386_X20 rfl rfl rfl q1410 (by decide +kernel) (by rw [hR]; exact ⟨hroom.1, by show 8 + (1 + 11) + 0 ≤ _; omega⟩)) rfl rfl hcat hf d (V_zero rfl rfl k)
  · obtain ⟨c2, h⟩ := gd_of (if_f c1 hc)
    exact W_callU hE hG (ci := 15) (C := RX21) (T := TX21) (N := 1) (As := []) (rest := st) (v := some (.int r)) (M' := M) (ok_f_X19_hours hE hN h) c2 (by decide) rfl (fun R s args hts hK9 hR => va_cwU (owner := RX19) 0 hts hdl_386_X21 rfl rfl rfl rfl (by decide +kernel) (by rw [hR]; exact ⟨hroom.1, by show 8 + (1 + 11) + 0 ≤ _; omega⟩)) rfl rfl hcat hf d (V_zero rfl rfl k)
def fd_struck (a : Nat) (M : Mem) : Option Int32 := if mT M a = 14 then f_X19_struck a M else gd (mT M a = 15) (f_X21_struck a M)
theorem hdl_393_X20 : GoodIn lw_all (va_wsU RX1 393 RX20 RX19 ⟨"TroughTreaty$Leaf", "struck", "()I"⟩ yX19_struck (ws_ yX19_struck cX19_struck 1 (some .int))) := by
  intro w hw
  simp only [va_wsU, List.cons_append, List.nil_append, List.mem_cons] at hw
  rcases hw with rfl | rfl | rfl | rfl | rfl | hw
  · exact lw_self _ q1395
  · exact lw_self _ q1397
  · exact lw_self _ q1398
  · exact lw_self _ q1396
  · exact lw_self _ q161
  · exact lw_meth q1402 w (List.mem_cons.mpr hw)
theorem hdl_393_X21 : GoodIn lw_all (va_wsO RX1 393 RX21 RX19 ⟨"TroughTreaty$Leaf", "struck", "()I"⟩ yX21_struck (ws_ yX21_struck cX21_struck 1 (some .int))) := by
  intro w hw
  simp only [va_wsO, List.cons_append, List.nil_append, List.mem_cons] at hw
  rcases hw with rfl | rfl | rfl | rfl | rfl | rfl | hw
  · exact lw_self _ q1395
  · exact lw_self _ q1397
  · exact lw_self _ q1396
  · exact lw_self _ q1399
  · exact lw_self _ q1400
  · exact lw_self _ q163
  · exact lw_meth q1401 w (List.mem_cons.mpr hw)
theorem dl_X1_393 {E : En} {G : Ctx} {M : Mem} {cells slots nL pc : Nat} {lv : List (Nat × Value)} {st : List Value} {Q : State → Prop} {cc : ByteArray} {ret : Option FieldType} {rm0 : Room} (hE : EOk E) (hG : Cx E G cc nL ret RX1 rm0) (hN : NOk E) {a : Nat} {r : Int32} (hc : fd_struck a M = some r) (hroom : 0 + 1 ≤ rm0.frames ∧ 8 + (2 + 11) + 0 ≤ rm0.locals) (hcat : (st.map fun v => v.category).sum ≤ 8) (hf : cells + 0 ≤ rm0.cells ∧ slots + 0 ≤ rm0.slots) (d : decode cc pc = .ok (.invokevirtual 393, 3)) (k : V E G M cells slots nL (pc + 3) lv (.int r :: st) Q) : V E G M cells slots nL pc lv (rf E a :: st) Q := by
  unfold fd_struck at hc
  by_cases c1 : mT M a = 14
  · have h := if_t c1 hc
    exact W_callU hE hG (ci := 14) (C := RX20) (T := TX20) (N := 4) (As := []) (rest := st) (v := some (.int r)) (M' := M) (ok_f_X19_struck hE hN h) c1 (by decide) rfl (fun R s args hts hK9 hR => va_cwU (owner := RX19) 0 hts hdl_393_X20 rfl rfl rfl rfl (by decide +kernel) (by rw [hR]; exact ⟨hroom.1, by show 8 + (1 + 11) + 0 ≤ _; omega⟩)) rfl rfl hcat hf d (V_zero rfl rfl k)
  · obtain ⟨c2, h⟩ := gd_of (if_f c1 hc)
    exact W_callU hE hG (ci := 15) (C := RX21) (T := TX21) (N := 1) (As := []) (rest := st) (v := some (.int r)) (M' := M) (ok_f_X21_struck hE hN h) c2 (by decide) rfl (fun R s args hts hK9 hR => va_cwO (owner := RX19) 0 hts hdl_393_X21 rfl rfl rfl q1402 (by decide +kernel) (by rw [hR]; exact ⟨hroom.1, by show 8 + (1 + 11) + 0 ≤ _; omega⟩)) rfl rfl hcat hf d (V_zero rfl rfl k)
def fd_isSo (a : Nat) (p1 : Nat) (M : Mem) : Option Int32 := if mT M a = 14 then f_X20_isSo a p1 M else gd (mT M a = 15) (f_X19_isSo a p1 M)
theorem hdl_389_X20 : GoodIn lw_all (va_wsO RX1 389 RX20 RX19 ⟨"TroughTreaty$Leaf", "isSo", "(LTroughTreaty$State;)Z"⟩ yX20_isSo (ws_ yX20_isSo cX20_isSo 2 (some .boolean))) := by
  intro w hw
  simp only [va_wsO, List.cons_append, List.nil_append, List.mem_cons] at hw
  rcases hw with rfl | rfl | rfl | rfl | rfl | rfl | hw
  · exact lw_self _ q1415
  · exact lw_self _ q1417
  · exact lw_self _ q1416
  · exact lw_self _ q1418
  · exact lw_self _ q1419
  · exact lw_self _ q162
  · exact lw_meth q1420 w (List.mem_cons.mpr hw)
theorem hdl_389_X21 : GoodIn lw_all (va_wsU RX1 389 RX21 RX19 ⟨"TroughTreaty$Leaf", "isSo", "(LTroughTreaty$State;)Z"⟩ yX19_isSo (ws_ yX19_isSo cX19_isSo 2 (some .boolean))) := by
  intro w hw
  simp only [va_wsU, List.cons_append, List.nil_append, List.mem_cons] at hw
  rcases hw with rfl | rfl | rfl | rfl | rfl | hw
  · exact lw_self _ q1415
  · exact lw_self _ q1417
  · exact lw_self _ q1421
  · exact lw_self _ q1416
  · exact lw_self _ q161
  · exact lw_meth q1422 w (List.mem_cons.mpr hw)
theorem dl_X1_389 {E : En} {G : Ctx} {M : Mem} {cells slots nL pc : Nat} {lv : List (Nat × Value)} {st : List Value} {Q : State → Prop} {cc : ByteArray} {ret : Option FieldType} {rm0 : Room} (hE : EOk E) (hG : Cx E G cc nL ret RX1 rm0) (hN : NOk E) {a p1 : Nat} {r : Int32} (hc : fd_isSo a p1 M = some r) (hroom : 0 + 1 ≤ rm0.frames ∧ 8 + (2 + 11) + 0 ≤ rm0.locals) (hcat : (st.map fun v => v.category).sum ≤ 8) (hf : cells + 0 ≤ rm0.cells ∧ slots + 0 ≤ rm0.slots) (d : decode cc pc = .ok (.invokevirtual 389, 3)) (k : V E G M cells slots nL (pc + 3) lv (.int r :: st) Q) : V E G M cells slots nL pc lv (rf E p1 :: rf E a :: st) Q := by
  unfold fd_isSo at hc
  by_cases c1 : mT M a = 14
  · have h := if_t c1 hc
    exact W_callU hE hG (ci := 14) (C := RX20) (T := TX20) (N := 4) (As := [rf E p1]) (rest := st) (v := some (.int r)) (M' := M) (ok_f_X20_isSo hE hN h) c1 (by decide) rfl (fun R s args hts hK9 hR => va_cwO (owner := RX19) 1 hts hdl_389_X20 rfl rfl rfl q1422 (by decide +kernel) (by rw [hR]; exact ⟨hroom.1, by show 8 + (2 + 11) + 0 ≤ _; omega⟩)) rfl rfl hcat hf d (V_zero rfl rfl k)
  · obtain ⟨c2, h⟩ := gd_of (if_f c1 hc)
    exact W_callU hE hG (ci := 15) (C := RX21) (T := TX21) (N := 1) (As := [rf E p1]) (rest := st) (v := some (.int r)) (M' := M) (ok_f_X19_isSo hE hN h) c2 (by decide) rfl (fun R s args hts hK9 hR => va_cwU (owner := RX19) 1 hts hdl_389_X21 rfl rfl rfl rfl (by decide +kernel) (by rw [hR]; exact ⟨hroom.1, by show 8 + (2 + 11) + 0 ≤ _; omega⟩)) rfl rfl hcat hf d (V_zero rfl rfl k)
