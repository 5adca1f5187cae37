set_option maxRecDepth 100000
section
/-! laws: a tree against the twin's rows -/
theorem ev_btp {α β : Type} (x : Option (Option α)) (f : α → Option β) (k : Option β) (P : β → Prop) : ev (btp x f k) P = ev x (fun a => match a with
  | some a => ev (f a) P
  | none => ev k P) := by
  cases x with
  | none => rw [ev_none]; exact ev_none P
  | some a => cases a <;> (rw [ev_some]; rfl)
theorem btp_s {α β : Type} (a : α) (f : α → Option β) (k : Option β) : btp (some (some a)) f k = f a := rfl
theorem btp_n {α β : Type} (f : α → Option β) (k : Option β) : btp (some none) f k = k := rfl
/-- but for the mark of an error -/
def AgE (S S' : TS) : Prop := (∀ j k, ¬ (j = 0 ∧ k = 53) → tI S' j k = tI S j k) ∧ tL S' = tL S
theorem AgE_refl (S : TS) : AgE S S := ⟨fun _ _ _ => rfl, rfl⟩
theorem AgE_ts (S : TS) (v : Int32) : AgE S (tsI S 0 53 v) := by
  refine ⟨fun j k h => ?_, rfl⟩
  rw [tI_tsI, if_neg h]
def Out (S1 S2 : TS) (r : Int64) (x : Option (Option Int64)) : Prop := AgE S1 S2 ∧ (tI S2 0 53 = 0 ∨ tI S2 0 53 = 1) ∧ (tI S1 0 53 = 1 → tI S2 0 53 = 1) ∧ (tI S1 0 53 = 0 → (x = some (some r) ∧ tI S2 0 53 = 0) ∨ (x = some none ∧ tI S2 0 53 = 1))
theorem Out_same {S : TS} {r : Int64} {x : Option (Option Int64)} (h : tI S 0 53 = 0 ∨ tI S 0 53 = 1) (hx : x = some (some r)) : Out S S r x :=
  ⟨AgE_refl S, h, id, fun h0 => Or.inl ⟨hx, h0⟩⟩
theorem er53 (S : TS) (v : Int32) : tI (tsI S 0 53 v) 0 53 = v := by rw [tI_tsI, if_pos ⟨rfl, rfl⟩]
theorem o_bounded {S : TS} {M : Mem} (h : tI S 0 53 = 0 ∨ tI S 0 53 = 1) (v : Int64) : ev (tw_bounded v S) fun q => Out S q.2 q.1 (f_X1_sure v M) := by
  unfold tw_bounded f_X1_sure
  simp only [ev_some, ev_none, ev_be, ev_gd, ev_bd, ev_bd2, ev_bd3, ev_bd4, ev_ite, er53]
  rcases h with h | h
  · by_cases h1 : 0 < lg_cmp v 1000000000000
    · simp [h, h1]
      exact ⟨AgE_ts S 1, Or.inr (er53 S 1), fun _ => er53 S 1, fun _ => Or.inr ⟨rfl, er53 S 1⟩⟩
    · by_cases h2 : 0 ≤ lg_cmp v (-1000000000000)
      · simp [h, h1, h2]
        exact ⟨AgE_ts S 0, Or.inl (er53 S 0), fun h3 => absurd (h.symm.trans h3) (by decide), fun _ => Or.inl ⟨rfl, er53 S 0⟩⟩
      · simp [h, h1, h2]
        exact ⟨AgE_ts S 1, Or.inr (er53 S 1), fun _ => er53 S 1, fun _ => Or.inr ⟨rfl, er53 S 1⟩⟩
  · simp [h]
    exact ⟨AgE_ts S 1, Or.inr (er53 S 1), fun _ => er53 S 1, fun h3 => absurd (h.symm.trans h3) (by decide)⟩
def ab64 (x : Int64) : Int64 := if 0 ≤ lg_cmp x 0 then x else -x
theorem ab64_min (x : Int64) : 0 ≤ (ab64 x).toInt ∨ ab64 x = -9223372036854775808 := by
  unfold ab64
  by_cases h : 0 ≤ lg_cmp x 0
  · rw [if_pos h]
    rw [lg_cmp_ge, Int64.le_iff_toInt_le] at h
    exact Or.inl h
  · rw [if_neg h]
    rw [lg_cmp_ge, Int64.le_iff_toInt_le] at h
    have h0 : (0 : Int64).toInt = 0 := by decide
    have h1 := x.le_toInt
    by_cases h2 : x.toInt = -9223372036854775808
    · right
      have : x = -9223372036854775808 := by
        rw [← Int64.toInt_inj, h2]
        decide
      rw [this]
      decide
    · left
      rw [Int64.toInt_neg, Int.bmod_def]
      omega
theorem div_nn (x : Int64) : (0 : Int64) ≤ 1000000000000 / ab64 x := by
  rcases ab64_min x with h | h
  · rw [Int64.le_iff_toInt_le, Int64.toInt_div]
    have h1 : (1000000000000 : Int64).toInt = 1000000000000 := by decide
    have h0 : (0 : Int64).toInt = 0 := by decide
    have h2 : 0 ≤ (1000000000000 : Int).tdiv (ab64 x).toInt := Int.tdiv_nonneg (by omega) h
    have h3 : (1000000000000 : Int).tdiv (ab64 x).toInt ≤ 1000000000000 := Int.tdiv_le_self _ (by omega)
    rw [h1, h0, Int.bmod_def]
    omega
  · rw [h]
    decide
theorem ab64_0 : ab64 0 = 0 := by decide
theorem ab64_ne {x : Int64} (h : ¬ lg_cmp x 0 = 0) : ¬ ab64 x = 0 := by
  rw [lg_cmp_eq] at h
  unfold ab64
  split
  · exact h
  · intro e
    apply h
    have h2 := congrArg (fun y : Int64 => -y) e
    simpa using h2
theorem o_times {S : TS} {M : Mem} (h : tI S 0 53 = 0 ∨ tI S 0 53 = 1) (v w : Int64) : ev (tw_times v w S) fun q => Out S q.2 q.1 (f_X18_times v w M) := by
  have key : ∃ t : Int32, (t = 0 ∧ f_X18_times v w M = some (some (v * w)) ∨ t = 1 ∧ f_X18_times v w M = some none) ∧ tw_times v w S = be (if tI S 0 53 = 0 then (if t = 0 then 0 else 1) else 1 : Int32) fun (y_8 : Int32) =>
gd (y_8 = 0 ∨ y_8 = 1) (
be (tsI S 0 53 y_8) fun S_9 =>
be (if tI S_9 0 53 = 0 then (
v * w)
else (
0) : Int64) fun (y_14 : Int64) =>
some (y_14, S_9)) := by
    have ca : ∀ x : Int64, f_J8_abs_2 x M = some (ab64 x) := fun _ => rfl
    unfold tw_times f_X18_times
    by_cases h1 : lg_cmp v 0 = 0
    · refine ⟨0, Or.inl ⟨rfl, ?_⟩, ?_⟩
      · simp [h1]
      · simp [h1, bd]
    · have hv := ab64_ne h1
      have hc : (if 0 ≤ lg_cmp v 0 then v else -v) = ab64 v := rfl
      have hd : (if 0 ≤ lg_cmp w 0 then w else -w) = ab64 w := rfl
      by_cases h2 : lg_cmp w 0 = 0
      · refine ⟨0, Or.inl ⟨rfl, ?_⟩, ?_⟩
        · have h3 := div_nn v
          rw [lg_cmp_eq] at h2
          subst h2
          simp only [h1, if_false, ca, bd, ab64_0, gd, hv, not_false_eq_true, if_true, lg_cmp_le, h3]
        · simp [h1, h2, bd]
      · by_cases h3 : lg_cmp (ab64 w) (1000000000000 / ab64 v) ≤ 0
        · refine ⟨0, Or.inl ⟨rfl, ?_⟩, ?_⟩
          · simp only [h1, if_false, ca, bd, gd, hv, not_false_eq_true, if_true, h3]
          · simp only [h1, h2, if_false, be, bd, gd, hc, hd, hv, not_false_eq_true, if_true, h3]
        · refine ⟨1, Or.inr ⟨rfl, ?_⟩, ?_⟩
          · simp only [h1, if_false, ca, bd, gd, hv, not_false_eq_true, if_true, h3]
          · simp only [h1, h2, if_false, be, bd, gd, hc, hd, hv, not_false_eq_true, if_true, h3]
  obtain ⟨t, ht, e⟩ := key
  rw [e]
  simp only [ev_some, ev_none, ev_be, ev_gd, ev_bd, ev_bd2, ev_bd3, ev_bd4, ev_ite, er53]
  rcases h with h | h
  · rcases ht with ⟨rfl, ht⟩ | ⟨rfl, ht⟩
    · simp [h, ht]
      exact ⟨AgE_ts S 0, Or.inl (er53 S 0), fun h3 => absurd (h.symm.trans h3) (by decide), fun _ => Or.inl ⟨rfl, er53 S 0⟩⟩
    · simp [h, ht]
      exact ⟨AgE_ts S 1, Or.inr (er53 S 1), fun _ => er53 S 1, fun _ => Or.inr ⟨rfl, er53 S 1⟩⟩
  · simp [h]
    exact ⟨AgE_ts S 1, Or.inr (er53 S 1), fun _ => er53 S 1, fun h3 => absurd (h.symm.trans h3) (by decide)⟩
theorem d_3_0 : ((3 : Int32) = 0) = False := eq_false (by decide)
theorem d_3_1 : ((3 : Int32) = 1) = False := eq_false (by decide)
theorem d_3_2 : ((3 : Int32) = 2) = False := eq_false (by decide)
theorem d_3_4 : ((3 : Int32) = 4) = False := eq_false (by decide)
theorem d_3_5 : ((3 : Int32) = 5) = False := eq_false (by decide)
theorem d_3_6 : ((3 : Int32) = 6) = False := eq_false (by decide)
theorem d_3_7 : ((3 : Int32) = 7) = False := eq_false (by decide)
theorem d_3_8 : ((3 : Int32) = 8) = False := eq_false (by decide)
theorem d_3_9 : ((3 : Int32) = 9) = False := eq_false (by decide)
theorem d_3_10 : ((3 : Int32) = 10) = False := eq_false (by decide)
theorem d_3_11 : ((3 : Int32) = 11) = False := eq_false (by decide)
theorem d_3_12 : ((3 : Int32) = 12) = False := eq_false (by decide)
theorem d_3_13 : ((3 : Int32) = 13) = False := eq_false (by decide)
theorem d_3_14 : ((3 : Int32) = 14) = False := eq_false (by decide)
theorem d_4_0 : ((4 : Int32) = 0) = False := eq_false (by decide)
theorem d_4_1 : ((4 : Int32) = 1) = False := eq_false (by decide)
theorem d_4_2 : ((4 : Int32) = 2) = False := eq_false (by decide)
theorem d_4_3 : ((4 : Int32) = 3) = False := eq_false (by decide)
theorem d_4_5 : ((4 : Int32) = 5) = False := eq_false (by decide)
theorem d_4_6 : ((4 : Int32) = 6) = False := eq_false (by decide)
theorem d_4_7 : ((4 : Int32) = 7) = False := eq_false (by decide)
theorem d_4_8 : ((4 : Int32) = 8) = False := eq_false (by decide)
theorem d_4_9 : ((4 : Int32) = 9) = False := eq_false (by decide)
theorem d_4_10 : ((4 : Int32) = 10) = False := eq_false (by decide)
theorem d_4_11 : ((4 : Int32) = 11) = False := eq_false (by decide)
theorem d_4_12 : ((4 : Int32) = 12) = False := eq_false (by decide)
theorem d_4_13 : ((4 : Int32) = 13) = False := eq_false (by decide)
theorem d_4_14 : ((4 : Int32) = 14) = False := eq_false (by decide)
theorem d_5_0 : ((5 : Int32) = 0) = False := eq_false (by decide)
theorem d_5_1 : ((5 : Int32) = 1) = False := eq_false (by decide)
theorem d_5_2 : ((5 : Int32) = 2) = False := eq_false (by decide)
theorem d_5_3 : ((5 : Int32) = 3) = False := eq_false (by decide)
theorem d_5_4 : ((5 : Int32) = 4) = False := eq_false (by decide)
theorem d_5_6 : ((5 : Int32) = 6) = False := eq_false (by decide)
theorem d_5_7 : ((5 : Int32) = 7) = False := eq_false (by decide)
theorem d_5_8 : ((5 : Int32) = 8) = False := eq_false (by decide)
theorem d_5_9 : ((5 : Int32) = 9) = False := eq_false (by decide)
theorem d_5_10 : ((5 : Int32) = 10) = False := eq_false (by decide)
theorem d_5_11 : ((5 : Int32) = 11) = False := eq_false (by decide)
theorem d_5_12 : ((5 : Int32) = 12) = False := eq_false (by decide)
theorem d_5_13 : ((5 : Int32) = 13) = False := eq_false (by decide)
theorem d_5_14 : ((5 : Int32) = 14) = False := eq_false (by decide)
theorem d_6_0 : ((6 : Int32) = 0) = False := eq_false (by decide)
theorem d_6_1 : ((6 : Int32) = 1) = False := eq_false (by decide)
theorem d_6_2 : ((6 : Int32) = 2) = False := eq_false (by decide)
theorem d_6_3 : ((6 : Int32) = 3) = False := eq_false (by decide)
theorem d_6_4 : ((6 : Int32) = 4) = False := eq_false (by decide)
theorem d_6_5 : ((6 : Int32) = 5) = False := eq_false (by decide)
theorem d_6_7 : ((6 : Int32) = 7) = False := eq_false (by decide)
theorem d_6_8 : ((6 : Int32) = 8) = False := eq_false (by decide)
theorem d_6_9 : ((6 : Int32) = 9) = False := eq_false (by decide)
theorem d_6_10 : ((6 : Int32) = 10) = False := eq_false (by decide)
theorem d_6_11 : ((6 : Int32) = 11) = False := eq_false (by decide)
theorem d_6_12 : ((6 : Int32) = 12) = False := eq_false (by decide)
theorem d_6_13 : ((6 : Int32) = 13) = False := eq_false (by decide)
theorem d_6_14 : ((6 : Int32) = 14) = False := eq_false (by decide)
theorem d_7_0 : ((7 : Int32) = 0) = False := eq_false (by decide)
theorem d_7_1 : ((7 : Int32) = 1) = False := eq_false (by decide)
theorem d_7_2 : ((7 : Int32) = 2) = False := eq_false (by decide)
theorem d_7_3 : ((7 : Int32) = 3) = False := eq_false (by decide)
theorem d_7_4 : ((7 : Int32) = 4) = False := eq_false (by decide)
theorem d_7_5 : ((7 : Int32) = 5) = False := eq_false (by decide)
theorem d_7_6 : ((7 : Int32) = 6) = False := eq_false (by decide)
theorem d_7_8 : ((7 : Int32) = 8) = False := eq_false (by decide)
theorem d_7_9 : ((7 : Int32) = 9) = False := eq_false (by decide)
theorem d_7_10 : ((7 : Int32) = 10) = False := eq_false (by decide)
theorem d_7_11 : ((7 : Int32) = 11) = False := eq_false (by decide)
theorem d_7_12 : ((7 : Int32) = 12) = False := eq_false (by decide)
theorem d_7_13 : ((7 : Int32) = 13) = False := eq_false (by decide)
theorem d_7_14 : ((7 : Int32) = 14) = False := eq_false (by decide)
theorem d_8_0 : ((8 : Int32) = 0) = False := eq_false (by decide)
theorem d_8_1 : ((8 : Int32) = 1) = False := eq_false (by decide)
theorem d_8_2 : ((8 : Int32) = 2) = False := eq_false (by decide)
theorem d_8_3 : ((8 : Int32) = 3) = False := eq_false (by decide)
theorem d_8_4 : ((8 : Int32) = 4) = False := eq_false (by decide)
theorem d_8_5 : ((8 : Int32) = 5) = False := eq_false (by decide)
theorem d_8_6 : ((8 : Int32) = 6) = False := eq_false (by decide)
theorem d_8_7 : ((8 : Int32) = 7) = False := eq_false (by decide)
theorem d_8_9 : ((8 : Int32) = 9) = False := eq_false (by decide)
theorem d_8_10 : ((8 : Int32) = 10) = False := eq_false (by decide)
theorem d_8_11 : ((8 : Int32) = 11) = False := eq_false (by decide)
theorem d_8_12 : ((8 : Int32) = 12) = False := eq_false (by decide)
theorem d_8_13 : ((8 : Int32) = 13) = False := eq_false (by decide)
theorem d_8_14 : ((8 : Int32) = 14) = False := eq_false (by decide)
theorem d_9_0 : ((9 : Int32) = 0) = False := eq_false (by decide)
theorem d_9_1 : ((9 : Int32) = 1) = False := eq_false (by decide)
theorem d_9_2 : ((9 : Int32) = 2) = False := eq_false (by decide)
theorem d_9_3 : ((9 : Int32) = 3) = False := eq_false (by decide)
theorem d_9_4 : ((9 : Int32) = 4) = False := eq_false (by decide)
theorem d_9_5 : ((9 : Int32) = 5) = False := eq_false (by decide)
theorem d_9_6 : ((9 : Int32) = 6) = False := eq_false (by decide)
theorem d_9_7 : ((9 : Int32) = 7) = False := eq_false (by decide)
theorem d_9_8 : ((9 : Int32) = 8) = False := eq_false (by decide)
theorem d_9_10 : ((9 : Int32) = 10) = False := eq_false (by decide)
theorem d_9_11 : ((9 : Int32) = 11) = False := eq_false (by decide)
theorem d_9_12 : ((9 : Int32) = 12) = False := eq_false (by decide)
theorem d_9_13 : ((9 : Int32) = 13) = False := eq_false (by decide)
theorem d_9_14 : ((9 : Int32) = 14) = False := eq_false (by decide)
theorem d_10_0 : ((10 : Int32) = 0) = False := eq_false (by decide)
theorem d_10_1 : ((10 : Int32) = 1) = False := eq_false (by decide)
theorem d_10_2 : ((10 : Int32) = 2) = False := eq_false (by decide)
theorem d_10_3 : ((10 : Int32) = 3) = False := eq_false (by decide)
theorem d_10_4 : ((10 : Int32) = 4) = False := eq_false (by decide)
theorem d_10_5 : ((10 : Int32) = 5) = False := eq_false (by decide)
theorem d_10_6 : ((10 : Int32) = 6) = False := eq_false (by decide)
theorem d_10_7 : ((10 : Int32) = 7) = False := eq_false (by decide)
theorem d_10_8 : ((10 : Int32) = 8) = False := eq_false (by decide)
theorem d_10_9 : ((10 : Int32) = 9) = False := eq_false (by decide)
theorem d_10_11 : ((10 : Int32) = 11) = False := eq_false (by decide)
theorem d_10_12 : ((10 : Int32) = 12) = False := eq_false (by decide)
theorem d_10_13 : ((10 : Int32) = 13) = False := eq_false (by decide)
theorem d_10_14 : ((10 : Int32) = 14) = False := eq_false (by decide)
theorem d_11_0 : ((11 : Int32) = 0) = False := eq_false (by decide)
theorem d_11_1 : ((11 : Int32) = 1) = False := eq_false (by decide)
theorem d_11_2 : ((11 : Int32) = 2) = False := eq_false (by decide)
theorem d_11_3 : ((11 : Int32) = 3) = False := eq_false (by decide)
theorem d_11_4 : ((11 : Int32) = 4) = False := eq_false (by decide)
theorem d_11_5 : ((11 : Int32) = 5) = False := eq_false (by decide)
theorem d_11_6 : ((11 : Int32) = 6) = False := eq_false (by decide)
theorem d_11_7 : ((11 : Int32) = 7) = False := eq_false (by decide)
theorem d_11_8 : ((11 : Int32) = 8) = False := eq_false (by decide)
theorem d_11_9 : ((11 : Int32) = 9) = False := eq_false (by decide)
theorem d_11_10 : ((11 : Int32) = 10) = False := eq_false (by decide)
theorem d_11_12 : ((11 : Int32) = 12) = False := eq_false (by decide)
theorem d_11_13 : ((11 : Int32) = 13) = False := eq_false (by decide)
theorem d_11_14 : ((11 : Int32) = 14) = False := eq_false (by decide)
theorem d_12_0 : ((12 : Int32) = 0) = False := eq_false (by decide)
theorem d_12_1 : ((12 : Int32) = 1) = False := eq_false (by decide)
theorem d_12_2 : ((12 : Int32) = 2) = False := eq_false (by decide)
theorem d_12_3 : ((12 : Int32) = 3) = False := eq_false (by decide)
theorem d_12_4 : ((12 : Int32) = 4) = False := eq_false (by decide)
theorem d_12_5 : ((12 : Int32) = 5) = False := eq_false (by decide)
theorem d_12_6 : ((12 : Int32) = 6) = False := eq_false (by decide)
theorem d_12_7 : ((12 : Int32) = 7) = False := eq_false (by decide)
theorem d_12_8 : ((12 : Int32) = 8) = False := eq_false (by decide)
theorem d_12_9 : ((12 : Int32) = 9) = False := eq_false (by decide)
theorem d_12_10 : ((12 : Int32) = 10) = False := eq_false (by decide)
theorem d_12_11 : ((12 : Int32) = 11) = False := eq_false (by decide)
theorem d_12_13 : ((12 : Int32) = 13) = False := eq_false (by decide)
theorem d_12_14 : ((12 : Int32) = 14) = False := eq_false (by decide)
theorem d_13_0 : ((13 : Int32) = 0) = False := eq_false (by decide)
theorem d_13_1 : ((13 : Int32) = 1) = False := eq_false (by decide)
theorem d_13_2 : ((13 : Int32) = 2) = False := eq_false (by decide)
theorem d_13_3 : ((13 : Int32) = 3) = False := eq_false (by decide)
theorem d_13_4 : ((13 : Int32) = 4) = False := eq_false (by decide)
theorem d_13_5 : ((13 : Int32) = 5) = False := eq_false (by decide)
theorem d_13_6 : ((13 : Int32) = 6) = False := eq_false (by decide)
theorem d_13_7 : ((13 : Int32) = 7) = False := eq_false (by decide)
theorem d_13_8 : ((13 : Int32) = 8) = False := eq_false (by decide)
theorem d_13_9 : ((13 : Int32) = 9) = False := eq_false (by decide)
theorem d_13_10 : ((13 : Int32) = 10) = False := eq_false (by decide)
theorem d_13_11 : ((13 : Int32) = 11) = False := eq_false (by decide)
theorem d_13_12 : ((13 : Int32) = 12) = False := eq_false (by decide)
theorem d_13_14 : ((13 : Int32) = 14) = False := eq_false (by decide)
theorem d_14_0 : ((14 : Int32) = 0) = False := eq_false (by decide)
theorem d_14_1 : ((14 : Int32) = 1) = False := eq_false (by decide)
theorem d_14_2 : ((14 : Int32) = 2) = False := eq_false (by decide)
theorem d_14_3 : ((14 : Int32) = 3) = False := eq_false (by decide)
theorem d_14_4 : ((14 : Int32) = 4) = False := eq_false (by decide)
theorem d_14_5 : ((14 : Int32) = 5) = False := eq_false (by decide)
theorem d_14_6 : ((14 : Int32) = 6) = False := eq_false (by decide)
theorem d_14_7 : ((14 : Int32) = 7) = False := eq_false (by decide)
theorem d_14_8 : ((14 : Int32) = 8) = False := eq_false (by decide)
theorem d_14_9 : ((14 : Int32) = 9) = False := eq_false (by decide)
theorem d_14_10 : ((14 : Int32) = 10) = False := eq_false (by decide)
theorem d_14_11 : ((14 : Int32) = 11) = False := eq_false (by decide)
theorem d_14_12 : ((14 : Int32) = 12) = False := eq_false (by decide)
theorem d_14_13 : ((14 : Int32) = 13) = False := eq_false (by decide)
theorem d_10_42 : ((10 : Int32) = 42) = False := eq_false (by decide)
theorem d_10_43 : ((10 : Int32) = 43) = False := eq_false (by decide)
theorem d_10_45 : ((10 : Int32) = 45) = False := eq_false (by decide)
theorem d_10_47 : ((10 : Int32) = 47) = False := eq_false (by decide)
theorem d_10_60 : ((10 : Int32) = 60) = False := eq_false (by decide)
theorem d_10_61 : ((10 : Int32) = 61) = False := eq_false (by decide)
theorem d_10_62 : ((10 : Int32) = 62) = False := eq_false (by decide)
theorem d_10_256 : ((10 : Int32) = 256) = False := eq_false (by decide)
theorem d_10_257 : ((10 : Int32) = 257) = False := eq_false (by decide)
theorem d_10_258 : ((10 : Int32) = 258) = False := eq_false (by decide)
theorem d_11_42 : ((11 : Int32) = 42) = False := eq_false (by decide)
theorem d_11_43 : ((11 : Int32) = 43) = False := eq_false (by decide)
theorem d_11_45 : ((11 : Int32) = 45) = False := eq_false (by decide)
theorem d_11_47 : ((11 : Int32) = 47) = False := eq_false (by decide)
theorem d_11_60 : ((11 : Int32) = 60) = False := eq_false (by decide)
theorem d_11_61 : ((11 : Int32) = 61) = False := eq_false (by decide)
theorem d_11_62 : ((11 : Int32) = 62) = False := eq_false (by decide)
theorem d_11_256 : ((11 : Int32) = 256) = False := eq_false (by decide)
theorem d_11_257 : ((11 : Int32) = 257) = False := eq_false (by decide)
theorem d_11_258 : ((11 : Int32) = 258) = False := eq_false (by decide)
theorem d_42_11 : ((42 : Int32) = 11) = False := eq_false (by decide)
theorem d_42_43 : ((42 : Int32) = 43) = False := eq_false (by decide)
theorem d_42_45 : ((42 : Int32) = 45) = False := eq_false (by decide)
theorem d_42_47 : ((42 : Int32) = 47) = False := eq_false (by decide)
theorem d_42_60 : ((42 : Int32) = 60) = False := eq_false (by decide)
theorem d_42_61 : ((42 : Int32) = 61) = False := eq_false (by decide)
theorem d_42_62 : ((42 : Int32) = 62) = False := eq_false (by decide)
theorem d_42_256 : ((42 : Int32) = 256) = False := eq_false (by decide)
theorem d_42_257 : ((42 : Int32) = 257) = False := eq_false (by decide)
theorem d_42_258 : ((42 : Int32) = 258) = False := eq_false (by decide)
theorem d_43_11 : ((43 : Int32) = 11) = False := eq_false (by decide)
theorem d_43_42 : ((43 : Int32) = 42) = False := eq_false (by decide)
theorem d_43_45 : ((43 : Int32) = 45) = False := eq_false (by decide)
theorem d_43_47 : ((43 : Int32) = 47) = False := eq_false (by decide)
theorem d_43_60 : ((43 : Int32) = 60) = False := eq_false (by decide)
theorem d_43_61 : ((43 : Int32) = 61) = False := eq_false (by decide)
theorem d_43_62 : ((43 : Int32) = 62) = False := eq_false (by decide)
theorem d_43_256 : ((43 : Int32) = 256) = False := eq_false (by decide)
theorem d_43_257 : ((43 : Int32) = 257) = False := eq_false (by decide)
theorem d_43_258 : ((43 : Int32) = 258) = False := eq_false (by decide)
theorem d_45_11 : ((45 : Int32) = 11) = False := eq_false (by decide)
theorem d_45_42 : ((45 : Int32) = 42) = False := eq_false (by decide)
theorem d_45_43 : ((45 : Int32) = 43) = False := eq_false (by decide)
theorem d_45_47 : ((45 : Int32) = 47) = False := eq_false (by decide)
theorem d_45_60 : ((45 : Int32) = 60) = False := eq_false (by decide)
theorem d_45_61 : ((45 : Int32) = 61) = False := eq_false (by decide)
theorem d_45_62 : ((45 : Int32) = 62) = False := eq_false (by decide)
theorem d_45_256 : ((45 : Int32) = 256) = False := eq_false (by decide)
theorem d_45_257 : ((45 : Int32) = 257) = False := eq_false (by decide)
theorem d_45_258 : ((45 : Int32) = 258) = False := eq_false (by decide)
theorem d_47_11 : ((47 : Int32) = 11) = False := eq_false (by decide)
theorem d_47_42 : ((47 : Int32) = 42) = False := eq_false (by decide)
theorem d_47_43 : ((47 : Int32) = 43) = False := eq_false (by decide)
theorem d_47_45 : ((47 : Int32) = 45) = False := eq_false (by decide)
theorem d_47_60 : ((47 : Int32) = 60) = False := eq_false (by decide)
theorem d_47_61 : ((47 : Int32) = 61) = False := eq_false (by decide)
theorem d_47_62 : ((47 : Int32) = 62) = False := eq_false (by decide)
theorem d_47_256 : ((47 : Int32) = 256) = False := eq_false (by decide)
theorem d_47_257 : ((47 : Int32) = 257) = False := eq_false (by decide)
theorem d_47_258 : ((47 : Int32) = 258) = False := eq_false (by decide)
theorem d_60_11 : ((60 : Int32) = 11) = False := eq_false (by decide)
theorem d_60_42 : ((60 : Int32) = 42) = False := eq_false (by decide)
theorem d_60_43 : ((60 : Int32) = 43) = False := eq_false (by decide)
theorem d_60_45 : ((60 : Int32) = 45) = False := eq_false (by decide)
theorem d_60_47 : ((60 : Int32) = 47) = False := eq_false (by decide)
theorem d_60_61 : ((60 : Int32) = 61) = False := eq_false (by decide)
theorem d_60_62 : ((60 : Int32) = 62) = False := eq_false (by decide)
theorem d_60_256 : ((60 : Int32) = 256) = False := eq_false (by decide)
theorem d_60_257 : ((60 : Int32) = 257) = False := eq_false (by decide)
theorem d_60_258 : ((60 : Int32) = 258) = False := eq_false (by decide)
theorem d_61_11 : ((61 : Int32) = 11) = False := eq_false (by decide)
theorem d_61_42 : ((61 : Int32) = 42) = False := eq_false (by decide)
theorem d_61_43 : ((61 : Int32) = 43) = False := eq_false (by decide)
theorem d_61_45 : ((61 : Int32) = 45) = False := eq_false (by decide)
theorem d_61_47 : ((61 : Int32) = 47) = False := eq_false (by decide)
theorem d_61_60 : ((61 : Int32) = 60) = False := eq_false (by decide)
theorem d_61_62 : ((61 : Int32) = 62) = False := eq_false (by decide)
theorem d_61_256 : ((61 : Int32) = 256) = False := eq_false (by decide)
theorem d_61_257 : ((61 : Int32) = 257) = False := eq_false (by decide)
theorem d_61_258 : ((61 : Int32) = 258) = False := eq_false (by decide)
theorem d_62_11 : ((62 : Int32) = 11) = False := eq_false (by decide)
theorem d_62_42 : ((62 : Int32) = 42) = False := eq_false (by decide)
theorem d_62_43 : ((62 : Int32) = 43) = False := eq_false (by decide)
theorem d_62_45 : ((62 : Int32) = 45) = False := eq_false (by decide)
theorem d_62_47 : ((62 : Int32) = 47) = False := eq_false (by decide)
theorem d_62_60 : ((62 : Int32) = 60) = False := eq_false (by decide)
theorem d_62_61 : ((62 : Int32) = 61) = False := eq_false (by decide)
theorem d_62_256 : ((62 : Int32) = 256) = False := eq_false (by decide)
theorem d_62_257 : ((62 : Int32) = 257) = False := eq_false (by decide)
theorem d_62_258 : ((62 : Int32) = 258) = False := eq_false (by decide)
theorem d_256_11 : ((256 : Int32) = 11) = False := eq_false (by decide)
theorem d_256_42 : ((256 : Int32) = 42) = False := eq_false (by decide)
theorem d_256_43 : ((256 : Int32) = 43) = False := eq_false (by decide)
theorem d_256_45 : ((256 : Int32) = 45) = False := eq_false (by decide)
theorem d_256_47 : ((256 : Int32) = 47) = False := eq_false (by decide)
theorem d_256_60 : ((256 : Int32) = 60) = False := eq_false (by decide)
theorem d_256_61 : ((256 : Int32) = 61) = False := eq_false (by decide)
theorem d_256_62 : ((256 : Int32) = 62) = False := eq_false (by decide)
theorem d_256_257 : ((256 : Int32) = 257) = False := eq_false (by decide)
theorem d_256_258 : ((256 : Int32) = 258) = False := eq_false (by decide)
theorem d_257_11 : ((257 : Int32) = 11) = False := eq_false (by decide)
theorem d_257_42 : ((257 : Int32) = 42) = False := eq_false (by decide)
theorem d_257_43 : ((257 : Int32) = 43) = False := eq_false (by decide)
theorem d_257_45 : ((257 : Int32) = 45) = False := eq_false (by decide)
theorem d_257_47 : ((257 : Int32) = 47) = False := eq_false (by decide)
theorem d_257_60 : ((257 : Int32) = 60) = False := eq_false (by decide)
theorem d_257_61 : ((257 : Int32) = 61) = False := eq_false (by decide)
theorem d_257_62 : ((257 : Int32) = 62) = False := eq_false (by decide)
theorem d_257_256 : ((257 : Int32) = 256) = False := eq_false (by decide)
theorem d_257_258 : ((257 : Int32) = 258) = False := eq_false (by decide)
theorem d_258_11 : ((258 : Int32) = 11) = False := eq_false (by decide)
theorem d_258_42 : ((258 : Int32) = 42) = False := eq_false (by decide)
theorem d_258_43 : ((258 : Int32) = 43) = False := eq_false (by decide)
theorem d_258_45 : ((258 : Int32) = 45) = False := eq_false (by decide)
theorem d_258_47 : ((258 : Int32) = 47) = False := eq_false (by decide)
theorem d_258_60 : ((258 : Int32) = 60) = False := eq_false (by decide)
theorem d_258_61 : ((258 : Int32) = 61) = False := eq_false (by decide)
theorem d_258_62 : ((258 : Int32) = 62) = False := eq_false (by decide)
theorem d_258_256 : ((258 : Int32) = 256) = False := eq_false (by decide)
theorem d_258_257 : ((258 : Int32) = 257) = False := eq_false (by decide)
theorem c_is (y : Int32) (M : Mem) : f_X18_is y M = some (if y = 0 then 0 else 1) := rfl
theorem node2 {S : TS} {M : Mem} {p a b m n : Nat} {w : Int32} (h53 : tI S 0 53 = 0 ∨ tI S 0 53 = 1) (hm : m ≤ 64) (hm0 : 0 < m) (hn : n < 64) (hn0 : 0 < n) (hp : mT M p = 13) (ha : mR M p 0 = some a) (hb : mR M p 2 = some b)
    (t20 : tI S 20 n = w) (t21 : tI S 21 n = Int32.ofNat (m - 1)) (t22 : tI S 22 n = Int32.ofNat (n - 1))
    (hw : (mI M p 1 = 43 ∧ w = 11) ∨ (mI M p 1 = 45 ∧ w = 12) ∨ (mI M p 1 = 42 ∧ w = 13) ∨ (mI M p 1 = 47 ∧ w = 14) ∨ (mI M p 1 = 60 ∧ w = 5) ∨ (mI M p 1 = 62 ∧ w = 10) ∨ (mI M p 1 = 61 ∧ w = 7) ∨ (mI M p 1 = 256 ∧ w = 6) ∨ (mI M p 1 = 257 ∧ w = 9) ∨ (mI M p 1 = 258 ∧ w = 8) ∨ (mI M p 1 = 11 ∧ w = 3) ∨ (mI M p 1 = 10 ∧ w = 4)) :
    ev (tw_valueOf (Int32.ofNat n) S) fun q => ∃ X, (∀ rec : Nat → Nat → Mem → Option (Option Int64), rec a 11 M = some (some (tL S 26 (m - 1))) → rec b 11 M = some (some (tL S 26 (n - 1))) → f_X18_of rec p 11 M = X) ∧ Out S q.2 q.1 X := by
  have i1 : inb (Int32.ofNat n) 128 = True := i_inb (by omega) (by omega)
  have i2 : inb (Int32.ofNat (m - 1)) 64 = True := i_inb (by omega) (by omega)
  have i3 : inb (Int32.ofNat (n - 1)) 64 = True := i_inb (by omega) (by omega)
  have n1 : (Int32.ofNat n).toNatClampNeg = n := i_toN (by omega)
  have n2 : (Int32.ofNat (m - 1)).toNatClampNeg = m - 1 := i_toN (by omega)
  have n3 : (Int32.ofNat (n - 1)).toNatClampNeg = n - 1 := i_toN (by omega)
  unfold tw_valueOf
  generalize hx : tL S 26 (m - 1) = x
  generalize hy : tL S 26 (n - 1) = y
  rcases hw with ⟨e1, rfl⟩ | ⟨e1, rfl⟩ | ⟨e1, rfl⟩ | ⟨e1, rfl⟩ | ⟨e1, rfl⟩ | ⟨e1, rfl⟩ | ⟨e1, rfl⟩ | ⟨e1, rfl⟩ | ⟨e1, rfl⟩ | ⟨e1, rfl⟩ | ⟨e1, rfl⟩ | ⟨e1, rfl⟩
  all_goals simp only [d_3_0, d_3_1, d_3_2, d_3_4, d_3_5, d_3_6, d_3_7, d_3_8, d_3_9, d_3_10, d_3_11, d_3_12, d_3_13, d_3_14, d_4_0, d_4_1, d_4_2, d_4_3, d_4_5, d_4_6, d_4_7, d_4_8, d_4_9, d_4_10, d_4_11, d_4_12, d_4_13, d_4_14, d_5_0, d_5_1, d_5_2, d_5_3, d_5_4, d_5_6, d_5_7, d_5_8, d_5_9, d_5_10, d_5_11, d_5_12, d_5_13, d_5_14, d_6_0, d_6_1, d_6_2, d_6_3, d_6_4, d_6_5, d_6_7, d_6_8, d_6_9, d_6_10, d_6_11, d_6_12, d_6_13, d_6_14, d_7_0, d_7_1, d_7_2, d_7_3, d_7_4, d_7_5, d_7_6, d_7_8, d_7_9, d_7_10, d_7_11, d_7_12, d_7_13, d_7_14, d_8_0, d_8_1, d_8_2, d_8_3, d_8_4, d_8_5, d_8_6, d_8_7, d_8_9, d_8_10, d_8_11, d_8_12, d_8_13, d_8_14, d_9_0, d_9_1, d_9_2, d_9_3, d_9_4, d_9_5, d_9_6, d_9_7, d_9_8, d_9_10, d_9_11, d_9_12, d_9_13, d_9_14, d_10_0, d_10_1, d_10_2, d_10_3, d_10_4, d_10_5, d_10_6, d_10_7, d_10_8, d_10_9, d_10_11, d_10_12, d_10_13, d_10_14, d_11_0, d_11_1, d_11_2, d_11_3, d_11_4, d_11_5, d_11_6, d_11_7, d_11_8, d_11_9, d_11_10, d_11_12, d_11_13, d_11_14, d_12_0, d_12_1, d_12_2, d_12_3, d_12_4, d_12_5, d_12_6, d_12_7, d_12_8, d_12_9, d_12_10, d_12_11, d_12_13, d_12_14, d_13_0, d_13_1, d_13_2, d_13_3, d_13_4, d_13_5, d_13_6, d_13_7, d_13_8, d_13_9, d_13_10, d_13_11, d_13_12, d_13_14, d_14_0, d_14_1, d_14_2, d_14_3, d_14_4, d_14_5, d_14_6, d_14_7, d_14_8, d_14_9, d_14_10, d_14_11, d_14_12, d_14_13, d_10_42, d_10_43, d_10_45, d_10_47, d_10_60, d_10_61, d_10_62, d_10_256, d_10_257, d_10_258, d_11_42, d_11_43, d_11_45, d_11_47, d_11_60, d_11_61, d_11_62, d_11_256, d_11_257, d_11_258, d_42_11, d_42_43, d_42_45, d_42_47, d_42_60, d_42_61, d_42_62, d_42_256, d_42_257, d_42_258, d_43_11, d_43_42, d_43_45, d_43_47, d_43_60, d_43_61, d_43_62, d_43_256, d_43_257, d_43_258, d_45_11, d_45_42, d_45_43, d_45_47, d_45_60, d_45_61, d_45_62, d_45_256, d_45_257, d_45_258, d_47_11, d_47_42, d_47_43, d_47_45, d_47_60, d_47_61, d_47_62, d_47_256, d_47_257, d_47_258, d_60_11, d_60_42, d_60_43, d_60_45, d_60_47, d_60_61, d_60_62, d_60_256, d_60_257, d_60_258, d_61_11, d_61_42, d_61_43, d_61_45, d_61_47, d_61_60, d_61_62, d_61_256, d_61_257, d_61_258, d_62_11, d_62_42, d_62_43, d_62_45, d_62_47, d_62_60, d_62_61, d_62_256, d_62_257, d_62_258, d_256_11, d_256_42, d_256_43, d_256_45, d_256_47, d_256_60, d_256_61, d_256_62, d_256_257, d_256_258, d_257_11, d_257_42, d_257_43, d_257_45, d_257_47, d_257_60, d_257_61, d_257_62, d_257_256, d_257_258, d_258_11, d_258_42, d_258_43, d_258_45, d_258_47, d_258_60, d_258_61, d_258_62, d_258_256, d_258_257, n1, t20, t21, t22, n2, n3, i1, i2, i3, le_1, le_2, le_3, le_4, le_5, le_6, le_7, le_8, le_9, le_10, le_11, le_12, le_13, le_14, le_15, le_16, le_17, le_18, le_19, le_20, le_21, le_22, le_23, le_24, le_25, le_26, le_27, le_28, le_29, le_30, le_31, le_32, le_33, le_34, le_35, le_36, le_37, le_38, le_39, le_40, le_41, le_42, le_43, le_44, le_45, ev_gd, ev_be, ev_bd, ev_bd2, ev_some, true_and, if_true, if_false, hx, hy]
  · refine ev_mono (o_bounded (M := M) h53 _) fun q hq => ⟨_, fun rec h1 h2 => ?_, hq⟩
    unfold f_X18_of gd
    simp only [d_3_0, d_3_1, d_3_2, d_3_4, d_3_5, d_3_6, d_3_7, d_3_8, d_3_9, d_3_10, d_3_11, d_3_12, d_3_13, d_3_14, d_4_0, d_4_1, d_4_2, d_4_3, d_4_5, d_4_6, d_4_7, d_4_8, d_4_9, d_4_10, d_4_11, d_4_12, d_4_13, d_4_14, d_5_0, d_5_1, d_5_2, d_5_3, d_5_4, d_5_6, d_5_7, d_5_8, d_5_9, d_5_10, d_5_11, d_5_12, d_5_13, d_5_14, d_6_0, d_6_1, d_6_2, d_6_3, d_6_4, d_6_5, d_6_7, d_6_8, d_6_9, d_6_10, d_6_11, d_6_12, d_6_13, d_6_14, d_7_0, d_7_1, d_7_2, d_7_3, d_7_4, d_7_5, d_7_6, d_7_8, d_7_9, d_7_10, d_7_11, d_7_12, d_7_13, d_7_14, d_8_0, d_8_1, d_8_2, d_8_3, d_8_4, d_8_5, d_8_6, d_8_7, d_8_9, d_8_10, d_8_11, d_8_12, d_8_13, d_8_14, d_9_0, d_9_1, d_9_2, d_9_3, d_9_4, d_9_5, d_9_6, d_9_7, d_9_8, d_9_10, d_9_11, d_9_12, d_9_13, d_9_14, d_10_0, d_10_1, d_10_2, d_10_3, d_10_4, d_10_5, d_10_6, d_10_7, d_10_8, d_10_9, d_10_11, d_10_12, d_10_13, d_10_14, d_11_0, d_11_1, d_11_2, d_11_3, d_11_4, d_11_5, d_11_6, d_11_7, d_11_8, d_11_9, d_11_10, d_11_12, d_11_13, d_11_14, d_12_0, d_12_1, d_12_2, d_12_3, d_12_4, d_12_5, d_12_6, d_12_7, d_12_8, d_12_9, d_12_10, d_12_11, d_12_13, d_12_14, d_13_0, d_13_1, d_13_2, d_13_3, d_13_4, d_13_5, d_13_6, d_13_7, d_13_8, d_13_9, d_13_10, d_13_11, d_13_12, d_13_14, d_14_0, d_14_1, d_14_2, d_14_3, d_14_4, d_14_5, d_14_6, d_14_7, d_14_8, d_14_9, d_14_10, d_14_11, d_14_12, d_14_13, d_10_42, d_10_43, d_10_45, d_10_47, d_10_60, d_10_61, d_10_62, d_10_256, d_10_257, d_10_258, d_11_42, d_11_43, d_11_45, d_11_47, d_11_60, d_11_61, d_11_62, d_11_256, d_11_257, d_11_258, d_42_11, d_42_43, d_42_45, d_42_47, d_42_60, d_42_61, d_42_62, d_42_256, d_42_257, d_42_258, d_43_11, d_43_42, d_43_45, d_43_47, d_43_60, d_43_61, d_43_62, d_43_256, d_43_257, d_43_258, d_45_11, d_45_42, d_45_43, d_45_47, d_45_60, d_45_61, d_45_62, d_45_256, d_45_257, d_45_258, d_47_11, d_47_42, d_47_43, d_47_45, d_47_60, d_47_61, d_47_62, d_47_256, d_47_257, d_47_258, d_60_11, d_60_42, d_60_43, d_60_45, d_60_47, d_60_61, d_60_62, d_60_256, d_60_257, d_60_258, d_61_11, d_61_42, d_61_43, d_61_45, d_61_47, d_61_60, d_61_62, d_61_256, d_61_257, d_61_258, d_62_11, d_62_42, d_62_43, d_62_45, d_62_47, d_62_60, d_62_61, d_62_256, d_62_257, d_62_258, d_256_11, d_256_42, d_256_43, d_256_45, d_256_47, d_256_60, d_256_61, d_256_62, d_256_257, d_256_258, d_257_11, d_257_42, d_257_43, d_257_45, d_257_47, d_257_60, d_257_61, d_257_62, d_257_256, d_257_258, d_258_11, d_258_42, d_258_43, d_258_45, d_258_47, d_258_60, d_258_61, d_258_62, d_258_256, d_258_257, hp, ha, hb, bd, h1, h2, btp_s, e1, if_true, if_false]
    cases f_X1_sure (x + y) M with
    | none => rfl
    | some r => cases r <;> rfl
  · refine ev_mono (o_bounded (M := M) h53 _) fun q hq => ⟨_, fun rec h1 h2 => ?_, hq⟩
    unfold f_X18_of gd
    simp only [d_3_0, d_3_1, d_3_2, d_3_4, d_3_5, d_3_6, d_3_7, d_3_8, d_3_9, d_3_10, d_3_11, d_3_12, d_3_13, d_3_14, d_4_0, d_4_1, d_4_2, d_4_3, d_4_5, d_4_6, d_4_7, d_4_8, d_4_9, d_4_10, d_4_11, d_4_12, d_4_13, d_4_14, d_5_0, d_5_1, d_5_2, d_5_3, d_5_4, d_5_6, d_5_7, d_5_8, d_5_9, d_5_10, d_5_11, d_5_12, d_5_13, d_5_14, d_6_0, d_6_1, d_6_2, d_6_3, d_6_4, d_6_5, d_6_7, d_6_8, d_6_9, d_6_10, d_6_11, d_6_12, d_6_13, d_6_14, d_7_0, d_7_1, d_7_2, d_7_3, d_7_4, d_7_5, d_7_6, d_7_8, d_7_9, d_7_10, d_7_11, d_7_12, d_7_13, d_7_14, d_8_0, d_8_1, d_8_2, d_8_3, d_8_4, d_8_5, d_8_6, d_8_7, d_8_9, d_8_10, d_8_11, d_8_12, d_8_13, d_8_14, d_9_0, d_9_1, d_9_2, d_9_3, d_9_4, d_9_5, d_9_6, d_9_7, d_9_8, d_9_10, d_9_11, d_9_12, d_9_13, d_9_14, d_10_0, d_10_1, d_10_2, d_10_3, d_10_4, d_10_5, d_10_6, d_10_7, d_10_8, d_10_9, d_10_11, d_10_12, d_10_13, d_10_14, d_11_0, d_11_1, d_11_2, d_11_3, d_11_4, d_11_5, d_11_6, d_11_7, d_11_8, d_11_9, d_11_10, d_11_12, d_11_13, d_11_14, d_12_0, d_12_1, d_12_2, d_12_3, d_12_4, d_12_5, d_12_6, d_12_7, d_12_8, d_12_9, d_12_10, d_12_11, d_12_13, d_12_14, d_13_0, d_13_1, d_13_2, d_13_3, d_13_4, d_13_5, d_13_6, d_13_7, d_13_8, d_13_9, d_13_10, d_13_11, d_13_12, d_13_14, d_14_0, d_14_1, d_14_2, d_14_3, d_14_4, d_14_5, d_14_6, d_14_7, d_14_8, d_14_9, d_14_10, d_14_11, d_14_12, d_14_13, d_10_42, d_10_43, d_10_45, d_10_47, d_10_60, d_10_61, d_10_62, d_10_256, d_10_257, d_10_258, d_11_42, d_11_43, d_11_45, d_11_47, d_11_60, d_11_61, d_11_62, d_11_256, d_11_257, d_11_258, d_42_11, d_42_43, d_42_45, d_42_47, d_42_60, d_42_61, d_42_62, d_42_256, d_42_257, d_42_258, d_43_11, d_43_42, d_43_45, d_43_47, d_43_60, d_43_61, d_43_62, d_43_256, d_43_257, d_43_258, d_45_11, d_45_42, d_45_43, d_45_47, d_45_60, d_45_61, d_45_62, d_45_256, d_45_257, d_45_258, d_47_11, d_47_42, d_47_43, d_47_45, d_47_60, d_47_61, d_47_62, d_47_256, d_47_257, d_47_258, d_60_11, d_60_42, d_60_43, d_60_45, d_60_47, d_60_61, d_60_62, d_60_256, d_60_257, d_60_258, d_61_11, d_61_42, d_61_43, d_61_45, d_61_47, d_61_60, d_61_62, d_61_256, d_61_257, d_61_258, d_62_11, d_62_42, d_62_43, d_62_45, d_62_47, d_62_60, d_62_61, d_62_256, d_62_257, d_62_258, d_256_11, d_256_42, d_256_43, d_256_45, d_256_47, d_256_60, d_256_61, d_256_62, d_256_257, d_256_258, d_257_11, d_257_42, d_257_43, d_257_45, d_257_47, d_257_60, d_257_61, d_257_62, d_257_256, d_257_258, d_258_11, d_258_42, d_258_43, d_258_45, d_258_47, d_258_60, d_258_61, d_258_62, d_258_256, d_258_257, hp, ha, hb, bd, h1, h2, btp_s, e1, if_true, if_false]
    cases f_X1_sure (x - y) M with
    | none => rfl
    | some r => cases r <;> rfl
  · refine ev_mono (o_times (M := M) h53 _ _) fun q hq => ⟨_, fun rec h1 h2 => ?_, hq⟩
    unfold f_X18_of gd
    simp only [d_3_0, d_3_1, d_3_2, d_3_4, d_3_5, d_3_6, d_3_7, d_3_8, d_3_9, d_3_10, d_3_11, d_3_12, d_3_13, d_3_14, d_4_0, d_4_1, d_4_2, d_4_3, d_4_5, d_4_6, d_4_7, d_4_8, d_4_9, d_4_10, d_4_11, d_4_12, d_4_13, d_4_14, d_5_0, d_5_1, d_5_2, d_5_3, d_5_4, d_5_6, d_5_7, d_5_8, d_5_9, d_5_10, d_5_11, d_5_12, d_5_13, d_5_14, d_6_0, d_6_1, d_6_2, d_6_3, d_6_4, d_6_5, d_6_7, d_6_8, d_6_9, d_6_10, d_6_11, d_6_12, d_6_13, d_6_14, d_7_0, d_7_1, d_7_2, d_7_3, d_7_4, d_7_5, d_7_6, d_7_8, d_7_9, d_7_10, d_7_11, d_7_12, d_7_13, d_7_14, d_8_0, d_8_1, d_8_2, d_8_3, d_8_4, d_8_5, d_8_6, d_8_7, d_8_9, d_8_10, d_8_11, d_8_12, d_8_13, d_8_14, d_9_0, d_9_1, d_9_2, d_9_3, d_9_4, d_9_5, d_9_6, d_9_7, d_9_8, d_9_10, d_9_11, d_9_12, d_9_13, d_9_14, d_10_0, d_10_1, d_10_2, d_10_3, d_10_4, d_10_5, d_10_6, d_10_7, d_10_8, d_10_9, d_10_11, d_10_12, d_10_13, d_10_14, d_11_0, d_11_1, d_11_2, d_11_3, d_11_4, d_11_5, d_11_6, d_11_7, d_11_8, d_11_9, d_11_10, d_11_12, d_11_13, d_11_14, d_12_0, d_12_1, d_12_2, d_12_3, d_12_4, d_12_5, d_12_6, d_12_7, d_12_8, d_12_9, d_12_10, d_12_11, d_12_13, d_12_14, d_13_0, d_13_1, d_13_2, d_13_3, d_13_4, d_13_5, d_13_6, d_13_7, d_13_8, d_13_9, d_13_10, d_13_11, d_13_12, d_13_14, d_14_0, d_14_1, d_14_2, d_14_3, d_14_4, d_14_5, d_14_6, d_14_7, d_14_8, d_14_9, d_14_10, d_14_11, d_14_12, d_14_13, d_10_42, d_10_43, d_10_45, d_10_47, d_10_60, d_10_61, d_10_62, d_10_256, d_10_257, d_10_258, d_11_42, d_11_43, d_11_45, d_11_47, d_11_60, d_11_61, d_11_62, d_11_256, d_11_257, d_11_258, d_42_11, d_42_43, d_42_45, d_42_47, d_42_60, d_42_61, d_42_62, d_42_256, d_42_257, d_42_258, d_43_11, d_43_42, d_43_45, d_43_47, d_43_60, d_43_61, d_43_62, d_43_256, d_43_257, d_43_258, d_45_11, d_45_42, d_45_43, d_45_47, d_45_60, d_45_61, d_45_62, d_45_256, d_45_257, d_45_258, d_47_11, d_47_42, d_47_43, d_47_45, d_47_60, d_47_61, d_47_62, d_47_256, d_47_257, d_47_258, d_60_11, d_60_42, d_60_43, d_60_45, d_60_47, d_60_61, d_60_62, d_60_256, d_60_257, d_60_258, d_61_11, d_61_42, d_61_43, d_61_45, d_61_47, d_61_60, d_61_62, d_61_256, d_61_257, d_61_258, d_62_11, d_62_42, d_62_43, d_62_45, d_62_47, d_62_60, d_62_61, d_62_256, d_62_257, d_62_258, d_256_11, d_256_42, d_256_43, d_256_45, d_256_47, d_256_60, d_256_61, d_256_62, d_256_257, d_256_258, d_257_11, d_257_42, d_257_43, d_257_45, d_257_47, d_257_60, d_257_61, d_257_62, d_257_256, d_257_258, d_258_11, d_258_42, d_258_43, d_258_45, d_258_47, d_258_60, d_258_61, d_258_62, d_258_256, d_258_257, hp, ha, hb, bd, h1, h2, btp_s, e1, if_true, if_false]
    cases f_X18_times x y M with
    | none => rfl
    | some r => cases r <;> rfl
  · have hc : ∀ rec : Nat → Nat → Mem → Option (Option Int64), rec a 11 M = some (some x) → rec b 11 M = some (some y) → f_X18_of rec p 11 M = if lg_cmp y 0 = 0 then some none else some (some (x / y)) := by
      intro rec h1 h2
      unfold f_X18_of gd
      simp only [d_3_0, d_3_1, d_3_2, d_3_4, d_3_5, d_3_6, d_3_7, d_3_8, d_3_9, d_3_10, d_3_11, d_3_12, d_3_13, d_3_14, d_4_0, d_4_1, d_4_2, d_4_3, d_4_5, d_4_6, d_4_7, d_4_8, d_4_9, d_4_10, d_4_11, d_4_12, d_4_13, d_4_14, d_5_0, d_5_1, d_5_2, d_5_3, d_5_4, d_5_6, d_5_7, d_5_8, d_5_9, d_5_10, d_5_11, d_5_12, d_5_13, d_5_14, d_6_0, d_6_1, d_6_2, d_6_3, d_6_4, d_6_5, d_6_7, d_6_8, d_6_9, d_6_10, d_6_11, d_6_12, d_6_13, d_6_14, d_7_0, d_7_1, d_7_2, d_7_3, d_7_4, d_7_5, d_7_6, d_7_8, d_7_9, d_7_10, d_7_11, d_7_12, d_7_13, d_7_14, d_8_0, d_8_1, d_8_2, d_8_3, d_8_4, d_8_5, d_8_6, d_8_7, d_8_9, d_8_10, d_8_11, d_8_12, d_8_13, d_8_14, d_9_0, d_9_1, d_9_2, d_9_3, d_9_4, d_9_5, d_9_6, d_9_7, d_9_8, d_9_10, d_9_11, d_9_12, d_9_13, d_9_14, d_10_0, d_10_1, d_10_2, d_10_3, d_10_4, d_10_5, d_10_6, d_10_7, d_10_8, d_10_9, d_10_11, d_10_12, d_10_13, d_10_14, d_11_0, d_11_1, d_11_2, d_11_3, d_11_4, d_11_5, d_11_6, d_11_7, d_11_8, d_11_9, d_11_10, d_11_12, d_11_13, d_11_14, d_12_0, d_12_1, d_12_2, d_12_3, d_12_4, d_12_5, d_12_6, d_12_7, d_12_8, d_12_9, d_12_10, d_12_11, d_12_13, d_12_14, d_13_0, d_13_1, d_13_2, d_13_3, d_13_4, d_13_5, d_13_6, d_13_7, d_13_8, d_13_9, d_13_10, d_13_11, d_13_12, d_13_14, d_14_0, d_14_1, d_14_2, d_14_3, d_14_4, d_14_5, d_14_6, d_14_7, d_14_8, d_14_9, d_14_10, d_14_11, d_14_12, d_14_13, d_10_42, d_10_43, d_10_45, d_10_47, d_10_60, d_10_61, d_10_62, d_10_256, d_10_257, d_10_258, d_11_42, d_11_43, d_11_45, d_11_47, d_11_60, d_11_61, d_11_62, d_11_256, d_11_257, d_11_258, d_42_11, d_42_43, d_42_45, d_42_47, d_42_60, d_42_61, d_42_62, d_42_256, d_42_257, d_42_258, d_43_11, d_43_42, d_43_45, d_43_47, d_43_60, d_43_61, d_43_62, d_43_256, d_43_257, d_43_258, d_45_11, d_45_42, d_45_43, d_45_47, d_45_60, d_45_61, d_45_62, d_45_256, d_45_257, d_45_258, d_47_11, d_47_42, d_47_43, d_47_45, d_47_60, d_47_61, d_47_62, d_47_256, d_47_257, d_47_258, d_60_11, d_60_42, d_60_43, d_60_45, d_60_47, d_60_61, d_60_62, d_60_256, d_60_257, d_60_258, d_61_11, d_61_42, d_61_43, d_61_45, d_61_47, d_61_60, d_61_62, d_61_256, d_61_257, d_61_258, d_62_11, d_62_42, d_62_43, d_62_45, d_62_47, d_62_60, d_62_61, d_62_256, d_62_257, d_62_258, d_256_11, d_256_42, d_256_43, d_256_45, d_256_47, d_256_60, d_256_61, d_256_62, d_256_257, d_256_258, d_257_11, d_257_42, d_257_43, d_257_45, d_257_47, d_257_60, d_257_61, d_257_62, d_257_256, d_257_258, d_258_11, d_258_42, d_258_43, d_258_45, d_258_47, d_258_60, d_258_61, d_258_62, d_258_256, d_258_257, hp, ha, hb, bd, h1, h2, btp_s, e1, if_true, if_false]
      by_cases h3 : lg_cmp y 0 = 0
      · rw [if_pos h3, if_pos h3]
      · rw [if_neg h3, if_neg h3, if_pos]
        rw [lg_cmp_eq] at h3
        exact h3
    rcases h53 with h5 | h5
    · by_cases h3 : lg_cmp y 0 = 0
      · simp [h5, h3, er53, ev_some]
        refine ⟨_, hc, AgE_ts S 1, Or.inr (er53 S 1), fun _ => er53 S 1, fun _ => Or.inr ⟨?_, er53 S 1⟩⟩
        rw [if_pos h3]
      · have h4 : ¬ y = 0 := by
          rw [lg_cmp_eq] at h3
          exact h3
        simp [h5, h3, er53, ev_some, ev_gd, h4]
        refine ⟨_, hc, AgE_ts S 0, Or.inl (er53 S 0), fun h6 => absurd (h5.symm.trans h6) (by decide), fun _ => Or.inl ⟨?_, er53 S 0⟩⟩
        rw [if_neg h3]
    · simp [h5, er53, ev_some]
      exact ⟨_, hc, AgE_ts S 1, Or.inr (er53 S 1), fun _ => er53 S 1, fun h6 => absurd (h5.symm.trans h6) (by decide)⟩
  all_goals first
    | (unfold tw_compares
       simp only [d_3_0, d_3_1, d_3_2, d_3_4, d_3_5, d_3_6, d_3_7, d_3_8, d_3_9, d_3_10, d_3_11, d_3_12, d_3_13, d_3_14, d_4_0, d_4_1, d_4_2, d_4_3, d_4_5, d_4_6, d_4_7, d_4_8, d_4_9, d_4_10, d_4_11, d_4_12, d_4_13, d_4_14, d_5_0, d_5_1, d_5_2, d_5_3, d_5_4, d_5_6, d_5_7, d_5_8, d_5_9, d_5_10, d_5_11, d_5_12, d_5_13, d_5_14, d_6_0, d_6_1, d_6_2, d_6_3, d_6_4, d_6_5, d_6_7, d_6_8, d_6_9, d_6_10, d_6_11, d_6_12, d_6_13, d_6_14, d_7_0, d_7_1, d_7_2, d_7_3, d_7_4, d_7_5, d_7_6, d_7_8, d_7_9, d_7_10, d_7_11, d_7_12, d_7_13, d_7_14, d_8_0, d_8_1, d_8_2, d_8_3, d_8_4, d_8_5, d_8_6, d_8_7, d_8_9, d_8_10, d_8_11, d_8_12, d_8_13, d_8_14, d_9_0, d_9_1, d_9_2, d_9_3, d_9_4, d_9_5, d_9_6, d_9_7, d_9_8, d_9_10, d_9_11, d_9_12, d_9_13, d_9_14, d_10_0, d_10_1, d_10_2, d_10_3, d_10_4, d_10_5, d_10_6, d_10_7, d_10_8, d_10_9, d_10_11, d_10_12, d_10_13, d_10_14, d_11_0, d_11_1, d_11_2, d_11_3, d_11_4, d_11_5, d_11_6, d_11_7, d_11_8, d_11_9, d_11_10, d_11_12, d_11_13, d_11_14, d_12_0, d_12_1, d_12_2, d_12_3, d_12_4, d_12_5, d_12_6, d_12_7, d_12_8, d_12_9, d_12_10, d_12_11, d_12_13, d_12_14, d_13_0, d_13_1, d_13_2, d_13_3, d_13_4, d_13_5, d_13_6, d_13_7, d_13_8, d_13_9, d_13_10, d_13_11, d_13_12, d_13_14, d_14_0, d_14_1, d_14_2, d_14_3, d_14_4, d_14_5, d_14_6, d_14_7, d_14_8, d_14_9, d_14_10, d_14_11, d_14_12, d_14_13, d_10_42, d_10_43, d_10_45, d_10_47, d_10_60, d_10_61, d_10_62, d_10_256, d_10_257, d_10_258, d_11_42, d_11_43, d_11_45, d_11_47, d_11_60, d_11_61, d_11_62, d_11_256, d_11_257, d_11_258, d_42_11, d_42_43, d_42_45, d_42_47, d_42_60, d_42_61, d_42_62, d_42_256, d_42_257, d_42_258, d_43_11, d_43_42, d_43_45, d_43_47, d_43_60, d_43_61, d_43_62, d_43_256, d_43_257, d_43_258, d_45_11, d_45_42, d_45_43, d_45_47, d_45_60, d_45_61, d_45_62, d_45_256, d_45_257, d_45_258, d_47_11, d_47_42, d_47_43, d_47_45, d_47_60, d_47_61, d_47_62, d_47_256, d_47_257, d_47_258, d_60_11, d_60_42, d_60_43, d_60_45, d_60_47, d_60_61, d_60_62, d_60_256, d_60_257, d_60_258, d_61_11, d_61_42, d_61_43, d_61_45, d_61_47, d_61_60, d_61_62, d_61_256, d_61_257, d_61_258, d_62_11, d_62_42, d_62_43, d_62_45, d_62_47, d_62_60, d_62_61, d_62_256, d_62_257, d_62_258, d_256_11, d_256_42, d_256_43, d_256_45, d_256_47, d_256_60, d_256_61, d_256_62, d_256_257, d_256_258, d_257_11, d_257_42, d_257_43, d_257_45, d_257_47, d_257_60, d_257_61, d_257_62, d_257_256, d_257_258, d_258_11, d_258_42, d_258_43, d_258_45, d_258_47, d_258_60, d_258_61, d_258_62, d_258_256, d_258_257, ev_be, ev_gd, ev_some, if_true, if_false]
       refine ⟨?_, _, fun rec h1 h2 => ?_, Out_same h53 rfl⟩
       · split <;> simp
       · unfold f_X18_of gd
         simp only [d_3_0, d_3_1, d_3_2, d_3_4, d_3_5, d_3_6, d_3_7, d_3_8, d_3_9, d_3_10, d_3_11, d_3_12, d_3_13, d_3_14, d_4_0, d_4_1, d_4_2, d_4_3, d_4_5, d_4_6, d_4_7, d_4_8, d_4_9, d_4_10, d_4_11, d_4_12, d_4_13, d_4_14, d_5_0, d_5_1, d_5_2, d_5_3, d_5_4, d_5_6, d_5_7, d_5_8, d_5_9, d_5_10, d_5_11, d_5_12, d_5_13, d_5_14, d_6_0, d_6_1, d_6_2, d_6_3, d_6_4, d_6_5, d_6_7, d_6_8, d_6_9, d_6_10, d_6_11, d_6_12, d_6_13, d_6_14, d_7_0, d_7_1, d_7_2, d_7_3, d_7_4, d_7_5, d_7_6, d_7_8, d_7_9, d_7_10, d_7_11, d_7_12, d_7_13, d_7_14, d_8_0, d_8_1, d_8_2, d_8_3, d_8_4, d_8_5, d_8_6, d_8_7, d_8_9, d_8_10, d_8_11, d_8_12, d_8_13, d_8_14, d_9_0, d_9_1, d_9_2, d_9_3, d_9_4, d_9_5, d_9_6, d_9_7, d_9_8, d_9_10, d_9_11, d_9_12, d_9_13, d_9_14, d_10_0, d_10_1, d_10_2, d_10_3, d_10_4, d_10_5, d_10_6, d_10_7, d_10_8, d_10_9, d_10_11, d_10_12, d_10_13, d_10_14, d_11_0, d_11_1, d_11_2, d_11_3, d_11_4, d_11_5, d_11_6, d_11_7, d_11_8, d_11_9, d_11_10, d_11_12, d_11_13, d_11_14, d_12_0, d_12_1, d_12_2, d_12_3, d_12_4, d_12_5, d_12_6, d_12_7, d_12_8, d_12_9, d_12_10, d_12_11, d_12_13, d_12_14, d_13_0, d_13_1, d_13_2, d_13_3, d_13_4, d_13_5, d_13_6, d_13_7, d_13_8, d_13_9, d_13_10, d_13_11, d_13_12, d_13_14, d_14_0, d_14_1, d_14_2, d_14_3, d_14_4, d_14_5, d_14_6, d_14_7, d_14_8, d_14_9, d_14_10, d_14_11, d_14_12, d_14_13, d_10_42, d_10_43, d_10_45, d_10_47, d_10_60, d_10_61, d_10_62, d_10_256, d_10_257, d_10_258, d_11_42, d_11_43, d_11_45, d_11_47, d_11_60, d_11_61, d_11_62, d_11_256, d_11_257, d_11_258, d_42_11, d_42_43, d_42_45, d_42_47, d_42_60, d_42_61, d_42_62, d_42_256, d_42_257, d_42_258, d_43_11, d_43_42, d_43_45, d_43_47, d_43_60, d_43_61, d_43_62, d_43_256, d_43_257, d_43_258, d_45_11, d_45_42, d_45_43, d_45_47, d_45_60, d_45_61, d_45_62, d_45_256, d_45_257, d_45_258, d_47_11, d_47_42, d_47_43, d_47_45, d_47_60, d_47_61, d_47_62, d_47_256, d_47_257, d_47_258, d_60_11, d_60_42, d_60_43, d_60_45, d_60_47, d_60_61, d_60_62, d_60_256, d_60_257, d_60_258, d_61_11, d_61_42, d_61_43, d_61_45, d_61_47, d_61_60, d_61_62, d_61_256, d_61_257, d_61_258, d_62_11, d_62_42, d_62_43, d_62_45, d_62_47, d_62_60, d_62_61, d_62_256, d_62_257, d_62_258, d_256_11, d_256_42, d_256_43, d_256_45, d_256_47, d_256_60, d_256_61, d_256_62, d_256_257, d_256_258, d_257_11, d_257_42, d_257_43, d_257_45, d_257_47, d_257_60, d_257_61, d_257_62, d_257_256, d_257_258, d_258_11, d_258_42, d_258_43, d_258_45, d_258_47, d_258_60, d_258_61, d_258_62, d_258_256, d_258_257, hp, ha, hb, bd, h1, h2, btp_s, e1, if_true, if_false, be, c_is])
    | (refine ⟨_, fun rec h1 h2 => ?_, Out_same h53 rfl⟩
       unfold f_X18_of gd
       simp only [d_3_0, d_3_1, d_3_2, d_3_4, d_3_5, d_3_6, d_3_7, d_3_8, d_3_9, d_3_10, d_3_11, d_3_12, d_3_13, d_3_14, d_4_0, d_4_1, d_4_2, d_4_3, d_4_5, d_4_6, d_4_7, d_4_8, d_4_9, d_4_10, d_4_11, d_4_12, d_4_13, d_4_14, d_5_0, d_5_1, d_5_2, d_5_3, d_5_4, d_5_6, d_5_7, d_5_8, d_5_9, d_5_10, d_5_11, d_5_12, d_5_13, d_5_14, d_6_0, d_6_1, d_6_2, d_6_3, d_6_4, d_6_5, d_6_7, d_6_8, d_6_9, d_6_10, d_6_11, d_6_12, d_6_13, d_6_14, d_7_0, d_7_1, d_7_2, d_7_3, d_7_4, d_7_5, d_7_6, d_7_8, d_7_9, d_7_10, d_7_11, d_7_12, d_7_13, d_7_14, d_8_0, d_8_1, d_8_2, d_8_3, d_8_4, d_8_5, d_8_6, d_8_7, d_8_9, d_8_10, d_8_11, d_8_12, d_8_13, d_8_14, d_9_0, d_9_1, d_9_2, d_9_3, d_9_4, d_9_5, d_9_6, d_9_7, d_9_8, d_9_10, d_9_11, d_9_12, d_9_13, d_9_14, d_10_0, d_10_1, d_10_2, d_10_3, d_10_4, d_10_5, d_10_6, d_10_7, d_10_8, d_10_9, d_10_11, d_10_12, d_10_13, d_10_14, d_11_0, d_11_1, d_11_2, d_11_3, d_11_4, d_11_5, d_11_6, d_11_7, d_11_8, d_11_9, d_11_10, d_11_12, d_11_13, d_11_14, d_12_0, d_12_1, d_12_2, d_12_3, d_12_4, d_12_5, d_12_6, d_12_7, d_12_8, d_12_9, d_12_10, d_12_11, d_12_13, d_12_14, d_13_0, d_13_1, d_13_2, d_13_3, d_13_4, d_13_5, d_13_6, d_13_7, d_13_8, d_13_9, d_13_10, d_13_11, d_13_12, d_13_14, d_14_0, d_14_1, d_14_2, d_14_3, d_14_4, d_14_5, d_14_6, d_14_7, d_14_8, d_14_9, d_14_10, d_14_11, d_14_12, d_14_13, d_10_42, d_10_43, d_10_45, d_10_47, d_10_60, d_10_61, d_10_62, d_10_256, d_10_257, d_10_258, d_11_42, d_11_43, d_11_45, d_11_47, d_11_60, d_11_61, d_11_62, d_11_256, d_11_257, d_11_258, d_42_11, d_42_43, d_42_45, d_42_47, d_42_60, d_42_61, d_42_62, d_42_256, d_42_257, d_42_258, d_43_11, d_43_42, d_43_45, d_43_47, d_43_60, d_43_61, d_43_62, d_43_256, d_43_257, d_43_258, d_45_11, d_45_42, d_45_43, d_45_47, d_45_60, d_45_61, d_45_62, d_45_256, d_45_257, d_45_258, d_47_11, d_47_42, d_47_43, d_47_45, d_47_60, d_47_61, d_47_62, d_47_256, d_47_257, d_47_258, d_60_11, d_60_42, d_60_43, d_60_45, d_60_47, d_60_61, d_60_62, d_60_256, d_60_257, d_60_258, d_61_11, d_61_42, d_61_43, d_61_45, d_61_47, d_61_60, d_61_62, d_61_256, d_61_257, d_61_258, d_62_11, d_62_42, d_62_43, d_62_45, d_62_47, d_62_60, d_62_61, d_62_256, d_62_257, d_62_258, d_256_11, d_256_42, d_256_43, d_256_45, d_256_47, d_256_60, d_256_61, d_256_62, d_256_257, d_256_258, d_257_11, d_257_42, d_257_43, d_257_45, d_257_47, d_257_60, d_257_61, d_257_62, d_257_256, d_257_258, d_258_11, d_258_42, d_258_43, d_258_45, d_258_47, d_258_60, d_258_61, d_258_62, d_258_256, d_258_257, hp, ha, hb, bd, h1, h2, btp_s, e1, if_true, if_false, be, c_is]
       by_cases h3 : lg_cmp x 0 = 0 <;> by_cases h4 : lg_cmp y 0 = 0 <;> simp [h3, h4])
end
