set_option maxRecDepth 100000
section
theorem ag_bounded {S : TS} {v : Int64} {q : Int64 × TS} (h : tw_bounded v S = some q) : AgE S q.2 := by
  unfold tw_bounded at h
  obtain ⟨y, _, h⟩ := be_of h
  obtain ⟨_, h⟩ := gd_of h
  obtain ⟨y2, e, h⟩ := be_of h
  obtain ⟨y3, _, h⟩ := be_of h
  cases h
  rw [e]
  exact AgE_ts S y
theorem ag_times {S : TS} {v w : Int64} {q : Int64 × TS} (h : tw_times v w S = some q) : AgE S q.2 := by
  unfold tw_times at h
  obtain ⟨y0, _, h⟩ := bd_of h
  obtain ⟨y, _, h⟩ := be_of h
  obtain ⟨_, h⟩ := gd_of h
  obtain ⟨y2, e, h⟩ := be_of h
  obtain ⟨y3, _, h⟩ := be_of h
  cases h
  rw [e]
  exact AgE_ts S y
theorem ag_value {S : TS} {p : Int32} {q : Int64 × TS} (h : tw_valueOf p S = some q) : AgE S q.2 := by
  unfold tw_valueOf at h
  obtain ⟨_, h⟩ := gd_of h
  generalize tI S 20 (Int32.toNatClampNeg p) = w at h
  by_cases e0 : w = 0
  · rw [if_pos e0] at h
    obtain ⟨_, h⟩ := gd_of h
    cases h
    exact AgE_refl S
  rw [if_neg e0] at h
  obtain ⟨_, h⟩ := gd_of h
  by_cases e1 : w = 1
  · rw [if_pos e1] at h
    obtain ⟨_, h⟩ := gd_of h
    obtain ⟨_, h⟩ := gd_of h
    cases h
    exact AgE_refl S
  rw [if_neg e1] at h
  obtain ⟨_, h⟩ := gd_of h
  obtain ⟨_, h⟩ := gd_of h
  obtain ⟨x, _, h⟩ := be_of h
  obtain ⟨_, h⟩ := gd_of h
  by_cases e2 : w = 2
  · rw [if_pos e2] at h
    obtain ⟨_, _, h⟩ := be_of h
    cases h
    exact AgE_refl S
  rw [if_neg e2] at h
  obtain ⟨_, h⟩ := gd_of h
  obtain ⟨_, h⟩ := gd_of h
  obtain ⟨y, _, h⟩ := be_of h
  obtain ⟨_, h⟩ := gd_of h
  by_cases e3 : w = 3
  · rw [if_pos e3] at h
    obtain ⟨_, _, h⟩ := be_of h
    cases h
    exact AgE_refl S
  rw [if_neg e3] at h
  by_cases e4 : w = 4
  · rw [if_pos e4] at h
    obtain ⟨_, _, h⟩ := be_of h
    cases h
    exact AgE_refl S
  rw [if_neg e4] at h
  by_cases e5 : w = 5
  · rw [if_pos e5] at h
    obtain ⟨_, h⟩ := gd_of h
    obtain ⟨_, _, h⟩ := bd_of h
    obtain ⟨_, _, h⟩ := be_of h
    cases h
    exact AgE_refl S
  rw [if_neg e5] at h
  by_cases e6 : w = 6
  · rw [if_pos e6] at h
    obtain ⟨_, h⟩ := gd_of h
    obtain ⟨_, _, h⟩ := bd_of h
    obtain ⟨_, _, h⟩ := be_of h
    cases h
    exact AgE_refl S
  rw [if_neg e6] at h
  by_cases e7 : w = 7
  · rw [if_pos e7] at h
    obtain ⟨_, h⟩ := gd_of h
    obtain ⟨_, _, h⟩ := bd_of h
    obtain ⟨_, _, h⟩ := be_of h
    cases h
    exact AgE_refl S
  rw [if_neg e7] at h
  by_cases e8 : w = 8
  · rw [if_pos e8] at h
    obtain ⟨_, h⟩ := gd_of h
    obtain ⟨_, _, h⟩ := bd_of h
    obtain ⟨_, _, h⟩ := be_of h
    cases h
    exact AgE_refl S
  rw [if_neg e8] at h
  by_cases e9 : w = 9
  · rw [if_pos e9] at h
    obtain ⟨_, h⟩ := gd_of h
    obtain ⟨_, _, h⟩ := bd_of h
    obtain ⟨_, _, h⟩ := be_of h
    cases h
    exact AgE_refl S
  rw [if_neg e9] at h
  by_cases e10 : w = 10
  · rw [if_pos e10] at h
    obtain ⟨_, h⟩ := gd_of h
    obtain ⟨_, _, h⟩ := bd_of h
    obtain ⟨_, _, h⟩ := be_of h
    cases h
    exact AgE_refl S
  rw [if_neg e10] at h
  by_cases e11 : w = 11
  · rw [if_pos e11] at h
    obtain ⟨_, _, g, h⟩ := bd2_of h
    cases h
    exact ag_bounded g
  rw [if_neg e11] at h
  by_cases e12 : w = 12
  · rw [if_pos e12] at h
    obtain ⟨_, _, g, h⟩ := bd2_of h
    cases h
    exact ag_bounded g
  rw [if_neg e12] at h
  by_cases e13 : w = 13
  · rw [if_pos e13] at h
    obtain ⟨_, _, g, h⟩ := bd2_of h
    cases h
    exact ag_times g
  rw [if_neg e13] at h
  by_cases e14 : w = 14
  · rw [if_pos e14] at h
    obtain ⟨z, _, h⟩ := be_of h
    obtain ⟨_, h⟩ := gd_of h
    obtain ⟨s2, e, h⟩ := be_of h
    obtain ⟨_, _, h⟩ := bd_of h
    cases h
    rw [e]
    exact AgE_ts S z
  rw [if_neg e14] at h
  obtain ⟨_, h⟩ := gd_of h
  obtain ⟨_, _, h⟩ := bd_of h
  obtain ⟨_, _, h⟩ := be_of h
  cases h
  exact AgE_refl S
theorem lp_rn {N0 k hi : Nat} (hk : k < 6) (hh : hi ≤ 64) : ∀ (n i : Nat) (S S2 : TS), i + n = hi → tI S 19 k = Int32.ofNat hi → rn n i S = some S2 → ∀ N, n < N → lp N (fun s : Int32 × TS => tw_lawOf_b1 N0 (Int32.ofNat k) s.1 s.2) (Int32.ofNat i, S) = some (Int32.ofNat hi, S2) := by
  have i1 : inb (Int32.ofNat k) 6 = True := i_inb (by omega) (by omega)
  have i2 : (Int32.ofNat k).toNatClampNeg = k := i_toN (by omega)
  intro n
  induction n with
  | zero =>
    intro i S S2 hi' h19 hr N hN
    cases hr
    obtain ⟨N, rfl⟩ : ∃ m, N = m + 1 := ⟨N - 1, by omega⟩
    rw [Nat.add_zero] at hi'
    subst hi'
    rw [lp]
    have e : tw_lawOf_b1 N0 (Int32.ofNat k) (Int32.ofNat i) S = some (.inl (Int32.ofNat i, S)) := by
      unfold tw_lawOf_b1 gd
      simp only [le_19, i1, i2, if_true, h19]
      rw [if_pos]
      rw [i_le (by omega) (by omega)]
      omega
    rw [e]
  | succ n ih =>
    intro i S S2 hi' h19 hr N hN
    obtain ⟨N, rfl⟩ : ∃ m, N = m + 1 := ⟨N - 1, by omega⟩
    rw [rn_s] at hr
    obtain ⟨r, S', h1, h2⟩ := bd2_of hr
    have ag := ag_value h1
    have i3 : inb (Int32.ofNat i) 64 = True := i_inb (by omega) (by omega)
    have i4 : (Int32.ofNat i).toNatClampNeg = i := i_toN (by omega)
    have e : tw_lawOf_b1 N0 (Int32.ofNat k) (Int32.ofNat i) S = some (.inr (Int32.ofNat (i + 1), tsL S' 26 i r)) := by
      unfold tw_lawOf_b1 gd
      simp only [le_19, i1, i2, if_true, h19]
      rw [if_neg]
      · simp only [h1, bd2, le_26, i3, i4, if_true, be, i_succ]
      · rw [i_le (by omega) (by omega)]
        omega
    rw [lp, e]
    exact ih (i + 1) _ S2 (by omega) (by rw [tI_tsL, ag.1 19 k (by omega)]; exact h19) h2 N (by omega)
variable {M M0 : Mem} {S S0 : TS} {g u nT nH nL c b x : Nat} {z : Int32} {A : Nat → Prop} {F : Prop}
theorem sim_AgV (h : Sim M0 S0 g c b nT nH nL z A F x M S) {S' : TS} {lo hi : Nat} (ag : AgV lo hi S S') : Sim M0 S0 g c b nT nH nL z A F x M S' := by
  have e : S' = (tI S', tL S') := rfl
  have fr : FrT b S S' := ⟨fun j k h1 h2 h3 => ag.1 j k (by omega), fun j k h1 h2 h3 => ag.2 j k (by omega)⟩
  have s := h.si
  refine Sim_wr h FrM_refl fr ?_ (fun hf => ?_) (fun k hk h1 => by rw [ag.1 31 _ (by omega)] at h1; exact h1) (fun _ => ag.2 0 67 (by omega))
  · have t : ∀ j k, 1 ≤ j → tI S' j k = tI S j k := fun j k hj => ag.1 j k (by omega)
    refine ⟨fun k hk => ?_, fun k hk => ?_, fun k hk => ?_, fun k hk hx => ?_, fun k hk => ?_, fun k hk => ?_, fun k hk => ?_, fun k hk => ?_, fun k hk => ?_, fun k hk => ?_, fun k hk h1 => ?_, s.onb, fun k hk => ?_, ?_, ?_, ?_, ?_, ?_, ?_, ?_, ?_, ?_, ?_, fun hz => ?_, s.z01⟩
    · rw [t _ _ (by omega)]; exact s.p k hk
    · rw [t _ _ (by omega)]; exact s.th k hk
    · rw [t _ _ (by omega)]; exact s.go k hk
    · rw [t _ _ (by omega)]; exact s.hu k hk hx
    · rw [t _ _ (by omega)]; exact s.dr k hk
    · rw [t _ _ (by omega)]; exact s.wa k hk
    · rw [t _ _ (by omega)]; exact s.pB k hk
    · rw [t _ _ (by omega)]; exact s.gB k hk
    · rw [t _ _ (by omega)]; exact s.tB k hk
    · rw [t _ _ (by omega)]; exact s.wB k hk
    · rw [t _ _ (by omega), t _ _ (by omega)]; exact s.tA k hk h1
    · rw [t _ _ (by omega)]; exact s.onv k hk
    · rw [t _ _ (by omega)]; exact s.hour
    · rw [t _ _ (by omega)]; exact s.fi
    · rw [t _ _ (by omega)]; exact s.ta
    · rw [t _ _ (by omega)]; exact s.dk
    · rw [t _ _ (by omega)]; exact s.tk
    · rw [t _ _ (by omega)]; exact s.fo
    · rw [ag.1 _ _ (by omega)]; exact s.fast
    · rw [ag.1 _ _ (by omega)]; exact s.noR
    · rw [ag.1 _ _ (by omega)]; exact s.noD
    · rw [ag.1 _ _ (by omega)]; exact s.dw
    · rw [ag.2 _ _ (by omega)]; exact s.num hz
  · rw [ag.1 _ _ (by omega)]; exact h.fp hf
theorem AgV_err (S : TS) (v : Int32) : AgV 0 64 S (tsI S 0 53 v) := AgV_E (AgE_ts S v)
/-- a law that is told: the tree's value, or the error -/
theorem r_lawOf {N k : Nat} (tt : TtS M g) (rd : RdR M g S 0 nT nH nL) (hN : 100 ≤ N) (hk : k < 3) (hn : NmE M S) (hb : NmB M) (told : tI S 17 k ≠ 0) :
    ev (tw_lawOf N (Int32.ofNat k) S) fun q => AgV 0 64 S q.2 ∧ ev (f_X1_wk 0 (Int32.ofNat k) M) fun r => (tI q.2 0 53 = 0 ∧ r = q.1 ∧ BdV r) ∨ (tI q.2 0 53 = 1 ∧ r = -9223372036854775808) := by
  have i1 : inb (Int32.ofNat k) 6 = True := i_inb (by omega) (by omega)
  have i0 : inb (Int32.ofNat k) 3 = True := i_inb (by omega) (by omega)
  have i2 : (Int32.ofNat k).toNatClampNeg = k := i_toN (by omega)
  have hl := rd.law k hk
  simp only [Nat.mul_zero, Nat.zero_add] at hl
  rcases hl with ⟨_, h1⟩ | ⟨p, lo, hi, h1, h2, h3, h4, h5, h6⟩
  · exact absurd h1 told
  have hi64 : hi ≤ 64 := by
    unfold Tr at h6
    exact h6.1
  obtain ⟨_, S2, g2, g3, g4⟩ := tev tt.k11 tt.n11 66 p lo hi h6 (tsI S 0 53 0) (fun j k hj => (AgE_ts S 0).1 j k hj) hn (Or.inl (er53 S 0))
  have run := lp_rn (N0 := N) (k := k) (hi := hi) (by omega) hi64 (hi - lo) lo (tsI S 0 53 0) S2 (by omega) (by rw [(AgE_ts S 0).1 19 k (by omega)]; exact h4) g2 N (by omega)
  have k19 : tI S2 19 k = Int32.ofNat hi := by rw [g3.1 19 k (by omega), (AgE_ts S 0).1 19 k (by omega), h4]
  have k18 : tI (tsI S 0 53 0) 18 k = Int32.ofNat lo := by rw [(AgE_ts S 0).1 18 k (by omega), h3]
  have e1 : Int32.ofNat hi - 1 = Int32.ofNat (hi - 1) := by
    rw [← Int32.toInt_inj, Int32.toInt_sub, i_toI (by omega), i_toI (by omega), Int.bmod_def]
    have : (1 : Int32).toInt = 1 := by decide
    omega
  have i3 : inb (Int32.ofNat (hi - 1)) 64 = True := i_inb (by omega) (by omega)
  have i4 : (Int32.ofNat (hi - 1)).toNatClampNeg = hi - 1 := i_toN (by omega)
  have ag : AgV 0 64 S S2 := AgV_trans (AgV_err S 0) g3 (by omega) (by omega) (by omega) (by omega)
  have er := g4.2.2 (er53 S 0)
  unfold tw_lawOf
  simp only [ev_some, ev_none, ev_be, ev_gd, ev_bd, ev_bd2, ev_bd3, ev_bd4, ev_ite, le_18, le_19, le_26, i1, i2, i3, i4, k18, run, k19, e1, true_and, and_true, forall_const, not_true_eq_false, not_false_eq_true, false_implies, ne_eq, implies_true, true_implies, ev_some]
  have wk : ∀ x, pof 66 p 11 M = some x → f_X1_wk 0 (Int32.ofNat k) M = some (match x with
      | some v => v
      | none => -9223372036854775808) := by
    intro x hx
    unfold f_X1_wk f_X1_work gd
    simp only [tt.k, tt.r6, rd.k, rd.r3, rd.wk, rd.wn, i0, i2, h1, tt.r7, bd, if_true, hx]
    cases x <;> rfl
  rcases er with ⟨x1, x2⟩ | ⟨x1, x2⟩
  · simp only [x2, ev_eq (wk _ x1), true_and, and_true, forall_const, not_true_eq_false, not_false_eq_true, false_implies, ne_eq, implies_true, true_implies, ev_some, ev_some, ev_none, ev_be, ev_gd, ev_bd, ev_bd2, ev_bd3, ev_bd4, ev_ite]
    exact ⟨ag, by first | exact Or.inl (bdV_of hb tt.n11 _ _ _ x1) | exact bdV_of hb tt.n11 _ _ _ x1⟩
  · have d10 : ((1 : Int32) = 0) = False := eq_false (by decide)
    simp only [x2, ev_eq (wk _ x1), true_and, and_true, forall_const, not_true_eq_false, not_false_eq_true, false_implies, ne_eq, implies_true, true_implies, ev_some, ev_some, ev_none, ev_be, ev_gd, ev_bd, ev_bd2, ev_bd3, ev_bd4, ev_ite, d10]
    exact ⟨ag, by first | exact Or.inr trivial | trivial⟩
theorem within_ok {v : Int64} {d : Int32} {M : Mem} (y3 : BdV v) : ∃ x, f_X1_within v 0 99 d M = some x ∧ (if 0 ≤ lg_cmp v 0 then (if lg_cmp v 99 ≤ 0 then v.toInt32 else 99) else 0) = x ∧ In x 0 99 := by
  unfold BdV at y3
  have hne : ¬ lg_cmp v (-9223372036854775808) = 0 := by
    rw [lg_cmp_eq]
    intro e
    subst e
    have : (-9223372036854775808 : Int64).toInt = -9223372036854775808 := by decide
    omega
  have e0 : (0 : Int64).toInt = 0 := by decide
  have e9 : (99 : Int64).toInt = 99 := by decide
  have c0 : Int32.toInt64 0 = 0 := by decide
  have c9 : Int32.toInt64 99 = 99 := by decide
  have c1 : ∀ x y : Int64, f_J8_min_2 x y M = some (if 0 < lg_cmp x y then y else x) := fun _ _ => rfl
  have c2 : ∀ x y : Int64, f_J8_max_2 x y M = some (if lg_cmp x y < 0 then y else x) := fun _ _ => rfl
  show ev (f_X1_within v 0 99 d M) fun x => (if 0 ≤ lg_cmp v 0 then (if lg_cmp v 99 ≤ 0 then v.toInt32 else 99) else 0) = x ∧ In x 0 99
  unfold f_X1_within
  simp only [if_neg hne, c1, c2, ev_bd, ev_some, c0, c9]
  by_cases h1 : 0 ≤ v.toInt
  · have g1 : 0 ≤ lg_cmp v 0 := by
      rw [lg_cmp_ge, Int64.le_iff_toInt_le]
      omega
    by_cases h2 : v.toInt ≤ 99
    · have g2 : lg_cmp v 99 ≤ 0 := by
        rw [lg_cmp_le, Int64.le_iff_toInt_le]
        omega
      have hm : (if 0 < lg_cmp 99 v then v else 99) = v := by
        split
        · rfl
        · rename_i g
          rw [lg_cmp_gt, Int64.lt_iff_toInt_lt] at g
          rw [← Int64.toInt_inj]
          omega
      have hx : (if lg_cmp 0 v < 0 then v else 0) = v := by
        split
        · rfl
        · rename_i g
          rw [lg_cmp_lt, Int64.lt_iff_toInt_lt] at g
          rw [← Int64.toInt_inj]
          omega
      refine ⟨?_, ?_⟩
      · rw [if_pos g1, if_pos g2, hm, hx]
      · rw [hm, hx]
        unfold In
        rw [Int64.toInt_toInt32, Int.bmod_def]
        omega
    · have g2 : ¬ lg_cmp v 99 ≤ 0 := by
        rw [lg_cmp_le, Int64.le_iff_toInt_le]
        omega
      have hm : (if 0 < lg_cmp 99 v then v else 99) = 99 := by
        rw [if_neg]
        rw [lg_cmp_gt, Int64.lt_iff_toInt_lt]
        omega
      refine ⟨?_, ?_⟩
      · rw [if_pos g1, if_neg g2, hm]
        decide
      · rw [hm]
        unfold In
        decide
  · have g1 : ¬ 0 ≤ lg_cmp v 0 := by
      rw [lg_cmp_ge, Int64.le_iff_toInt_le]
      omega
    have hm : (if 0 < lg_cmp 99 v then v else 99) = v := by
      rw [if_pos]
      rw [lg_cmp_gt, Int64.lt_iff_toInt_lt]
      omega
    have hx : (if lg_cmp 0 v < 0 then v else 0) = 0 := by
      rw [if_neg]
      rw [lg_cmp_lt, Int64.lt_iff_toInt_lt]
      omega
    refine ⟨?_, ?_⟩
    · rw [if_neg g1, hm, hx]
      decide
    · rw [hm, hx]
      unfold In
      decide
/-- a law by a horse's names, between 0 and 99 -/
theorem r_by (h : Sim M0 S0 g c b nT nH nL z A F x M S) {N k w : Nat} {d : Int32} (hN : 100 ≤ N) (hk : k < 3) (hw : w < nH) (hx : w ≠ x) :
    ev (f_X5_by N 12 c (Int32.ofNat w) (Int32.ofNat k) d M) fun q => ev (tw_boundLaw N (Int32.ofNat b) (Int32.ofNat k) (Int32.ofNat w) d S) fun q' => q'.1 = q.1 ∧ (q.1 = d ∨ In q.1 0 99) ∧ Sim M0 S0 g c b nT nH nL z A F x q.2 q'.2 ∧ mI q.2 = mI M ∧ ∀ j x, ¬ (j = 0 ∧ x = 53) → tI q'.2 j x = tI S j x := by
  have i1 : inb (Int32.ofNat k) 6 = True := i_inb (by omega) (by omega)
  have i0 : inb (Int32.ofNat k) 3 = True := i_inb (by omega) (by omega)
  have i2 : (Int32.ofNat k).toNatClampNeg = k := i_toN (by omega)
  obtain ⟨M', m1, S', m2, m3, m4, m5, m6, m7, m8⟩ := r_name h hN hw hx
  unfold f_X5_by tw_boundLaw
  have q12 : mR M' 12 1 = some 0 := m5.tt.q121
  simp only [ev_some, ev_none, ev_be, ev_gd, ev_bd, ev_bd2, ev_bd3, ev_bd4, ev_ite, h.st.k, m1, m5.tt.k12, q12, m5.tt.k, le_17, i1, i2, true_and, and_true, forall_const, not_true_eq_false, not_false_eq_true, false_implies, ne_eq, implies_true, true_implies, ev_some]
  have hl := h.rd.law k hk
  simp only [Nat.mul_zero, Nat.zero_add] at hl
  by_cases told : tI S 17 k = 0
  · have wk : f_X1_wk 0 (Int32.ofNat k) M' = some (-9223372036854775808) := by
      rcases (show mR M' (wlA M' g) k = none by
        have hl' := m5.rd.law k hk
        simp only [Nat.mul_zero, Nat.zero_add] at hl'
        rcases hl' with ⟨x1, _⟩ | ⟨p, lo, hi, _, x2, _⟩
        · exact x1
        · rw [told] at x2
          exact absurd x2 (by decide)) with x1
      unfold f_X1_wk f_X1_work gd
      simp only [m5.tt.k, m5.tt.r6, m5.rd.k, m5.rd.r3, m5.rd.wk, m5.rd.wn, i0, i2, x1, bd, if_true]
    have wi : f_X1_within (-9223372036854775808) 0 99 d M' = some d := by
      unfold f_X1_within
      rw [if_pos (by decide)]
      rfl
    simp only [told, ev_eq wk, ev_eq wi, true_and, and_true, forall_const, not_true_eq_false, not_false_eq_true, false_implies, ne_eq, implies_true, true_implies, ev_some]
    exact ⟨Or.inl trivial, m5, m7⟩
  · have told' : tI S' 17 k ≠ 0 := by rw [m8]; exact told
    obtain ⟨⟨r, S2⟩, o1, o2, v, o3, o4⟩ := r_lawOf m6.tt m6.rd hN hk m4 m3 told'
    simp only [told, m2, ev_some, o1, o3, true_and, and_true, forall_const, not_true_eq_false, not_false_eq_true, false_implies, ne_eq, implies_true, true_implies, ev_some, if_false]
    have fin := sim_AgV m6 o2
    have ts : ∀ j x, ¬ (j = 0 ∧ x = 53) → tI S2 j x = tI S j x := fun j x hx => by rw [o2.1 j x hx, m8]
    rcases o4 with ⟨y1, y2, y3⟩ | ⟨y1, y2⟩
    · have y1' : tI S2 0 53 = 0 := y1
      subst y2
      have wi := within_ok (d := d) (M := M') y3
      obtain ⟨x, w1, w2, w3⟩ := wi
      simp only [y1', ev_eq w1, true_and, and_true, forall_const, not_true_eq_false, not_false_eq_true, false_implies, ne_eq, implies_true, true_implies, ev_some]
      exact ⟨w2, Or.inr w3, fin, m7, ts⟩
    · have y1' : tI S2 0 53 = 1 := y1
      subst y2
      have wi : f_X1_within (-9223372036854775808) 0 99 d M' = some d := by
        unfold f_X1_within
        rw [if_pos (by decide)]
        rfl
      have d10 : ((1 : Int32) = 0) = False := eq_false (by decide)
      simp only [y1', d10, ev_eq wi, true_and, and_true, forall_const, not_true_eq_false, not_false_eq_true, false_implies, ne_eq, implies_true, true_implies, ev_some]
      exact ⟨Or.inl trivial, fin, m7, ts⟩
end
