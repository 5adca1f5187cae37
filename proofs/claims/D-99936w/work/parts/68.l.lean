set_option maxRecDepth 100000
section
/-! values stay small -/
def BdV (v : Int64) : Prop := -1000000000000 ≤ v.toInt ∧ v.toInt ≤ 1000000000000
theorem bdV_I {v : Int64} (h : BdI v) : BdV v := by unfold BdI at h; unfold BdV; omega
theorem bdV_0 : BdV 0 := by unfold BdV; decide
theorem bdV_1 : BdV 1 := by unfold BdV; decide
theorem bdV_if {c : Prop} [Decidable c] {x y : Int64} (hx : BdV x) (hy : BdV y) : BdV (if c then x else y) := by
  split
  · exact hx
  · exact hy
theorem bdV_sure {v r : Int64} {M : Mem} (h : f_X1_sure v M = some (some r)) : BdV r := by
  unfold f_X1_sure at h
  split at h
  · cases h
  · rename_i h1
    split at h
    · rename_i h2
      cases h
      rw [lg_cmp_gt, Int64.lt_iff_toInt_lt] at h1
      rw [lg_cmp_ge, Int64.le_iff_toInt_le] at h2
      have e1 : (1000000000000 : Int64).toInt = 1000000000000 := by decide
      have e2 : (-1000000000000 : Int64).toInt = -1000000000000 := by decide
      unfold BdV
      omega
    · cases h
theorem ab64_nat {x : Int64} (h : BdV x) : (ab64 x).toInt = (x.toInt.natAbs : Int) := by
  unfold BdV at h
  unfold ab64
  have h0 : (0 : Int64).toInt = 0 := by decide
  split
  · rename_i h1
    rw [lg_cmp_ge, Int64.le_iff_toInt_le] at h1
    omega
  · rename_i h1
    rw [lg_cmp_ge, Int64.le_iff_toInt_le] at h1
    rw [Int64.toInt_neg, Int.bmod_def]
    omega
theorem bdV_times {x y r : Int64} {M : Mem} (hx : BdV x) (hy : BdV y) (h : f_X18_times x y M = some (some r)) : BdV r := by
  unfold f_X18_times at h
  have ca : ∀ x : Int64, f_J8_abs_2 x M = some (ab64 x) := fun _ => rfl
  have h0 : (0 : Int64).toInt = 0 := by decide
  split at h
  · rename_i h1
    cases h
    rw [lg_cmp_eq] at h1
    subst h1
    rw [Int64.zero_mul]
    exact bdV_0
  · rename_i h1
    simp only [ca, bd, gd, ab64_ne h1, not_false_eq_true, if_true] at h
    split at h
    · rename_i h2
      cases h
      rw [lg_cmp_le, Int64.le_iff_toInt_le, ab64_nat hy, Int64.toInt_div, ab64_nat hx] at h2
      rw [lg_cmp_eq, ← Int64.toInt_inj, h0] at h1
      have e1 : (1000000000000 : Int64).toInt = 1000000000000 := by decide
      rw [e1] at h2
      unfold BdV at *
      have hd : (1000000000000 : Int).tdiv (x.toInt.natAbs : Int) = ((1000000000000 / x.toInt.natAbs : Nat) : Int) := by
        exact (Int.ofNat_tdiv 1000000000000 x.toInt.natAbs).symm
      rw [hd] at h2
      have h3 : 1000000000000 / x.toInt.natAbs ≤ 1000000000000 := Nat.div_le_self _ _
      rw [Int.bmod_def] at h2
      have h4 : y.toInt.natAbs ≤ 1000000000000 / x.toInt.natAbs := by
        generalize 1000000000000 / x.toInt.natAbs = q at h2 h3 ⊢
        omega
      have h5 : x.toInt.natAbs * y.toInt.natAbs ≤ 1000000000000 :=
        Nat.le_trans (Nat.mul_le_mul_left x.toInt.natAbs h4) (Nat.mul_div_le 1000000000000 x.toInt.natAbs)
      rw [← Int.natAbs_mul] at h5
      rw [Int64.toInt_mul, Int.bmod_def]
      omega
    · cases h
theorem bdV_div {x y : Int64} (hx : BdV x) : BdV (x / y) := by
  unfold BdV at *
  rw [Int64.toInt_div]
  have h1 : (x.toInt.tdiv y.toInt).natAbs ≤ x.toInt.natAbs := by
    rw [Int.natAbs_tdiv]
    exact Nat.div_le_self _ _
  rw [Int.bmod_def]
  omega

theorem bdV_of {M : Mem} (hN : NmB M) (h11 : mLn M 11 = 7) : ∀ d p r, pof d p 11 M = some (some r) → BdV r := by
  intro d
  induction d with
  | zero => intro p r h; cases h
  | succ d ih =>
    intro p r h
    rw [pof] at h
    split at h
    · unfold f_X15_of gd at h
      rename_i e
      simp only [e, if_true, bd] at h
      cases h
      exact bdV_I (bdI_of _)
    · split at h
      · obtain ⟨v, h1, h2⟩ := bd_of h
        cases h2
        unfold f_X16_of at h1
        obtain ⟨_, h1⟩ := gd_of h1
        obtain ⟨_, h1⟩ := gd_of h1
        obtain ⟨h2, h1⟩ := gd_of h1
        cases h1
        unfold inb at h2
        rw [h11] at h2
        exact bdV_I (hN _ (by omega))
      · split at h
        · unfold f_X17_of at h
          obtain ⟨_, h⟩ := gd_of h
          obtain ⟨a, _, h⟩ := bd_of h
          cases hr : pof d a 11 M with
          | none => rw [hr] at h; cases h
          | some x =>
            rw [hr] at h
            cases x with
            | none => cases h
            | some v =>
              rw [btp_s] at h
              cases h
              exact bdV_if bdV_1 bdV_0
        · obtain ⟨_, h⟩ := gd_of h
          unfold f_X18_of at h
          obtain ⟨_, h⟩ := gd_of h
          obtain ⟨a, _, h⟩ := bd_of h
          cases hr : pof d a 11 M with
          | none => rw [hr] at h; cases h
          | some x =>
            rw [hr] at h
            cases x with
            | none => cases h
            | some v =>
              rw [btp_s] at h
              obtain ⟨b, _, h⟩ := bd_of h
              cases hs : pof d b 11 M with
              | none => rw [hs] at h; cases h
              | some x =>
                rw [hs] at h
                cases x with
                | none => cases h
                | some w =>
                  rw [btp_s] at h
                  have hv := ih a v hr
                  have hw := ih b w hs
                  by_cases e11 : mI M p 1 = 11
                  · rw [if_pos e11] at h
                    obtain ⟨y, _, h⟩ := be_of h
                    simp only [c_is, bd] at h
                    cases h
                    exact bdV_if bdV_0 bdV_1
                  rw [if_neg e11] at h
                  by_cases e42 : mI M p 1 = 42
                  · rw [if_pos e42] at h
                    cases hq : f_X18_times v w M with
                    | none => rw [hq] at h; cases h
                    | some x => cases x with
                      | none => rw [hq] at h; cases h
                      | some q => rw [hq] at h; cases h; exact bdV_times hv hw hq
                  rw [if_neg e42] at h
                  by_cases e43 : mI M p 1 = 43
                  · rw [if_pos e43] at h
                    cases hq : f_X1_sure (v + w) M with
                    | none => rw [hq] at h; cases h
                    | some x => cases x with
                      | none => rw [hq] at h; cases h
                      | some q => rw [hq] at h; cases h; exact bdV_sure hq
                  rw [if_neg e43] at h
                  by_cases e45 : mI M p 1 = 45
                  · rw [if_pos e45] at h
                    cases hq : f_X1_sure (v - w) M with
                    | none => rw [hq] at h; cases h
                    | some x => cases x with
                      | none => rw [hq] at h; cases h
                      | some q => rw [hq] at h; cases h; exact bdV_sure hq
                  rw [if_neg e45] at h
                  by_cases e47 : mI M p 1 = 47
                  · rw [if_pos e47] at h
                    by_cases e0 : lg_cmp w 0 = 0
                    · rw [if_pos e0] at h; cases h
                    · rw [if_neg e0] at h
                      obtain ⟨_, h⟩ := gd_of h
                      cases h
                      exact bdV_div hv
                  rw [if_neg e47] at h
                  by_cases e60 : mI M p 1 = 60
                  · rw [if_pos e60] at h
                    obtain ⟨y, _, h⟩ := be_of h
                    simp only [c_is, bd] at h
                    cases h
                    exact bdV_if bdV_0 bdV_1
                  rw [if_neg e60] at h
                  by_cases e61 : mI M p 1 = 61
                  · rw [if_pos e61] at h
                    obtain ⟨y, _, h⟩ := be_of h
                    simp only [c_is, bd] at h
                    cases h
                    exact bdV_if bdV_0 bdV_1
                  rw [if_neg e61] at h
                  by_cases e62 : mI M p 1 = 62
                  · rw [if_pos e62] at h
                    obtain ⟨y, _, h⟩ := be_of h
                    simp only [c_is, bd] at h
                    cases h
                    exact bdV_if bdV_0 bdV_1
                  rw [if_neg e62] at h
                  by_cases e256 : mI M p 1 = 256
                  · rw [if_pos e256] at h
                    obtain ⟨y, _, h⟩ := be_of h
                    simp only [c_is, bd] at h
                    cases h
                    exact bdV_if bdV_0 bdV_1
                  rw [if_neg e256] at h
                  by_cases e257 : mI M p 1 = 257
                  · rw [if_pos e257] at h
                    obtain ⟨y, _, h⟩ := be_of h
                    simp only [c_is, bd] at h
                    cases h
                    exact bdV_if bdV_0 bdV_1
                  rw [if_neg e257] at h
                  by_cases e258 : mI M p 1 = 258
                  · rw [if_pos e258] at h
                    obtain ⟨y, _, h⟩ := be_of h
                    simp only [c_is, bd] at h
                    cases h
                    exact bdV_if bdV_0 bdV_1
                  rw [if_neg e258] at h
                  obtain ⟨y, _, h⟩ := be_of h
                  simp only [c_is, bd] at h
                  cases h
                  exact bdV_if bdV_0 bdV_1
end
