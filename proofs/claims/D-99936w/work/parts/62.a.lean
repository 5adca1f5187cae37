set_option maxRecDepth 100000
section
/-! reading -/
theorem a_size {M : Mem} {l n kk cap : Nat} (h : LsS M l n kk cap) : f_J2_size l M = some (Int32.ofNat n) := by
  unfold f_J2_size gd
  rw [if_pos h.k, h.n]
theorem a_get {M : Mem} {l n kk cap : Nat} (h : LsS M l n kk cap) (hc : cap < 1000) {k : Nat} (hk : k < n) : f_J2_get l (Int32.ofNat k) M = some (itA M l k) := by
  have hn := h.le
  have h0 : ¬ Int32.ofNat k < 0 := by
    rw [show (0 : Int32) = Int32.ofNat 0 from rfl, i_lt (by omega) (by omega)]
    omega
  have h1 : Int32.ofNat k < Int32.ofNat n := by
    rw [i_lt (by omega) (by omega)]
    exact hk
  unfold f_J2_get f_J3_checkIndex f_J4_checkIndex f_J2_elementData gd
  simp only [h.k, h.n, h.r, h.e, h.ln, if_neg h0, if_pos h1, bd, if_true, i_inb (show k < cap by omega) (by omega), i_toN (show k < 2147483648 by omega), h.it k hk]
theorem a_find {N : Nat} {M : Mem} {S : TS} {l n kk cap j q : Nat} (h : LsS M l n kk cap) (hc : cap < 1000) (hkk : kk = 7 ∨ kk = 8) (hv : ∀ k, k < n → mI M (itA M l k) 1 = tI S j (q + k)) (hj : tyA j = 0) (hq : q + n ≤ lenA j) (hl : lenA j < 1000) (hN : 100 ≤ N) (hn : n < 50) (p : Int32) :
    ev (f_X9_find N l p M) fun r => ev (tw_find N j (Int32.ofNat q) (Int32.ofNat n) p S) fun r' => r' = r ∧ (r = -1 ∨ ∃ k, k < n ∧ r = Int32.ofNat k ∧ tI S j (q + k) = p) := by
  unfold f_X9_find tw_find
  rw [ev_bx]
  have key := lp_rel (f := fun s : Int32 => f_X9_find_b1 N l p M s) (g := fun s : Int32 => tw_find_b1 N j (Int32.ofNat q) (Int32.ofNat n) p S s) (R := fun r r' => (∃ x y, r = Sum.inl x ∧ r' = Sum.inl y) ∨ ∃ k, k < n ∧ r = Sum.inr (Int32.ofNat k) ∧ r' = Sum.inr (Int32.ofNat k) ∧ tI S j (q + k) = p) (fun m s t => ∃ k, k + m = n ∧ s = Int32.ofNat k ∧ t = Int32.ofNat k) (by
    rintro m s t ⟨k, hm, rfl, rfl⟩
    unfold f_X9_find_b1 tw_find_b1
    have hle := h.le
    simp only [ev_some, ev_none, ev_be, ev_gd, ev_bd, ev_bd2, ev_bd3, ev_bd4, ev_ite, ev_eq (a_size h), h.k, true_and, i_le (show n < 2147483648 by omega) (show k < 2147483648 by omega), hj, i_add]
    refine ⟨fun h1 => ⟨fun _ => Or.inl ⟨_, _, rfl, rfl⟩, fun h2 => absurd h1 h2⟩, fun h1 => ?_⟩
    have hk : k < n := by omega
    simp only [ev_eq (a_get h hc hk), h.ik k hk, hkk, true_and, hv k hk, i_inb (show q + k < lenA j by omega) (by omega), i_toN (show q + k < 2147483648 by omega), h1, false_implies, not_false_eq_true, forall_const]
    refine ⟨fun h2 => ⟨fun _ => Or.inr ⟨k, hk, rfl, rfl, h2⟩, fun h3 => absurd h2 h3⟩, fun h2 => ⟨fun h3 => absurd h3 h2, fun _ => ?_⟩⟩
    exact ⟨m - 1, by omega, k + 1, by omega, i_succ k, i_succ k⟩)
  have k2 := key N n (Int32.ofNat 0) (Int32.ofNat 0) (by omega) ⟨0, by omega, rfl, rfl⟩
  refine ev_mono k2 ?_
  rintro r hr
  cases r with
  | inl x =>
    simp only [ev_some, ev_bx]
    refine ev_mono hr ?_
    rintro r' (⟨x', y', _, rfl⟩ | ⟨k, _, h2, _⟩)
    · simp only [ev_some]
      exact ⟨trivial, Or.inl trivial⟩
    · cases h2
  | inr x =>
    simp only [ev_some, ev_bx]
    refine ev_mono hr ?_
    rintro r' (⟨x', y', h2, _⟩ | ⟨k, h1, h2, rfl, h3⟩)
    · cases h2
    · cases h2
      simp only [ev_some]
      exact ⟨trivial, Or.inr ⟨k, h1, rfl, h3⟩⟩
theorem a_at {N : Nat} {M : Mem} {S : TS} {l n kk cap j q : Nat} (h : LsS M l n kk cap) (hc : cap < 1000) (hkk : kk = 7 ∨ kk = 8) (hv : ∀ k, k < n → mI M (itA M l k) 0 = tI S j (q + k)) (hj : tyA j = 0) (hq : q + n ≤ lenA j) (hl : lenA j < 1000) (hN : 100 ≤ N) (hn : n < 50) (p : Int32) :
    ev (f_X10_at N l p M) fun r => ev (tw_find N j (Int32.ofNat q) (Int32.ofNat n) p S) fun r' => r' = r ∧ (r = -1 ∨ ∃ k, k < n ∧ r = Int32.ofNat k ∧ tI S j (q + k) = p) := by
  unfold f_X10_at tw_find
  rw [ev_bx]
  have key := lp_rel (f := fun s : Int32 => f_X10_at_b1 N l p M s) (g := fun s : Int32 => tw_find_b1 N j (Int32.ofNat q) (Int32.ofNat n) p S s) (R := fun r r' => (∃ x y, r = Sum.inl x ∧ r' = Sum.inl y) ∨ ∃ k, k < n ∧ r = Sum.inr (Int32.ofNat k) ∧ r' = Sum.inr (Int32.ofNat k) ∧ tI S j (q + k) = p) (fun m s t => ∃ k, k + m = n ∧ s = Int32.ofNat k ∧ t = Int32.ofNat k) (by
    rintro m s t ⟨k, hm, rfl, rfl⟩
    unfold f_X10_at_b1 tw_find_b1
    have hle := h.le
    simp only [ev_some, ev_none, ev_be, ev_gd, ev_bd, ev_bd2, ev_bd3, ev_bd4, ev_ite, ev_eq (a_size h), h.k, true_and, i_le (show n < 2147483648 by omega) (show k < 2147483648 by omega), hj, i_add]
    refine ⟨fun h1 => ⟨fun _ => Or.inl ⟨_, _, rfl, rfl⟩, fun h2 => absurd h1 h2⟩, fun h1 => ?_⟩
    have hk : k < n := by omega
    simp only [ev_eq (a_get h hc hk), h.ik k hk, hkk, true_and, hv k hk, i_inb (show q + k < lenA j by omega) (by omega), i_toN (show q + k < 2147483648 by omega), h1, false_implies, not_false_eq_true, forall_const]
    refine ⟨fun h2 => ⟨fun _ => Or.inr ⟨k, hk, rfl, rfl, h2⟩, fun h3 => absurd h2 h3⟩, fun h2 => ⟨fun h3 => absurd h3 h2, fun _ => ?_⟩⟩
    exact ⟨m - 1, by omega, k + 1, by omega, i_succ k, i_succ k⟩)
  have k2 := key N n (Int32.ofNat 0) (Int32.ofNat 0) (by omega) ⟨0, by omega, rfl, rfl⟩
  refine ev_mono k2 ?_
  rintro r hr
  cases r with
  | inl x =>
    simp only [ev_some, ev_bx]
    refine ev_mono hr ?_
    rintro r' (⟨x', y', _, rfl⟩ | ⟨k, _, h2, _⟩)
    · simp only [ev_some]
      exact ⟨trivial, Or.inl trivial⟩
    · cases h2
  | inr x =>
    simp only [ev_some, ev_bx]
    refine ev_mono hr ?_
    rintro r' (⟨x', y', h2, _⟩ | ⟨k, h1, h2, rfl, h3⟩)
    · cases h2
    · cases h2
      simp only [ev_some]
      exact ⟨trivial, Or.inr ⟨k, h1, rfl, h3⟩⟩
end
