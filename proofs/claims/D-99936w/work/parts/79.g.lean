set_option maxRecDepth 100000
section
theorem and1 (x : Int32) : x &&& 1 = if x.toBitVec.getLsbD 0 then 1 else 0 := by
  apply Int32.toBitVec_inj.mp
  rw [Int32.toBitVec_and]
  apply BitVec.eq_of_getLsbD_eq
  intro i hi
  have e : (1 : Int32).toBitVec = 1#32 := by decide
  have e0 : (0 : Int32).toBitVec = 0#32 := by decide
  cases h : x.toBitVec.getLsbD 0 with
  | true =>
    rw [if_pos rfl, BitVec.getLsbD_and, e, BitVec.getLsbD_one]
    by_cases h0 : i = 0
    · subst h0; rw [h]; decide
    · simp [h0]
  | false =>
    rw [if_neg (by decide), BitVec.getLsbD_and, e, e0, BitVec.getLsbD_one, BitVec.getLsbD_zero]
    by_cases h0 : i = 0
    · subst h0; rw [h]; decide
    · simp [h0]
theorem peace_bit (x y : Int32) : (x &&& (y ^^^ (-1))) &&& 1 = if x &&& 1 = 1 then (if y &&& 1 = 1 then 0 else 1) else 0 := by
  rw [and1 (x &&& (y ^^^ (-1))), and1 x, and1 y, Int32.toBitVec_and, Int32.toBitVec_xor, BitVec.getLsbD_and, BitVec.getLsbD_xor]
  have e : ((-1 : Int32).toBitVec).getLsbD 0 = true := by decide
  rw [e]
  cases x.toBitVec.getLsbD 0 <;> cases y.toBitVec.getLsbD 0 <;> decide
theorem t_isOf (x y : Int32) (S : TS) : tw_isOf x y S = some (if (x >>> (y &&& 31)) &&& 1 = 1 then 1 else 0) := by
  unfold tw_isOf be gd
  by_cases h : (x >>> (y &&& 31)) &&& 1 = 1
  · simp [h]
  · simp [h]
variable {M M' : Mem} {S S' : TS} {g nT nH nL ns nk nt : Nat}
theorem L_peace (h : Ful M S g nT nH nL ns nk nt) (a b : Int32) : ev (f_X1_peace 0 a b M) fun r => ev (tw_peace a b S) fun q => q.1 = r ∧ KpS S q.2 := by
  have k := KpS_2 S 0
  have h2 := h.t2
  obtain ⟨r, a1, a2, a3⟩ := r_in (a := a) (l := 0) (u := 3) (L := 0) (U := 3) (by decide) (by decide) M (tsI S 0 2 0)
  obtain ⟨r', b1, b2, b3⟩ := r_in (a := b) (l := 0) (u := 3) (L := 0) (U := 3) (by decide) (by decide) M (tsI S 0 2 0)
  have d10 : ((1 : Int32) = 0) = False := eq_false (by decide)
  have e15 : mI M 13 15 = tI (tsI S 0 2 0) 38 0 := h2.si.tk
  have e16 : mI M 13 16 = tI (tsI S 0 2 0) 39 0 := h2.si.fo
  unfold f_X1_peace tw_peace
  simp only [ev_some, ev_none, ev_be, ev_gd, ev_bd, ev_bd2, ev_bd3, ev_bd4, ev_ite, a1, a2, b1, b2, h.tt.k, h.tt.r9, h.tt.s13.k, true_and, and_true, forall_const, not_true_eq_false, not_false_eq_true, false_implies, ne_eq, implies_true, true_implies, ev_some, t_isOf, li_0, e15, e16]
  rcases a3 with rfl | ⟨rfl, _⟩
  · simp only [true_and, and_true, forall_const, not_true_eq_false, not_false_eq_true, false_implies, ne_eq, implies_true, true_implies, ev_some]; exact k
  rcases b3 with rfl | ⟨rfl, _⟩
  · simp only [d10, true_and, and_true, forall_const, not_true_eq_false, not_false_eq_true, false_implies, ne_eq, implies_true, true_implies, ev_some]; exact k
  by_cases e : a = b
  · simp only [d10, e, true_and, and_true, forall_const, not_true_eq_false, not_false_eq_true, false_implies, ne_eq, implies_true, true_implies, ev_some]; exact k
  simp only [d10, e, true_and, and_true, forall_const, not_true_eq_false, not_false_eq_true, false_implies, ne_eq, implies_true, true_implies, ev_some, peace_bit]
  generalize tI (tsI S 0 2 0) 38 0 >>> (4 * a + b &&& 31) &&& 1 = X
  generalize tI (tsI S 0 2 0) 39 0 >>> (4 * a + b &&& 31) &&& 1 = Y
  by_cases x1 : X = 1 <;> by_cases y1 : Y = 1 <;> simp [x1, y1, k]
theorem i_lt0 {k : Nat} (h : k < 2147483648) : (Int32.ofNat k < 0) = False := eq_false (by rw [show (0 : Int32) = Int32.ofNat 0 from rfl, i_lt h (by omega)]; omega)
theorem i_ne2 {k : Nat} (h : k < 2147483648) : (Int32.ofNat k = -2) = False := eq_false (by
  intro e
  have := i_nn h
  rw [e] at this
  exact absurd this (by decide))
theorem i_ne1 {k : Nat} (h : k < 2147483648) : (Int32.ofNat k = -1) = False := eq_false (i_nneg h)
theorem n2_lt : ((-2 : Int32) < 0) = True := eq_true (by decide)
theorem n1_lt' : ((-1 : Int32) < 0) = True := eq_true (by decide)
theorem L_thirstiest (h : Ful M S g nT nH nL ns nk nt) {N : Nat} (hN : 1000 ≤ N) : ev (f_X1_thirstiest N 0 M) fun r => ev (tw_thirstiest N S) fun q => q.1 = r ∧ KpS S q.2 := by
  have k := KpS_2 S 0
  have h := h.t2
  have hn := h.rd.nh
  unfold f_X1_thirstiest tw_thirstiest
  simp only [ev_some, ev_none, ev_be, ev_gd, ev_bd, ev_bd2, ev_bd3, ev_bd4, ev_ite]
  generalize tsI S 0 2 0 = S1 at h k ⊢
  obtain ⟨r, r1, r', r2, r3⟩ := lp_for (f := fun s : Int32 × Int32 => f_X1_thirstiest_b1 N 0 M s.1 s.2) (g := fun s : Int32 × Int32 => tw_thirstiest_b1 N S1 s.1 s.2) (R := fun r r' => r'.2 = r.2) (fun _ x y => y = x ∧ (x = -2 ∨ ∃ j, j < nH ∧ x = Int32.ofNat j)) nH (by
    rintro i hi x _ ⟨rfl, hx⟩
    have l1 : (Int32.ofNat nH ≤ Int32.ofNat i) = (nH ≤ i) := i_le (by omega) (by omega)
    unfold f_X1_thirstiest_b1 tw_thirstiest_b1
    simp only [ev_some, ev_none, ev_be, ev_gd, ev_bd, ev_bd2, ev_bd3, ev_bd4, ev_ite, h.tt.k, a_horses h.tt h.rd, h.c13, l1, h.tt.r9, h.tt.s13.k, h.tt.s13.r1, h.tt.s13.k2, h.tt.s13.n2, true_and, and_true, forall_const, not_true_eq_false, not_false_eq_true, false_implies, ne_eq, implies_true, true_implies, ev_some, le_1, le_2, le_3, le_4, le_5, le_6, le_7, le_8, le_9, le_10, le_11, le_12, le_13, le_14, le_15, le_16, le_17, le_18, le_19, le_20, le_21, le_22, le_23, le_24, le_25, le_26, le_27, le_28, le_29, le_30, le_31, le_32, le_33, le_34, le_35, le_36, le_37, le_38, le_39, le_40, le_41, le_42, le_43, le_44, le_45, i_succ]
    by_cases e0 : nH ≤ i
    · simp only [e0, true_and, and_true, forall_const, not_true_eq_false, not_false_eq_true, false_implies, ne_eq, implies_true, true_implies, ev_some]
      exact Or.inr ⟨_, _, rfl, rfl, rfl⟩
    have hi' : i < nH := by omega
    have n12 : inb (Int32.ofNat i) 12 = True := i_inb (by omega) (by omega)
    have n6 : inb (Int32.ofNat i) 6 = True := i_inb (by omega) (by omega)
    have ni : (Int32.ofNat i).toNatClampNeg = i := i_toN (by omega)
    have d10 : ((1 : Int32) = 0) = False := eq_false (by decide)
    simp only [e0, true_and, and_true, forall_const, not_true_eq_false, not_false_eq_true, false_implies, ne_eq, implies_true, true_implies, ev_some, n12, n6, ni, ev_eq (h.on1 hi'), h.nTh hi']
    rcases h.on01 hi' with o | o
    · simp only [o, true_and, and_true, forall_const, not_true_eq_false, not_false_eq_true, false_implies, ne_eq, implies_true, true_implies, ev_some]
      exact Or.inl ⟨_, _, rfl, rfl, hi', rfl, hx⟩
    · simp only [o, d10, true_and, and_true, forall_const, not_true_eq_false, not_false_eq_true, false_implies, ne_eq, implies_true, true_implies, ev_some]
      rcases hx with rfl | ⟨j, hj, rfl⟩
      · simp only [n2_lt, true_and, and_true, forall_const, not_true_eq_false, not_false_eq_true, false_implies, ne_eq, implies_true, true_implies, ev_some]
        exact Or.inl ⟨_, _, rfl, rfl, hi', rfl, Or.inr ⟨i, hi', rfl⟩⟩
      · have m12 : inb (Int32.ofNat j) 12 = True := i_inb (by omega) (by omega)
        have m6 : inb (Int32.ofNat j) 6 = True := i_inb (by omega) (by omega)
        have mj : (Int32.ofNat j).toNatClampNeg = j := i_toN (by omega)
        simp only [i_ne2 (show j < 2147483648 by omega), i_lt0 (show j < 2147483648 by omega), m12, m6, mj, h.nTh hj, true_and, and_true, forall_const, not_true_eq_false, not_false_eq_true, false_implies, ne_eq, implies_true, true_implies, ev_some]
        by_cases e1 : tI S1 28 i ≤ tI S1 28 j
        · simp only [e1, true_and, and_true, forall_const, not_true_eq_false, not_false_eq_true, false_implies, ne_eq, implies_true, true_implies, ev_some]
          exact Or.inl ⟨_, _, rfl, rfl, hi', rfl, Or.inr ⟨j, hj, rfl⟩⟩
        · simp only [e1, true_and, and_true, forall_const, not_true_eq_false, not_false_eq_true, false_implies, ne_eq, implies_true, true_implies, ev_some]
          exact Or.inl ⟨_, _, rfl, rfl, hi', rfl, Or.inr ⟨i, hi', rfl⟩⟩) N 0 (by omega) (by omega) (-2) (-2) ⟨rfl, Or.inl rfl⟩
  have z0 : (0 : Int32) = Int32.ofNat 0 := rfl
  rw [z0, r1, r2]
  simp only [ev_some]
  exact ⟨r3, k⟩
theorem L_driest (h : Ful M S g nT nH nL ns nk nt) {N : Nat} (hN : 1000 ≤ N) : ev (f_X1_driest N 0 M) fun r => ev (tw_driest N S) fun q => q.1 = r ∧ KpS S q.2 := by
  have k := KpS_2 S 0
  have h := h.t2
  have hn := h.rd.nt
  unfold f_X1_driest tw_driest
  simp only [ev_some, ev_none, ev_be, ev_gd, ev_bd, ev_bd2, ev_bd3, ev_bd4, ev_ite]
  generalize tsI S 0 2 0 = S1 at h k ⊢
  obtain ⟨r, r1, r', r2, r3⟩ := lp_for (f := fun s : Int32 × Int32 => f_X1_driest_b1 N 0 M s.1 s.2) (g := fun s : Int32 × Int32 => tw_driest_b1 N S1 s.1 s.2) (R := fun r r' => r'.2 = r.2) (fun _ x y => y = x ∧ (x = -1 ∨ ∃ j, j < nT ∧ x = Int32.ofNat j)) nT (by
    rintro i hi x _ ⟨rfl, hx⟩
    have l1 : (Int32.ofNat nT ≤ Int32.ofNat i) = (nT ≤ i) := i_le (by omega) (by omega)
    unfold f_X1_driest_b1 tw_driest_b1
    simp only [ev_some, ev_none, ev_be, ev_gd, ev_bd, ev_bd2, ev_bd3, ev_bd4, ev_ite, h.tt.k, a_troughs h.tt h.rd, h.c12, l1, h.tt.r9, h.tt.s13.k, h.tt.s13.r5, h.tt.s13.k6, h.tt.s13.n6, true_and, and_true, forall_const, not_true_eq_false, not_false_eq_true, false_implies, ne_eq, implies_true, true_implies, ev_some, le_1, le_2, le_3, le_4, le_5, le_6, le_7, le_8, le_9, le_10, le_11, le_12, le_13, le_14, le_15, le_16, le_17, le_18, le_19, le_20, le_21, le_22, le_23, le_24, le_25, le_26, le_27, le_28, le_29, le_30, le_31, le_32, le_33, le_34, le_35, le_36, le_37, le_38, le_39, le_40, le_41, le_42, le_43, le_44, le_45, i_succ]
    by_cases e0 : nT ≤ i
    · simp only [e0, true_and, and_true, forall_const, not_true_eq_false, not_false_eq_true, false_implies, ne_eq, implies_true, true_implies, ev_some]
      exact Or.inr ⟨_, _, rfl, rfl, rfl⟩
    have hi' : i < nT := by omega
    have n12 : inb (Int32.ofNat i) 12 = True := i_inb (by omega) (by omega)
    have n6 : inb (Int32.ofNat i) 6 = True := i_inb (by omega) (by omega)
    have ni : (Int32.ofNat i).toNatClampNeg = i := i_toN (by omega)
    simp only [e0, true_and, and_true, forall_const, not_true_eq_false, not_false_eq_true, false_implies, ne_eq, implies_true, true_implies, ev_some, n12, n6, ni, h.nW hi']
    rcases hx with rfl | ⟨j, hj, rfl⟩
    · simp only [n1_lt', true_and, and_true, forall_const, not_true_eq_false, not_false_eq_true, false_implies, ne_eq, implies_true, true_implies, ev_some]
      exact Or.inl ⟨_, _, rfl, rfl, hi', rfl, Or.inr ⟨i, hi', rfl⟩⟩
    · have m12 : inb (Int32.ofNat j) 12 = True := i_inb (by omega) (by omega)
      have m6 : inb (Int32.ofNat j) 6 = True := i_inb (by omega) (by omega)
      have mj : (Int32.ofNat j).toNatClampNeg = j := i_toN (by omega)
      simp only [i_ne1 (show j < 2147483648 by omega), i_lt0 (show j < 2147483648 by omega), m12, m6, mj, h.nW hj, true_and, and_true, forall_const, not_true_eq_false, not_false_eq_true, false_implies, ne_eq, implies_true, true_implies, ev_some]
      by_cases e1 : tI S1 33 j ≤ tI S1 33 i
      · simp only [e1, true_and, and_true, forall_const, not_true_eq_false, not_false_eq_true, false_implies, ne_eq, implies_true, true_implies, ev_some]
        exact Or.inl ⟨_, _, rfl, rfl, hi', rfl, Or.inr ⟨j, hj, rfl⟩⟩
      · simp only [e1, true_and, and_true, forall_const, not_true_eq_false, not_false_eq_true, false_implies, ne_eq, implies_true, true_implies, ev_some]
        exact Or.inl ⟨_, _, rfl, rfl, hi', rfl, Or.inr ⟨i, hi', rfl⟩⟩) N 0 (by omega) (by omega) (-1) (-1) ⟨rfl, Or.inl rfl⟩
  have z0 : (0 : Int32) = Int32.ofNat 0 := rfl
  rw [z0, r1, r2]
  simp only [ev_some]
  exact ⟨r3, k⟩
theorem L_nearest (h : Ful M S g nT nH nL ns nk nt) {N : Nat} (hN : 1000 ≤ N) (a : Int32) : ev (f_X1_nearest N 0 a M) fun r => ev (tw_nearest N a S) fun q => q.1 = r ∧ KpS S q.2 := by
  have k := KpS_2 S 0
  have h := h.t2
  have hn := h.rd.nt
  have hn2 := h.rd.nh
  obtain ⟨r, a1, a2, a3⟩ := r_isHorse h a
  have d10 : ((1 : Int32) = 0) = False := eq_false (by decide)
  unfold f_X1_nearest tw_nearest
  simp only [ev_some, ev_none, ev_be, ev_gd, ev_bd, ev_bd2, ev_bd3, ev_bd4, ev_ite, a1, a2, h.tt.k, true_and, and_true, forall_const, not_true_eq_false, not_false_eq_true, false_implies, ne_eq, implies_true, true_implies, ev_some]
  generalize tsI S 0 2 0 = S1 at h k ⊢
  rcases a3 with rfl | ⟨rfl, w, hw, rfl⟩
  · simp only [true_and, and_true, forall_const, not_true_eq_false, not_false_eq_true, false_implies, ne_eq, implies_true, true_implies, ev_some]; exact k
  simp only [d10, true_and, and_true, forall_const, not_true_eq_false, not_false_eq_true, false_implies, ne_eq, implies_true, true_implies, ev_some]
  have w12 : inb (Int32.ofNat w) 12 = True := i_inb (by omega) (by omega)
  have w6 : inb (Int32.ofNat w) 6 = True := i_inb (by omega) (by omega)
  have wi : (Int32.ofNat w).toNatClampNeg = w := i_toN (by omega)
  obtain ⟨r, r1, r', r2, r3⟩ := lp_for (f := fun s : Int32 × Int32 => f_X1_nearest_b1 N 0 (Int32.ofNat w) M s.1 s.2) (g := fun s : Int32 × Int32 => tw_nearest_b1 N (Int32.ofNat w) S1 s.1 s.2) (R := fun r r' => r'.2 = r.2) (fun _ x y => y = x ∧ (x = -2 ∨ ∃ j, j < nT ∧ x = Int32.ofNat j)) nT (by
    rintro i hi x _ ⟨rfl, hx⟩
    have l1 : (Int32.ofNat nT ≤ Int32.ofNat i) = (nT ≤ i) := i_le (by omega) (by omega)
    unfold f_X1_nearest_b1 tw_nearest_b1
    simp only [ev_some, ev_none, ev_be, ev_gd, ev_bd, ev_bd2, ev_bd3, ev_bd4, ev_ite, h.tt.k, a_troughs h.tt h.rd, h.c12, l1, h.tt.r9, h.tt.s13.k, h.tt.s13.r0, h.tt.s13.k1, h.tt.s13.n1, true_and, and_true, forall_const, not_true_eq_false, not_false_eq_true, false_implies, ne_eq, implies_true, true_implies, ev_some, le_1, le_2, le_3, le_4, le_5, le_6, le_7, le_8, le_9, le_10, le_11, le_12, le_13, le_14, le_15, le_16, le_17, le_18, le_19, le_20, le_21, le_22, le_23, le_24, le_25, le_26, le_27, le_28, le_29, le_30, le_31, le_32, le_33, le_34, le_35, le_36, le_37, le_38, le_39, le_40, le_41, le_42, le_43, le_44, le_45, i_succ, w12, w6, wi, h.nP hw, c_abs, t_abs]
    by_cases e0 : nT ≤ i
    · simp only [e0, true_and, and_true, forall_const, not_true_eq_false, not_false_eq_true, false_implies, ne_eq, implies_true, true_implies, ev_some]
      exact Or.inr ⟨_, _, rfl, rfl, rfl⟩
    have hi' : i < nT := by omega
    have n12 : inb (Int32.ofNat i) 12 = True := i_inb (by omega) (by omega)
    have ni : (Int32.ofNat i).toNatClampNeg = i := i_toN (by omega)
    simp only [e0, true_and, and_true, forall_const, not_true_eq_false, not_false_eq_true, false_implies, ne_eq, implies_true, true_implies, ev_some, n12, ni, ev_eq (a_trough h.tt h.rd hi'), h.rd.tk hi', h.tP0 hi']
    rcases hx with rfl | ⟨j, hj, rfl⟩
    · simp only [n2_lt, true_and, and_true, forall_const, not_true_eq_false, not_false_eq_true, false_implies, ne_eq, implies_true, true_implies, ev_some]
      exact Or.inl ⟨_, _, rfl, rfl, hi', rfl, Or.inr ⟨i, hi', rfl⟩⟩
    · have m12 : inb (Int32.ofNat j) 12 = True := i_inb (by omega) (by omega)
      have mj : (Int32.ofNat j).toNatClampNeg = j := i_toN (by omega)
      simp only [i_ne2 (show j < 2147483648 by omega), i_lt0 (show j < 2147483648 by omega), m12, mj, ev_eq (a_trough h.tt h.rd hj), h.rd.tk hj, h.tP0 hj, true_and, and_true, forall_const, not_true_eq_false, not_false_eq_true, false_implies, ne_eq, implies_true, true_implies, ev_some]
      by_cases e1 : abV (tI S1 6 j - tI S1 27 w) ≤ abV (tI S1 6 i - tI S1 27 w)
      · simp only [e1, true_and, and_true, forall_const, not_true_eq_false, not_false_eq_true, false_implies, ne_eq, implies_true, true_implies, ev_some]
        exact Or.inl ⟨_, _, rfl, rfl, hi', rfl, Or.inr ⟨j, hj, rfl⟩⟩
      · simp only [e1, true_and, and_true, forall_const, not_true_eq_false, not_false_eq_true, false_implies, ne_eq, implies_true, true_implies, ev_some]
        exact Or.inl ⟨_, _, rfl, rfl, hi', rfl, Or.inr ⟨i, hi', rfl⟩⟩) N 0 (by omega) (by omega) (-2) (-2) ⟨rfl, Or.inl rfl⟩
  have z0 : (0 : Int32) = Int32.ofNat 0 := rfl
  rw [z0, r1, r2]
  simp only [ev_some]
  exact ⟨r3, k⟩
theorem L_sides (h : Ful M S g nT nH nL ns nk nt) {N : Nat} (hN : 1000 ≤ N) : ev (f_X1_sides N 0 M) fun r => ev (tw_sides N S) fun q => q.1 = r ∧ KpS S q.2 := by
  have k := KpS_2 S 0
  have h := h.t2
  have hn := h.rd.nh
  unfold f_X1_sides tw_sides
  simp only [ev_some, ev_none, ev_be, ev_gd, ev_bd, ev_bd2, ev_bd3, ev_bd4, ev_ite]
  generalize tsI S 0 2 0 = S1 at h k ⊢
  obtain ⟨r, r1, r', r2, r3⟩ := lp_for (f := fun s : Int32 × Int32 => f_X1_sides_b1 N 0 M s.1 s.2) (g := fun s : Int32 × Int32 => tw_sides_b1 N S1 s.1 s.2) (R := fun r r' => r'.2 = r.2) (fun _ x y => y = x) nH (by
    rintro i hi x _ rfl
    have l1 : (Int32.ofNat nH ≤ Int32.ofNat i) = (nH ≤ i) := i_le (by omega) (by omega)
    unfold f_X1_sides_b1 tw_sides_b1
    simp only [ev_some, ev_none, ev_be, ev_gd, ev_bd, ev_bd2, ev_bd3, ev_bd4, ev_ite, h.tt.k, a_horses h.tt h.rd, h.c13, l1, h.tt.r9, h.tt.s13.k, true_and, and_true, forall_const, not_true_eq_false, not_false_eq_true, false_implies, ne_eq, implies_true, true_implies, ev_some, le_1, le_2, le_3, le_4, le_5, le_6, le_7, le_8, le_9, le_10, le_11, le_12, le_13, le_14, le_15, le_16, le_17, le_18, le_19, le_20, le_21, le_22, le_23, le_24, le_25, le_26, le_27, le_28, le_29, le_30, le_31, le_32, le_33, le_34, le_35, le_36, le_37, le_38, le_39, le_40, le_41, le_42, le_43, le_44, le_45, i_succ]
    by_cases e0 : nH ≤ i
    · simp only [e0, true_and, and_true, forall_const, not_true_eq_false, not_false_eq_true, false_implies, ne_eq, implies_true, true_implies, ev_some]
      exact Or.inr ⟨_, _, rfl, rfl, rfl⟩
    have hi' : i < nH := by omega
    have n12 : inb (Int32.ofNat i) 12 = True := i_inb (by omega) (by omega)
    have ni : (Int32.ofNat i).toNatClampNeg = i := i_toN (by omega)
    have d10 : ((1 : Int32) = 0) = False := eq_false (by decide)
    simp only [e0, true_and, and_true, forall_const, not_true_eq_false, not_false_eq_true, false_implies, ne_eq, implies_true, true_implies, ev_some, n12, ni, ev_eq (h.on1 hi'), ev_eq (a_horse h.tt h.rd hi'), h.rd.hk hi', h.hS0 hi']
    rcases h.on01 hi' with o | o
    · simp only [o, true_and, and_true, forall_const, not_true_eq_false, not_false_eq_true, false_implies, ne_eq, implies_true, true_implies, ev_some]
      exact Or.inl ⟨_, _, rfl, rfl, hi', rfl⟩
    · simp only [o, d10, true_and, and_true, forall_const, not_true_eq_false, not_false_eq_true, false_implies, ne_eq, implies_true, true_implies, ev_some]
      exact Or.inl ⟨_, _, rfl, rfl, hi', rfl⟩) N 0 (by omega) (by omega) 0 0 rfl
  have z0 : (0 : Int32) = Int32.ofNat 0 := rfl
  rw [← z0] at r1 r2
  rw [r1, r2]
  simp only [ev_some]
  exact ⟨r3, k⟩
theorem L_enemies (h : Ful M S g nT nH nL ns nk nt) {N : Nat} (hN : 1000 ≤ N) (a : Int32) : ev (f_X1_enemies N 0 a M) fun r => ev (tw_enemies N a S) fun q => q.1 = r ∧ KpS S q.2 := by
  have k := KpS_2 S 0
  have h := h.t2
  have hn2 := h.rd.nh
  obtain ⟨r, a1, a2, a3⟩ := r_isHorse h a
  have d10 : ((1 : Int32) = 0) = False := eq_false (by decide)
  unfold f_X1_enemies tw_enemies
  simp only [ev_some, ev_none, ev_be, ev_gd, ev_bd, ev_bd2, ev_bd3, ev_bd4, ev_ite, a1, a2, h.tt.k, true_and, and_true, forall_const, not_true_eq_false, not_false_eq_true, false_implies, ne_eq, implies_true, true_implies, ev_some]
  generalize tsI S 0 2 0 = S1 at h k ⊢
  rcases a3 with rfl | ⟨rfl, w, hw, rfl⟩
  · simp only [true_and, and_true, forall_const, not_true_eq_false, not_false_eq_true, false_implies, ne_eq, implies_true, true_implies, ev_some]; exact k
  simp only [d10, true_and, and_true, forall_const, not_true_eq_false, not_false_eq_true, false_implies, ne_eq, implies_true, true_implies, ev_some]
  have w12 : inb (Int32.ofNat w) 12 = True := i_inb (by omega) (by omega)
  have w6 : inb (Int32.ofNat w) 6 = True := i_inb (by omega) (by omega)
  have wi : (Int32.ofNat w).toNatClampNeg = w := i_toN (by omega)
  obtain ⟨r, r1, r', r2, r3⟩ := lp_for (f := fun s : Int32 × Int32 => f_X1_enemies_b1 N 0 (Int32.ofNat w) M s.1 s.2) (g := fun s : Int32 × Int32 => tw_enemies_b1 N (Int32.ofNat w) S1 s.1 s.2) (R := fun r r' => r'.2 = r.2) (fun _ x y => y = x) nH (by
    rintro i hi x _ rfl
    have l1 : (Int32.ofNat nH ≤ Int32.ofNat i) = (nH ≤ i) := i_le (by omega) (by omega)
    unfold f_X1_enemies_b1 tw_enemies_b1
    simp only [ev_some, ev_none, ev_be, ev_gd, ev_bd, ev_bd2, ev_bd3, ev_bd4, ev_ite, h.tt.k, a_horses h.tt h.rd, h.c13, l1, h.tt.r9, h.tt.s13.k, h.tt.s13.r0, h.tt.s13.k1, h.tt.s13.n1, true_and, and_true, forall_const, not_true_eq_false, not_false_eq_true, false_implies, ne_eq, implies_true, true_implies, ev_some, le_1, le_2, le_3, le_4, le_5, le_6, le_7, le_8, le_9, le_10, le_11, le_12, le_13, le_14, le_15, le_16, le_17, le_18, le_19, le_20, le_21, le_22, le_23, le_24, le_25, le_26, le_27, le_28, le_29, le_30, le_31, le_32, le_33, le_34, le_35, le_36, le_37, le_38, le_39, le_40, le_41, le_42, le_43, le_44, le_45, i_succ, w12, w6, wi, h.nP hw, ev_eq (h.on1 hw), ev_eq (a_horse h.tt h.rd hw), h.rd.hk hw, h.hS0 hw]
    by_cases e0 : nH ≤ i
    · simp only [e0, true_and, and_true, forall_const, not_true_eq_false, not_false_eq_true, false_implies, ne_eq, implies_true, true_implies, ev_some]
      exact Or.inr ⟨_, _, rfl, rfl, rfl⟩
    have hi' : i < nH := by omega
    have n12 : inb (Int32.ofNat i) 12 = True := i_inb (by omega) (by omega)
    have n6 : inb (Int32.ofNat i) 6 = True := i_inb (by omega) (by omega)
    have ni : (Int32.ofNat i).toNatClampNeg = i := i_toN (by omega)
    simp only [e0, true_and, and_true, forall_const, not_true_eq_false, not_false_eq_true, false_implies, ne_eq, implies_true, true_implies, ev_some, n12, n6, ni, ev_eq (h.on1 hi'), h.nP hi', ev_eq (a_horse h.tt h.rd hi'), h.rd.hk hi', h.hS0 hi']
    rcases h.on01 hw with o | o
    · simp only [o, true_and, and_true, forall_const, not_true_eq_false, not_false_eq_true, false_implies, ne_eq, implies_true, true_implies, ev_some]
      exact Or.inl ⟨_, _, rfl, rfl, hi', rfl⟩
    rcases h.on01 hi' with o2 | o2
    · simp only [o, o2, d10, true_and, and_true, forall_const, not_true_eq_false, not_false_eq_true, false_implies, ne_eq, implies_true, true_implies, ev_some]
      exact Or.inl ⟨_, _, rfl, rfl, hi', rfl⟩
    by_cases e1 : tI S1 10 i = tI S1 10 w
    · by_cases e2 : tI S1 27 i = tI S1 27 w
      · simp only [o, o2, d10, e1, e2, true_and, and_true, forall_const, not_true_eq_false, not_false_eq_true, false_implies, ne_eq, implies_true, true_implies, ev_some]
        exact Or.inl ⟨_, _, rfl, rfl, hi', rfl⟩
      · simp only [o, o2, d10, e1, e2, true_and, and_true, forall_const, not_true_eq_false, not_false_eq_true, false_implies, ne_eq, implies_true, true_implies, ev_some]
        exact Or.inl ⟨_, _, rfl, rfl, hi', rfl⟩
    · by_cases e2 : tI S1 27 i = tI S1 27 w
      · simp only [o, o2, d10, e1, e2, true_and, and_true, forall_const, not_true_eq_false, not_false_eq_true, false_implies, ne_eq, implies_true, true_implies, ev_some]
        exact Or.inl ⟨_, _, rfl, rfl, hi', rfl⟩
      · simp only [o, o2, d10, e1, e2, true_and, and_true, forall_const, not_true_eq_false, not_false_eq_true, false_implies, ne_eq, implies_true, true_implies, ev_some]
        exact Or.inl ⟨_, _, rfl, rfl, hi', rfl⟩) N 0 (by omega) (by omega) 0 0 rfl
  have z0 : (0 : Int32) = Int32.ofNat 0 := rfl
  rw [← z0] at r1 r2
  rw [r1, r2]
  simp only [ev_some]
  exact ⟨r3, k⟩
end
