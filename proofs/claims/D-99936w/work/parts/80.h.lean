set_option maxRecDepth 100000
section
variable {M M' : Mem} {S S' : TS} {g nT nH nL ns nk nt : Nat}
theorem r_drk (h : Ful M S g nT nH nL ns nk nt) {N t : Nat} (hN : 1000 ≤ N) (ht : t < nT) (p2 : Int32) : ev (f_X1_drinkers N 0 (Int32.ofNat t) M) fun r => ev (lp N (fun s : Int32 × Int32 => tw_trough_b1 N (Int32.ofNat t) p2 S s.1 s.2) (0, 0)) fun q => q.2 = r := by
  have hn := h.rd.nh
  have hn2 := h.rd.nt
  unfold f_X1_drinkers
  simp only [ev_some, ev_none, ev_be, ev_gd, ev_bd, ev_bd2, ev_bd3, ev_bd4, ev_ite]
  have w12 : inb (Int32.ofNat t) 12 = True := i_inb (by omega) (by omega)
  have wi : (Int32.ofNat t).toNatClampNeg = t := i_toN (by omega)
  exact lp_for (f := fun s : Int32 × Int32 => f_X1_drinkers_b1 N 0 (Int32.ofNat t) M s.1 s.2) (g := fun s : Int32 × Int32 => tw_trough_b1 N (Int32.ofNat t) p2 S s.1 s.2) (R := fun r r' => r'.2 = r.2) (fun _ x y => y = x) nH (by
    rintro i hi x _ rfl
    have l1 : (Int32.ofNat nH ≤ Int32.ofNat i) = (nH ≤ i) := i_le (by omega) (by omega)
    unfold f_X1_drinkers_b1 tw_trough_b1
    simp only [ev_some, ev_none, ev_be, ev_gd, ev_bd, ev_bd2, ev_bd3, ev_bd4, ev_ite, h.tt.k, a_horses h.tt h.rd, h.c13, l1, h.tt.r9, h.tt.s13.k, h.tt.s13.r0, h.tt.s13.k1, h.tt.s13.n1, true_and, and_true, forall_const, not_true_eq_false, not_false_eq_true, false_implies, ne_eq, implies_true, true_implies, ev_some, le_1, le_2, le_3, le_4, le_5, le_6, le_7, le_8, le_9, le_10, le_11, le_12, le_13, le_14, le_15, le_16, le_17, le_18, le_19, le_20, le_21, le_22, le_23, le_24, le_25, le_26, le_27, le_28, le_29, le_30, le_31, le_32, le_33, le_34, le_35, le_36, le_37, le_38, le_39, le_40, le_41, le_42, le_43, le_44, le_45, i_succ, w12, wi, ev_eq (a_trough h.tt h.rd ht), h.rd.tk ht, h.tP0 ht]
    by_cases e0 : nH ≤ i
    · simp only [e0, true_and, and_true, forall_const, not_true_eq_false, not_false_eq_true, false_implies, ne_eq, implies_true, true_implies, ev_some]
      exact Or.inr ⟨_, _, rfl, rfl, rfl⟩
    have hi' : i < nH := by omega
    have n12 : inb (Int32.ofNat i) 12 = True := i_inb (by omega) (by omega)
    have n6 : inb (Int32.ofNat i) 6 = True := i_inb (by omega) (by omega)
    have ni : (Int32.ofNat i).toNatClampNeg = i := i_toN (by omega)
    have d10 : ((1 : Int32) = 0) = False := eq_false (by decide)
    simp only [e0, true_and, and_true, forall_const, not_true_eq_false, not_false_eq_true, false_implies, ne_eq, implies_true, true_implies, ev_some, n12, n6, ni, ev_eq (h.on1 hi'), h.nP hi']
    rcases h.on01 hi' with o | o
    · simp only [o, true_and, and_true, forall_const, not_true_eq_false, not_false_eq_true, false_implies, ne_eq, implies_true, true_implies, ev_some]
      exact Or.inl ⟨_, _, rfl, rfl, hi', rfl⟩
    · by_cases e1 : tI S 27 i = tI S 6 t
      · simp only [o, d10, e1, true_and, and_true, forall_const, not_true_eq_false, not_false_eq_true, false_implies, ne_eq, implies_true, true_implies, ev_some]
        exact Or.inl ⟨_, _, rfl, rfl, hi', rfl⟩
      · simp only [o, d10, e1, true_and, and_true, forall_const, not_true_eq_false, not_false_eq_true, false_implies, ne_eq, implies_true, true_implies, ev_some]
        exact Or.inl ⟨_, _, rfl, rfl, hi', rfl⟩) N 0 (by omega) (by omega) 0 0 rfl
theorem L_trough (h : Ful M S g nT nH nL ns nk nt) {N : Nat} (hN : 1000 ≤ N) (a b : Int32) : ev (f_X1_trough_2 N 0 a b M) fun r => ev (tw_trough N a b S) fun q => q.1 = r ∧ KpS S q.2 := by
  have k := KpS_2 S 0
  have h := h.t2
  have hn2 := h.rd.nt
  obtain ⟨r, a1, a2, a3⟩ := r_isTrough h a
  have d10 : ((1 : Int32) = 0) = False := eq_false (by decide)
  unfold f_X1_trough_2 tw_trough
  simp only [ev_some, ev_none, ev_be, ev_gd, ev_bd, ev_bd2, ev_bd3, ev_bd4, ev_ite, a1, a2, h.tt.k, true_and, and_true, forall_const, not_true_eq_false, not_false_eq_true, false_implies, ne_eq, implies_true, true_implies, ev_some]
  generalize tsI S 0 2 0 = S1 at h k ⊢
  rcases a3 with rfl | ⟨rfl, t, ht, rfl⟩
  · simp only [true_and, and_true, forall_const, not_true_eq_false, not_false_eq_true, false_implies, ne_eq, implies_true, true_implies, ev_some]; exact k
  have w12 : inb (Int32.ofNat t) 12 = True := i_inb (by omega) (by omega)
  have w6 : inb (Int32.ofNat t) 6 = True := i_inb (by omega) (by omega)
  have wi : (Int32.ofNat t).toNatClampNeg = t := i_toN (by omega)
  obtain ⟨v, s1, q, s2, s3⟩ := r_drk h hN ht b
  simp only [d10, s1, s2, ev_some, s3, h.tt.r9, h.tt.s13.k, h.tt.s13.r5, h.tt.s13.k6, h.tt.s13.n6, w12, w6, wi, le_1, le_2, le_3, le_4, le_5, le_6, le_7, le_8, le_9, le_10, le_11, le_12, le_13, le_14, le_15, le_16, le_17, le_18, le_19, le_20, le_21, le_22, le_23, le_24, le_25, le_26, le_27, le_28, le_29, le_30, le_31, le_32, le_33, le_34, le_35, le_36, le_37, le_38, le_39, le_40, le_41, le_42, le_43, le_44, le_45, true_and, and_true, forall_const, not_true_eq_false, not_false_eq_true, false_implies, ne_eq, implies_true, true_implies, ev_some, ev_eq (a_trough h.tt h.rd ht), h.rd.tk ht, h.tP0 ht, h.tF0 ht, h.nW ht]
  by_cases e0 : b = 0
  · simp [e0, k]
  by_cases e1 : b = 1
  · simp [e1, k]
  by_cases e2 : b = 2
  · simp [e2, k]
  by_cases e3 : b = 3
  · simp [e3, k]
  · simp [e0, e1, e2, e3, k]
theorem r_has (h : Ful M S g nT nH nL ns nk nt) {k l : Nat} (hk : k < nH) (hl : l < nH) (x y : Int32) : ∃ r, f_X1_has 0 (Int32.ofNat k) (Int32.ofNat l) x y M = some r ∧ tw_hasBy (Int32.ofNat k) (Int32.ofNat l) x y S = some r := by
  have hn := h.rd.nh
  have k12 : inb (Int32.ofNat k) 12 = True := i_inb (by omega) (by omega)
  have k6 : inb (Int32.ofNat k) 6 = True := i_inb (by omega) (by omega)
  have ki : (Int32.ofNat k).toNatClampNeg = k := i_toN (by omega)
  have l12 : inb (Int32.ofNat l) 12 = True := i_inb (by omega) (by omega)
  have li : (Int32.ofNat l).toNatClampNeg = l := i_toN (by omega)
  unfold f_X1_has tw_hasBy gd
  simp only [h.tt.k, h.tt.r9, h.tt.s13.k, h.tt.s13.r1, h.tt.s13.k2, h.tt.s13.n2, a_horse h.tt h.rd hk, a_horse h.tt h.rd hl, h.rd.hk hk, h.rd.hk hl, h.hS0 hk, h.hS0 hl, h.hC0 hk, h.nTh hk, k12, k6, ki, l12, li, le_1, le_2, le_3, le_4, le_5, le_6, le_7, le_8, le_9, le_10, le_11, le_12, le_13, le_14, le_15, le_16, le_17, le_18, le_19, le_20, le_21, le_22, le_23, le_24, le_25, le_26, le_27, le_28, le_29, le_30, le_31, le_32, le_33, le_34, le_35, le_36, le_37, le_38, le_39, le_40, le_41, le_42, le_43, le_44, le_45, c_abs, t_abs, bd, if_true]
  by_cases ex : x = 0 <;> by_cases ey : y = 0 <;> simp [ex, ey]
theorem r_restOf (h : Ful M S g nT nH nL ns nk nt) {N k l : Nat} (hN : 1000 ≤ N) (hk : k < nH) (hl : l < nH) (p : Int32) (hp : p = -1 ∨ 0 ≤ p) : ev (f_X1_restOf N 0 (Int32.ofNat k) (Int32.ofNat l) p M) fun r => ev (tw_restAt N (Int32.ofNat k) (Int32.ofNat l) p S) fun r' => r' = r := by
  have hn := h.rd.nh
  unfold f_X1_restOf tw_restAt
  have z0 : (0 : Int32) = Int32.ofNat 0 := rfl
  have key := lp_for (f := fun s : Int32 × Int32 => f_X1_restOf_b1 N 0 (Int32.ofNat k) (Int32.ofNat l) p M s.1 s.2) (g := fun s : Int32 × Int32 => tw_restAt_b1 N (Int32.ofNat k) (Int32.ofNat l) p S s.1 s.2) (R := fun r r' => (∃ x y v, r = .inl (x, v) ∧ r' = .inl (y, v)) ∨ ∃ w, r = .inr w ∧ r' = .inr w) (fun _ x y => y = x) 4 (by
    rintro i hi _ x rfl
    have l1 : (4 ≤ Int32.ofNat i) = (4 ≤ i) := by rw [show (4 : Int32) = Int32.ofNat 4 from rfl]; exact i_le (by omega) (by omega)
    unfold f_X1_restOf_b1 tw_restAt_b1 f_X1_isRest
    simp only [ev_some, ev_none, ev_be, ev_gd, ev_bd, ev_bd2, ev_bd3, ev_bd4, ev_ite, h.tt.k, l1, true_and, and_true, forall_const, not_true_eq_false, not_false_eq_true, false_implies, ne_eq, implies_true, true_implies, ev_some, i_succ]
    by_cases e0 : 4 ≤ i
    · simp only [e0, true_and, and_true, forall_const, not_true_eq_false, not_false_eq_true, false_implies, ne_eq, implies_true, true_implies, ev_some]
      exact Or.inr ⟨_, _, rfl, rfl, Or.inl ⟨_, _, _, rfl, rfl⟩⟩
    obtain ⟨v1, a1, b1⟩ := r_has h hk hl (1 - Int32.ofNat i / 2) (Int32.ofNat i - Int32.ofNat i / 2 * 2)
    obtain ⟨v2, a2, b2⟩ := r_has h hk hl (Int32.ofNat i / 2) (Int32.ofNat i - Int32.ofNat i / 2 * 2)
    obtain ⟨v3, a3, b3⟩ := r_has h hl hk (1 - (Int32.ofNat i - Int32.ofNat i / 2 * 2)) (Int32.ofNat i / 2)
    obtain ⟨v4, a4, b4⟩ := r_has h hl hk (Int32.ofNat i - Int32.ofNat i / 2 * 2) (Int32.ofNat i / 2)
    have d10 : ((1 : Int32) = 0) = False := eq_false (by decide)
    simp only [e0, a1, b1, a2, b2, a3, b3, a4, b4, ev_some, true_and, and_true, forall_const, not_true_eq_false, not_false_eq_true, false_implies, ne_eq, implies_true, true_implies, ev_some, true_or, or_true]
    by_cases e1 : v2 < v1
    · simp only [e1, true_and, and_true, forall_const, not_true_eq_false, not_false_eq_true, false_implies, ne_eq, implies_true, true_implies, ev_some]
      exact Or.inl ⟨_, _, rfl, rfl, by omega, rfl⟩
    by_cases e2 : v4 < v3
    · have e3 : ¬ v3 ≤ v4 := by rw [Int32.lt_iff_toInt_lt] at e2; rw [Int32.le_iff_toInt_le]; omega
      simp only [e1, e2, e3, true_and, and_true, forall_const, not_true_eq_false, not_false_eq_true, false_implies, ne_eq, implies_true, true_implies, ev_some]
      exact Or.inl ⟨_, _, rfl, rfl, by omega, rfl⟩
    have e3 : v3 ≤ v4 := by rw [Int32.lt_iff_toInt_lt] at e2; rw [Int32.le_iff_toInt_le]; omega
    simp only [e1, e2, e3, d10, true_and, and_true, forall_const, not_true_eq_false, not_false_eq_true, false_implies, ne_eq, implies_true, true_implies, ev_some]
    by_cases e4 : x = p
    · simp only [e4, true_and, and_true, forall_const, not_true_eq_false, not_false_eq_true, false_implies, ne_eq, implies_true, true_implies, ev_some]
      exact Or.inr ⟨_, _, rfl, rfl, Or.inr ⟨_, rfl, rfl⟩⟩
    · simp only [e4, true_and, and_true, forall_const, not_true_eq_false, not_false_eq_true, false_implies, ne_eq, implies_true, true_implies, ev_some]
      exact Or.inl ⟨_, _, rfl, rfl, by omega, rfl⟩) N 0 (by omega) (by omega) 0 0 rfl
  obtain ⟨r, r1, r', r2, r3⟩ := key
  rw [← z0] at r1 r2
  rw [r1, r2]
  rcases r3 with ⟨x, y, v, rfl, rfl⟩ | ⟨w, rfl, rfl⟩
  · simp only [ev_bx2, ev_some, ev_be]
    rcases hp with rfl | hp
    · rw [if_pos rfl, if_neg (by decide)]
    · have : ¬ p = -1 := by
        rintro rfl
        exact absurd hp (by decide)
      rw [if_neg this, if_pos hp]
  · simp only [ev_bx2, ev_some]
theorem L_rests (h : Ful M S g nT nH nL ns nk nt) {N : Nat} (hN : 1000 ≤ N) (a b : Int32) : ev (f_X1_rests N 0 a b M) fun r => ev (tw_rests N a b S) fun q => q.1 = r ∧ KpS S q.2 := by
  have k := KpS_2 S 0
  have h := h.t2
  obtain ⟨r, a1, a2, a3⟩ := r_areTwo h a b
  have d10 : ((1 : Int32) = 0) = False := eq_false (by decide)
  unfold f_X1_rests tw_rests
  simp only [ev_some, ev_none, ev_be, ev_gd, ev_bd, ev_bd2, ev_bd3, ev_bd4, ev_ite, a1, a2, h.tt.k, true_and, and_true, forall_const, not_true_eq_false, not_false_eq_true, false_implies, ne_eq, implies_true, true_implies, ev_some]
  generalize tsI S 0 2 0 = S1 at h k ⊢
  rcases a3 with rfl | ⟨rfl, x, y, hx, hy, _, rfl, rfl⟩
  · simp only [true_and, and_true, forall_const, not_true_eq_false, not_false_eq_true, false_implies, ne_eq, implies_true, true_implies, ev_some]; exact k
  obtain ⟨v, s1, v', s2, s3⟩ := r_restOf h hN hx hy (-1) (Or.inl rfl)
  simp only [d10, s1, s2, ev_some, true_and, and_true, forall_const, not_true_eq_false, not_false_eq_true, false_implies, ne_eq, implies_true, true_implies, ev_some]
  exact ⟨s3, k⟩
theorem L_rest (h : Ful M S g nT nH nL ns nk nt) {N : Nat} (hN : 1000 ≤ N) (a b c : Int32) : ev (f_X1_rest N 0 a b c M) fun r => ev (tw_rest N a b c S) fun q => q.1 = r ∧ KpS S q.2 := by
  have k := KpS_2 S 0
  have h := h.t2
  obtain ⟨r, a1, a2, a3⟩ := r_areTwo h a b
  have d10 : ((1 : Int32) = 0) = False := eq_false (by decide)
  unfold f_X1_rest tw_rest
  simp only [ev_some, ev_none, ev_be, ev_gd, ev_bd, ev_bd2, ev_bd3, ev_bd4, ev_ite, a1, a2, h.tt.k, true_and, and_true, forall_const, not_true_eq_false, not_false_eq_true, false_implies, ne_eq, implies_true, true_implies, ev_some]
  generalize tsI S 0 2 0 = S1 at h k ⊢
  rcases a3 with rfl | ⟨rfl, x, y, hx, hy, _, rfl, rfl⟩
  · simp only [true_and, and_true, forall_const, not_true_eq_false, not_false_eq_true, false_implies, ne_eq, implies_true, true_implies, ev_some]; exact k
  by_cases e : c < 0
  · simp only [d10, e, true_and, and_true, forall_const, not_true_eq_false, not_false_eq_true, false_implies, ne_eq, implies_true, true_implies, ev_some]; exact k
  obtain ⟨v, s1, v', s2, s3⟩ := r_restOf h hN hx hy c (Or.inr (by rw [Int32.lt_iff_toInt_lt] at e; rw [Int32.le_iff_toInt_le]; omega))
  simp only [d10, e, s1, s2, ev_some, true_and, and_true, forall_const, not_true_eq_false, not_false_eq_true, false_implies, ne_eq, implies_true, true_implies, ev_some]
  exact ⟨s3, k⟩
end
