set_option maxRecDepth 100000
section
theorem lp_rel2 {σ ρ σ' ρ' : Type} {f : σ → Option (ρ ⊕ σ)} {g : σ' → Option (ρ' ⊕ σ')} {R : ρ → ρ' → Prop} (I : Nat → σ → σ' → Prop)
    (hs : ∀ n s t, I n s t → ev (f s) fun x => ev (g t) fun y => match x, y with
    | .inl r, .inl r' => R r r'
    | .inr s', .inr t' => ∃ m, m < n ∧ I m s' t'
    | _, _ => False) : ∀ (N N' n : Nat) (s : σ) (t : σ'), n < N → n < N' → I n s t → ev (lp N f s) fun r => ev (lp N' g t) fun r' => R r r' := by
  intro N
  induction N with
  | zero => intro N' n s t h; omega
  | succ N ih =>
    intro N' n s t hn hn' hI
    obtain ⟨N', rfl⟩ : ∃ m, N' = m + 1 := ⟨N' - 1, by omega⟩
    obtain ⟨x, h1, y, h2, h3⟩ := hs n s t hI
    unfold lp
    rw [h1, h2]
    cases x with
    | inl r =>
      cases y with
      | inl r' => exact ⟨r, rfl, r', rfl, h3⟩
      | inr t' => exact h3.elim
    | inr s' =>
      cases y with
      | inl r' => exact h3.elim
      | inr t' =>
        obtain ⟨m, h4, h5⟩ := h3
        exact ih N' m s' t' (by omega) (by omega) h5
theorem lp_for2 {σ τ ρ ρ' : Type} {f : Int32 × σ → Option (ρ ⊕ (Int32 × σ))} {g : Int32 × τ → Option (ρ' ⊕ (Int32 × τ))} {R : ρ → ρ' → Prop} (P : Nat → σ → τ → Prop) (n : Nat)
    (hs : ∀ i, i ≤ n → ∀ s t, P i s t → ev (f (Int32.ofNat i, s)) fun x => ev (g (Int32.ofNat i, t)) fun y => (∃ s' t', x = .inr (Int32.ofNat (i + 1), s') ∧ y = .inr (Int32.ofNat (i + 1), t') ∧ i < n ∧ P (i + 1) s' t') ∨ (∃ r r', x = .inl r ∧ y = .inl r' ∧ R r r')) :
    ∀ (N N' i0 : Nat), n < N → n < N' → i0 ≤ n → ∀ s t, P i0 s t → ev (lp N f (Int32.ofNat i0, s)) fun r => ev (lp N' g (Int32.ofNat i0, t)) fun r' => R r r' := by
  intro N N' i0 hN hN' hi s t hP
  refine lp_rel2 (R := R) (fun m s t => ∃ i, i + m = n ∧ ∃ s1 t1, s = (Int32.ofNat i, s1) ∧ t = (Int32.ofNat i, t1) ∧ P i s1 t1) ?_ N N' (n - i0) _ _ (by omega) (by omega) ⟨i0, by omega, s, t, rfl, rfl, hP⟩
  rintro m _ _ ⟨i, hm, s1, t1, rfl, rfl, hp⟩
  refine ev_mono (hs i (by omega) s1 t1 hp) ?_
  intro x hx
  refine ev_mono hx ?_
  rintro y (⟨s', t', rfl, rfl, h1, h2⟩ | ⟨r, r', rfl, rfl, h1⟩)
  · exact ⟨m - 1, by omega, i + 1, by omega, s', t', rfl, rfl, h2⟩
  · exact h1
theorem lp_one {σ ρ : Type} {f : σ → Option (ρ ⊕ σ)} {s s' : σ} {N : Nat} (hN : 0 < N) (h : f s = some (.inr s')) : lp N f s = lp (N - 1) f s' := by
  obtain ⟨N, rfl⟩ : ∃ m, N = m + 1 := ⟨N - 1, by omega⟩
  rw [lp, h]
  rfl
theorem lp_fin {σ ρ : Type} {f : σ → Option (ρ ⊕ σ)} {s : σ} {r : ρ} {N : Nat} (hN : 0 < N) (h : f s = some (.inl r)) : lp N f s = some r := by
  obtain ⟨N, rfl⟩ : ∃ m, N = m + 1 := ⟨N - 1, by omega⟩
  rw [lp, h]
variable {M M' : Mem} {S S' : TS} {g nT nH nL ns nk nt : Nat}
theorem ab_sym {x y : Int32} (hx : In x 0 60) (hy : In y 0 60) : abV (x - y) = abV (y - x) ∧ In (abV (x - y)) 0 60 := by
  unfold In at *
  have z0 : (0 : Int32).toInt = 0 := by decide
  have d : (x - y).toInt = x.toInt - y.toInt := by rw [Int32.toInt_sub, Int.bmod_def]; omega
  have d2 : (y - x).toInt = y.toInt - x.toInt := by rw [Int32.toInt_sub, Int.bmod_def]; omega
  have n : (-(x - y)).toInt = -(x.toInt - y.toInt) := by rw [Int32.toInt_neg, d, Int.bmod_def]; omega
  have n2 : (-(y - x)).toInt = -(y.toInt - x.toInt) := by rw [Int32.toInt_neg, d2, Int.bmod_def]; omega
  unfold abV
  simp only [Int32.le_iff_toInt_le, z0, d, d2]
  rw [← Int32.toInt_inj]
  refine ⟨?_, ?_⟩
  · split <;> split <;> omega
  · split <;> omega
def legV (S : TS) (h : Nat) (x y : Int32) : Int32 := ((abV (y - x) + tI S 13 h) - 1) / tI S 13 h
theorem c_leg (h : Ful M S g nT nH nL ns nk nt) {k : Nat} (hk : k < nH) {x y : Int32} (hx : In x 0 60) (hy : In y 0 60) : f_X1_legHours 0 (Int32.ofNat k) x y M = some (legV S k x y) := by
  have hc := h.hCB0 hk
  have ne : ¬ tI S 13 k = 0 := by
    intro e
    rw [e] at hc
    unfold In at hc
    exact absurd hc.1 (by decide)
  unfold f_X1_legHours legV gd
  simp only [c_abs, h.tt.k, a_horse h.tt h.rd hk, h.rd.hk hk, h.hC0 hk, bd, if_true, ne, not_false_eq_true, (ab_sym hx hy).1]
theorem t_leg (h : Ful M S g nT nH nL ns nk nt) {k : Nat} (hk : k < nH) {x y : Int32} : tw_legOf (Int32.ofNat k) x y S = some (legV S k x y) := by
  have hc := h.hCB0 hk
  have hn := h.rd.nh
  have ne : ¬ tI S 13 k = 0 := by
    intro e
    rw [e] at hc
    unfold In at hc
    exact absurd hc.1 (by decide)
  have k12 : inb (Int32.ofNat k) 12 = True := i_inb (by omega) (by omega)
  have ki : (Int32.ofNat k).toNatClampNeg = k := i_toN (by omega)
  unfold tw_legOf legV gd
  simp only [t_abs, bd, if_true, le_13, k12, ki, ne, not_false_eq_true]
theorem legB (h : Ful M S g nT nH nL ns nk nt) {k : Nat} (hk : k < nH) {x y : Int32} (hx : In x 0 60) (hy : In y 0 60) : In (legV S k x y) 0 60 := by
  have hc := h.hCB0 hk
  have hd := (ab_sym hx hy)
  rw [hd.1] at hd
  have hd := hd.2
  unfold legV
  generalize abV (y - x) = d at hd
  generalize tI S 13 k = p at hc
  unfold In at *
  have x1 : (1 : Int32).toInt = 1 := by decide
  have e1 : (d + p - 1).toInt = d.toInt + p.toInt - 1 := by
    rw [Int32.toInt_sub, Int32.toInt_add, x1, Int.bmod_def, Int.bmod_def]
    omega
  have e2 : (d + p - 1).toInt.tdiv p.toInt = (d + p - 1).toInt / p.toInt := Int.tdiv_eq_ediv_of_nonneg (by omega)
  have e3 : 0 ≤ (d.toInt + p.toInt - 1) / p.toInt := Int.ediv_nonneg (by omega) (by omega)
  have e4 : (d.toInt + p.toInt - 1) / p.toInt ≤ 60 := by
    apply Int.ediv_le_of_le_mul (by omega)
    have : 1 ≤ p.toInt := hc.1
    have h9 : p.toInt ≤ 9 := hc.2
    have : p.toInt = 1 ∨ p.toInt = 2 ∨ p.toInt = 3 ∨ p.toInt = 4 ∨ p.toInt = 5 ∨ p.toInt = 6 ∨ p.toInt = 7 ∨ p.toInt = 8 ∨ p.toInt = 9 := by omega
    rcases this with e | e | e | e | e | e | e | e | e <;> rw [e] <;> omega
  rw [Int32.toInt_div, e2, e1, Int.bmod_def]
  generalize (d.toInt + p.toInt - 1) / p.toInt = q at e3 e4
  omega
def AnyOn (S : TS) (nH : Nat) : Prop := ∃ k, k < nH ∧ tI S 31 k = 1
theorem r_hoursTo (h : Ful M S g nT nH nL ns nk nt) {N t : Nat} (hN : 1000 ≤ N) (ht : t < nT) (y1 y2 p : Int32) :
    ev (f_X1_hoursTo N 0 (Int32.ofNat t) M) fun r => In r 0 60 ∧ ev (lp N (fun s : Int32 × Int32 => tw_gather_b2 N (Int32.ofNat t) y1 y2 p S s.1 s.2) (0, -1)) fun q => (AnyOn S nH ∧ q.2 = r) ∨ (¬ AnyOn S nH ∧ q.2 = -1) := by
  have hn := h.rd.nh
  have hn2 := h.rd.nt
  have w12 : inb (Int32.ofNat t) 12 = True := i_inb (by omega) (by omega)
  have wi : (Int32.ofNat t).toNatClampNeg = t := i_toN (by omega)
  unfold f_X1_hoursTo
  simp only [ev_some, ev_none, ev_be, ev_gd, ev_bd, ev_bd2, ev_bd3, ev_bd4, ev_ite]
  have z0 : (0 : Int32) = Int32.ofNat 0 := rfl
  have x0 : (0 : Int32).toInt = 0 := by decide
  have x1 : (-1 : Int32).toInt = -1 := by decide
  have key := lp_for (f := fun s : Int32 × Int32 => f_X1_hoursTo_b1 N 0 (Int32.ofNat t) M s.1 s.2) (g := fun s : Int32 × Int32 => tw_gather_b2 N (Int32.ofNat t) y1 y2 p S s.1 s.2) (R := fun r r' => In r.2 0 60 ∧ ((AnyOn S nH ∧ r'.2 = r.2) ∨ (¬ AnyOn S nH ∧ r'.2 = -1))) (fun i x y => In x 0 60 ∧ ((∃ k, k < i ∧ k < nH ∧ tI S 31 k = 1) ∧ y = x ∨ (¬ (∃ k, k < i ∧ k < nH ∧ tI S 31 k = 1) ∧ y = -1 ∧ x = 0))) nH (by
    rintro i hi x y ⟨hx, hxy⟩
    have l1 : (Int32.ofNat nH ≤ Int32.ofNat i) = (nH ≤ i) := i_le (by omega) (by omega)
    unfold f_X1_hoursTo_b1 tw_gather_b2
    simp only [ev_some, ev_none, ev_be, ev_gd, ev_bd, ev_bd2, ev_bd3, ev_bd4, ev_ite, h.tt.k, a_horses h.tt h.rd, h.c13, l1, h.tt.r9, h.tt.s13.k, h.tt.s13.r0, h.tt.s13.k1, h.tt.s13.n1, true_and, and_true, forall_const, not_true_eq_false, not_false_eq_true, false_implies, ne_eq, implies_true, true_implies, ev_some, le_1, le_2, le_3, le_4, le_5, le_6, le_7, le_8, le_9, le_10, le_11, le_12, le_13, le_14, le_15, le_16, le_17, le_18, le_19, le_20, le_21, le_22, le_23, le_24, le_25, le_26, le_27, le_28, le_29, le_30, le_31, le_32, le_33, le_34, le_35, le_36, le_37, le_38, le_39, le_40, le_41, le_42, le_43, le_44, le_45, i_succ, w12, wi, ev_eq (a_trough h.tt h.rd ht), h.rd.tk ht, h.tP0 ht, c_max]
    by_cases e0 : nH ≤ i
    · simp only [e0, true_and, and_true, forall_const, not_true_eq_false, not_false_eq_true, false_implies, ne_eq, implies_true, true_implies, ev_some]
      refine Or.inr ⟨_, _, rfl, rfl, hx, ?_⟩
      rcases hxy with ⟨⟨k, _, k2, k3⟩, e⟩ | ⟨k, e, _⟩
      · exact Or.inl ⟨⟨k, k2, k3⟩, e⟩
      · exact Or.inr ⟨fun ⟨k', k2, k3⟩ => k ⟨k', by omega, k2, k3⟩, e⟩
    have hi' : i < nH := by omega
    have n12 : inb (Int32.ofNat i) 12 = True := i_inb (by omega) (by omega)
    have n6 : inb (Int32.ofNat i) 6 = True := i_inb (by omega) (by omega)
    have ni : (Int32.ofNat i).toNatClampNeg = i := i_toN (by omega)
    have d10 : ((1 : Int32) = 0) = False := eq_false (by decide)
    simp only [e0, true_and, and_true, forall_const, not_true_eq_false, not_false_eq_true, false_implies, ne_eq, implies_true, true_implies, ev_some, n12, n6, ni, ev_eq (h.on1 hi'), h.nP hi', ev_eq (c_leg h hi' (h.nPB hi') (h.tPB0 ht)), ev_eq (t_leg h hi')]
    rcases h.on01 hi' with o | o
    · simp only [o, true_and, and_true, forall_const, not_true_eq_false, not_false_eq_true, false_implies, ne_eq, implies_true, true_implies, ev_some]
      have xb := hx
      unfold In at xb
      have m0 : mxV x 0 = x := by
        unfold mxV
        rw [if_neg]
        rw [Int32.lt_iff_toInt_lt, x0]
        omega
      have y0 : (-1 : Int32) ≤ y := by
        rw [Int32.le_iff_toInt_le, x1]
        rcases hxy with ⟨_, rfl⟩ | ⟨_, rfl, _⟩
        · omega
        · omega
      rw [m0, if_pos y0]
      refine Or.inl ⟨_, _, rfl, rfl, hi', hx, ?_⟩
      rcases hxy with ⟨⟨k, k1, k2, k3⟩, e⟩ | ⟨k, e⟩
      · exact Or.inl ⟨⟨k, by omega, k2, k3⟩, e⟩
      · refine Or.inr ⟨fun ⟨k', k1, k2, k3⟩ => ?_, e⟩
        by_cases e' : k' = i
        · subst e'; rw [o] at k3; exact absurd k3 (by decide)
        · exact k ⟨k', by omega, k2, k3⟩
    · simp only [o, d10, true_and, and_true, forall_const, not_true_eq_false, not_false_eq_true, false_implies, ne_eq, implies_true, true_implies, ev_some]
      have lb := legB h hi' (h.nPB hi') (h.tPB0 ht)
      generalize legV S i (tI S 27 i) (tI S 6 t) = L at lb ⊢
      unfold In at hx lb
      have e1 : mxV x L = if L ≤ y then y else L := by
        unfold mxV
        rcases hxy with ⟨_, rfl⟩ | ⟨_, rfl, rfl⟩
        · rw [← Int32.toInt_inj]
          simp only [Int32.lt_iff_toInt_lt, Int32.le_iff_toInt_le]
          split <;> split <;> omega
        · rw [← Int32.toInt_inj]
          simp only [Int32.lt_iff_toInt_lt, Int32.le_iff_toInt_le]
          split <;> split <;> omega
      rw [← e1]
      refine Or.inl ⟨_, _, rfl, rfl, hi', ?_, Or.inl ⟨⟨i, by omega, hi', o⟩, rfl⟩⟩
      unfold mxV In
      split <;> omega) N 0 (by omega) (by omega) 0 (-1) ⟨by unfold In; decide, Or.inr ⟨fun ⟨k, hk, _⟩ => by omega, rfl, rfl⟩⟩
  obtain ⟨r, r1, r', r2, r3, r4⟩ := key
  rw [← z0] at r1 r2
  rw [r1]
  simp only [ev_some]
  rw [r2]
  simp only [ev_some]
  exact ⟨r3, r4⟩
theorem bits_any : ∀ n : Fin 7, ∀ o : Fin 64, o.val < 2 ^ n.val → (Int32.ofNat o = 0 ∧ ∀ k : Fin 6, ¬ (Int32.ofNat o >>> (Int32.ofNat k &&& 31)) &&& 1 = 1) ∨ (¬ Int32.ofNat o = 0 ∧ ∃ k : Fin 6, k.val < n.val ∧ (Int32.ofNat o >>> (Int32.ofNat k &&& 31)) &&& 1 = 1) := by decide +kernel
theorem Ful.onB (h : Ful M S g nT nH nL ns nk nt) {k : Nat} (hk : k < nH) : (mI M 13 7 >>> (Int32.ofNat k &&& 31)) &&& 1 = 1 ↔ tI S 31 k = 1 := by
  have e := h.si.onv k hk
  unfold onV at e
  rw [h.wt] at e
  have d : ¬ ((-1 : Int32) = 2) := by decide
  rw [if_neg d] at e
  simp only [Nat.mul_zero, Nat.zero_add] at e
  rw [← e]
  split
  · rename_i hh; exact ⟨fun _ => rfl, fun _ => hh⟩
  · rename_i hh; exact ⟨fun x => absurd x hh, fun x => absurd x (by decide)⟩
theorem Ful.any (h : Ful M S g nT nH nL ns nk nt) : (mI M 13 7 = 0 ∧ ¬ AnyOn S nH) ∨ (¬ mI M 13 7 = 0 ∧ AnyOn S nH) := by
  obtain ⟨o, ho, e⟩ := h.si.onb
  have hn := h.rd.nh
  have h6 := pow_le hn
  rw [e]
  rcases bits_any ⟨nH, by omega⟩ ⟨o, by omega⟩ ho with ⟨h1, h2⟩ | ⟨h1, k, h2, h3⟩
  · refine Or.inl ⟨h1, fun ⟨k, hk, ek⟩ => ?_⟩
    have := (h.onB hk).mpr ek
    rw [e] at this
    exact h2 ⟨k, by omega⟩ this
  · refine Or.inr ⟨h1, ⟨k.val, h2, ?_⟩⟩
    have := (h.onB h2).mp
    rw [e] at this
    exact this h3
theorem L_gather (h : Ful M S g nT nH nL ns nk nt) {N : Nat} (hN : 1000 ≤ N) (a : Int32) : ev (f_X1_gather N 0 a M) fun r => ev (tw_gather N a S) fun q => q.1 = r ∧ KpS S q.2 := by
  have k := KpS_2 S 0
  have h := h.t2
  have hn := h.rd.nh
  have hn2 := h.rd.nt
  obtain ⟨r, a1, a2, a3⟩ := r_in (a := a) (l := 0) (u := 1) (L := 0) (U := 1) (by decide) (by decide) M (tsI S 0 2 0)
  have d10 : ((1 : Int32) = 0) = False := eq_false (by decide)
  have z0 : (0 : Int32) = Int32.ofNat 0 := rfl
  unfold f_X1_gather tw_gather
  simp only [ev_some, ev_none, ev_be, ev_gd, ev_bd, ev_bd2, ev_bd3, ev_bd4, ev_ite, a1, a2, h.tt.k, a_troughs h.tt h.rd, h.tt.r9, h.tt.s13.k, true_and, and_true, forall_const, not_true_eq_false, not_false_eq_true, false_implies, ne_eq, implies_true, true_implies, ev_some]
  generalize tsI S 0 2 0 = S1 at h k ⊢
  rcases a3 with rfl | ⟨rfl, _⟩
  · simp only [true_and, and_true, forall_const, not_true_eq_false, not_false_eq_true, false_implies, ne_eq, implies_true, true_implies, ev_some]; exact k
  simp only [d10, true_and, and_true, forall_const, not_true_eq_false, not_false_eq_true, false_implies, ne_eq, implies_true, true_implies, ev_some]
  have tot : ∀ t, t < nT → ∃ H, f_X1_hoursTo N 0 (Int32.ofNat t) M = some H ∧ In H 0 60 := by
    intro t ht
    obtain ⟨H, h1, h2, _⟩ := r_hoursTo h hN ht 0 0 0
    exact ⟨H, h1, h2⟩
  -- nothing to gather
  have none_case : (nT = 0 ∨ ¬ AnyOn S1 nH) → ev (lp N (fun s : Int32 × Int32 × Int32 => tw_gather_b1 N a S1 s.1 s.2.1 s.2.2) (0, -2, -2)) fun q => q.2 = (-2, -2) := by
    intro hc
    have key := lp_for (f := fun s : Int32 × (Int32 × Int32) => tw_gather_b1 N a S1 s.1 s.2.1 s.2.2) (g := fun s : Int32 × (Int32 × Int32) => tw_gather_b1 N a S1 s.1 s.2.1 s.2.2) (R := fun r _ => r.2 = (-2, -2)) (fun _ x y => x = (-2, -2) ∧ y = x) nT (by
      rintro i hi _ _ ⟨rfl, rfl⟩
      have l1 : (Int32.ofNat nT ≤ Int32.ofNat i) = (nT ≤ i) := i_le (by omega) (by omega)
      have : ev (tw_gather_b1 N a S1 (Int32.ofNat i) (-2) (-2)) fun x => (x = .inr (Int32.ofNat (i + 1), -2, -2) ∧ i < nT) ∨ ∃ r, x = .inl r ∧ r.2 = (-2, -2) := by
        unfold tw_gather_b1
        simp only [ev_some, ev_none, ev_be, ev_gd, ev_bd, ev_bd2, ev_bd3, ev_bd4, ev_ite, h.c12, l1, true_and, and_true, forall_const, not_true_eq_false, not_false_eq_true, false_implies, ne_eq, implies_true, true_implies, ev_some, i_succ]
        by_cases e0 : nT ≤ i
        · simp only [e0, true_and, and_true, forall_const, not_true_eq_false, not_false_eq_true, false_implies, ne_eq, implies_true, true_implies, ev_some]
          exact Or.inr ⟨_, rfl, rfl⟩
        simp only [e0, true_and, and_true, forall_const, not_true_eq_false, not_false_eq_true, false_implies, ne_eq, implies_true, true_implies, ev_some]
        obtain ⟨H, h1, h2, q, h3, h4⟩ := r_hoursTo h hN (show i < nT by omega) (-2) (-2) a
        rcases h4 with ⟨h4, _⟩ | ⟨_, h5⟩
        · rcases hc with hc | hc
          · omega
          · exact absurd h4 hc
        · simp only [h3, ev_some, h5, n1_lt', true_and, and_true, forall_const, not_true_eq_false, not_false_eq_true, false_implies, ne_eq, implies_true, true_implies, ev_some]
          exact Or.inl (by omega)
      obtain ⟨x, x1, x2⟩ := this
      refine ⟨x, x1, x, x1, ?_⟩
      rcases x2 with ⟨rfl, h2⟩ | ⟨r, rfl, h2⟩
      · exact Or.inl ⟨_, _, rfl, rfl, h2, rfl, rfl⟩
      · exact Or.inr ⟨_, _, rfl, rfl, h2⟩) N 0 (by omega) (by omega) (-2, -2) (-2, -2) ⟨rfl, rfl⟩
    rw [← z0] at key
    refine ev_mono key ?_
    rintro q ⟨_, _, hq⟩
    exact hq
  have n0 : (Int32.ofNat nT = 0) = (nT = 0) := by rw [z0]; exact i_eq (by omega) (by omega)
  simp only [n0]
  by_cases e0 : nT = 0
  · obtain ⟨q, q1, q2⟩ := none_case (Or.inl e0)
    simp only [e0, q1, q2, ev_some, true_and, and_true, forall_const, not_true_eq_false, not_false_eq_true, false_implies, ne_eq, implies_true, true_implies, ev_some]
    by_cases ea : a = 0 <;> simp [ea, k]
  simp only [e0, true_and, and_true, forall_const, not_true_eq_false, not_false_eq_true, false_implies, ne_eq, implies_true, true_implies, ev_some]
  rcases h.any with ⟨e1, e2⟩ | ⟨e1, e2⟩
  · obtain ⟨q, q1, q2⟩ := none_case (Or.inr e2)
    simp only [e1, q1, q2, ev_some, true_and, and_true, forall_const, not_true_eq_false, not_false_eq_true, false_implies, ne_eq, implies_true, true_implies, ev_some]
    by_cases ea : a = 0 <;> simp [ea, k]
  simp only [e1, true_and, and_true, forall_const, not_true_eq_false, not_false_eq_true, false_implies, ne_eq, implies_true, true_implies, ev_some]
  obtain ⟨H0, g1, g2, q0, g3, g4⟩ := r_hoursTo h hN (show 0 < nT by omega) (-2) (-2) a
  have q0H : q0.2 = H0 := by
    rcases g4 with ⟨_, e⟩ | ⟨e, _⟩
    · exact e
    · exact absurd e2 e
  have x0 : (0 : Int32).toInt = 0 := by decide
  have first : tw_gather_b1 N a S1 0 (-2) (-2) = some (.inr (Int32.ofNat 1, H0, 0)) := by
    unfold tw_gather_b1
    rw [h.c12]
    rw [← z0] at g3
    have l1 : ¬ (Int32.ofNat nT ≤ 0) := by rw [z0, i_le (by omega) (by omega)]; omega
    have h0 : ¬ H0 < 0 := by
      unfold In at g2
      rw [Int32.lt_iff_toInt_lt, x0]
      omega
    obtain ⟨q1, q2⟩ := q0
    simp only at q0H
    subst q0H
    rw [if_neg l1, g3]
    simp only [bd2]
    rw [if_neg h0, if_pos (by decide)]
    rfl
  have key := lp_for2 (f := fun s : Int32 × Int32 => f_X1_gather_b1 N 0 a M s.1 s.2) (g := fun s : Int32 × (Int32 × Int32) => tw_gather_b1 N a S1 s.1 s.2.1 s.2.2) (R := fun r r' => r'.2.2 = r.2 ∧ ∃ j, j < nT ∧ r.2 = Int32.ofNat j ∧ f_X1_hoursTo N 0 (Int32.ofNat j) M = some r'.2.1) (fun i x y => y.2 = x ∧ ∃ j, j < nT ∧ x = Int32.ofNat j ∧ f_X1_hoursTo N 0 (Int32.ofNat j) M = some y.1 ∧ In y.1 0 60) nT (by
    rintro i hi x ⟨y1, y2⟩ ⟨rfl, j, hj, ej, ey, yb⟩
    simp only at ej ey yb
    subst ej
    have l1 : (Int32.ofNat nT ≤ Int32.ofNat i) = (nT ≤ i) := i_le (by omega) (by omega)
    unfold f_X1_gather_b1 tw_gather_b1
    simp only [ev_some, ev_none, ev_be, ev_gd, ev_bd, ev_bd2, ev_bd3, ev_bd4, ev_ite, h.tt.k, a_troughs h.tt h.rd, h.c12, l1, true_and, and_true, forall_const, not_true_eq_false, not_false_eq_true, false_implies, ne_eq, implies_true, true_implies, ev_some, i_succ]
    by_cases e0 : nT ≤ i
    · simp only [e0, true_and, and_true, forall_const, not_true_eq_false, not_false_eq_true, false_implies, ne_eq, implies_true, true_implies, ev_some]
      exact Or.inr ⟨_, _, rfl, rfl, rfl, j, hj, rfl, ey⟩
    have hi' : i < nT := by omega
    obtain ⟨H, u1, u2, q, u3, u4⟩ := r_hoursTo h hN hi' y1 (Int32.ofNat j) a
    have qH : q.2 = H := by
      rcases u4 with ⟨_, e⟩ | ⟨e, _⟩
      · exact e
      · exact absurd e2 e
    have hH : ¬ H < 0 := by
      unfold In at u2
      rw [Int32.lt_iff_toInt_lt, x0]
      omega
    simp only [e0, u1, u3, ey, ev_some, qH, hH, i_lt0 (show j < 2147483648 by omega), true_and, and_true, forall_const, not_true_eq_false, not_false_eq_true, false_implies, ne_eq, implies_true, true_implies, ev_some]
    by_cases e3 : y1 ≤ H
    · have e4 : ¬ H < y1 := by rw [Int32.le_iff_toInt_le] at e3; rw [Int32.lt_iff_toInt_lt]; omega
      simp only [e3, e4, true_and, and_true, forall_const, not_true_eq_false, not_false_eq_true, false_implies, ne_eq, implies_true, true_implies, ev_some, if_true]
      exact Or.inl ⟨_, _, rfl, rfl, hi', rfl, j, hj, rfl, ey, yb⟩
    · have e4 : H < y1 := by rw [Int32.le_iff_toInt_le] at e3; rw [Int32.lt_iff_toInt_lt]; omega
      simp only [e3, e4, true_and, and_true, forall_const, not_true_eq_false, not_false_eq_true, false_implies, ne_eq, implies_true, true_implies, ev_some, if_false]
      exact Or.inl ⟨_, _, rfl, rfl, hi', rfl, i, hi', rfl, u1, u2⟩) N (N - 1) 1 (by omega) (by omega) (by omega) 0 (H0, 0) ⟨rfl, 0, by omega, rfl, g1, g2⟩
  obtain ⟨r, r1, r', r2, r3, j, hj, ej, eH⟩ := key
  have run : lp N (fun s : Int32 × Int32 × Int32 => tw_gather_b1 N a S1 s.1 s.2.1 s.2.2) (0, -2, -2) = some r' := by
    rw [lp_one (by omega) first]
    exact r2
  have r1' : lp N (fun s : Int32 × Int32 => f_X1_gather_b1 N 0 a M s.1 s.2) (1, 0) = some r := r1
  simp only [r1', run, ev_some]
  rw [ej] at r3 ⊢
  by_cases ea : a = 0
  · simp only [ea, true_and, and_true, forall_const, not_true_eq_false, not_false_eq_true, false_implies, ne_eq, implies_true, true_implies, ev_some, if_true]
    exact ⟨r3, k⟩
  · simp only [ea, true_and, and_true, forall_const, not_true_eq_false, not_false_eq_true, false_implies, ne_eq, implies_true, true_implies, ev_some, if_false, eH, ev_some]
    exact k
theorem L_round (h : Ful M S g nT nH nL ns nk nt) {N : Nat} (hN : 1000 ≤ N) (a : Int32) : ev (f_X1_round N 0 a M) fun r => ev (tw_round N a S) fun q => q.1 = r ∧ KpS S q.2 := by
  have k := KpS_2 S 0
  have h := h.t2
  have hn := h.rd.nt
  have hn2 := h.rd.nh
  obtain ⟨r, a1, a2, a3⟩ := r_isHorse h a
  have d10 : ((1 : Int32) = 0) = False := eq_false (by decide)
  have z0 : (0 : Int32) = Int32.ofNat 0 := rfl
  have n0 : (Int32.ofNat nT = 0) = (nT = 0) := by rw [z0]; exact i_eq (by omega) (by omega)
  unfold f_X1_round tw_round
  simp only [ev_some, ev_none, ev_be, ev_gd, ev_bd, ev_bd2, ev_bd3, ev_bd4, ev_ite, a1, a2, h.tt.k, true_and, and_true, forall_const, not_true_eq_false, not_false_eq_true, false_implies, ne_eq, implies_true, true_implies, ev_some, a_troughs h.tt h.rd, h.c12, n0]
  generalize tsI S 0 2 0 = S1 at h k ⊢
  rcases a3 with rfl | ⟨rfl, w, hw, rfl⟩
  · simp only [true_and, and_true, forall_const, not_true_eq_false, not_false_eq_true, false_implies, ne_eq, implies_true, true_implies, ev_some]; exact k
  simp only [d10, true_and, and_true, forall_const, not_true_eq_false, not_false_eq_true, false_implies, ne_eq, implies_true, true_implies, ev_some]
  by_cases e0 : nT = 0
  · simp only [e0, true_and, and_true, forall_const, not_true_eq_false, not_false_eq_true, false_implies, ne_eq, implies_true, true_implies, ev_some]; exact k
  have w12 : inb (Int32.ofNat w) 12 = True := i_inb (by omega) (by omega)
  have w6 : inb (Int32.ofNat w) 6 = True := i_inb (by omega) (by omega)
  have wi : (Int32.ofNat w).toNatClampNeg = w := i_toN (by omega)
  simp only [e0, true_and, and_true, forall_const, not_true_eq_false, not_false_eq_true, false_implies, ne_eq, implies_true, true_implies, ev_some, h.tt.r9, h.tt.s13.k, h.tt.s13.r0, h.tt.s13.k1, h.tt.s13.n1, w12, w6, wi, h.nP hw, c_abs, t_abs, c_min, le_1, le_2, le_3, le_4, le_5, le_6, le_7, le_8, le_9, le_10, le_11, le_12, le_13, le_14, le_15, le_16, le_17, le_18, le_19, le_20, le_21, le_22, le_23, le_24, le_25, le_26, le_27, le_28, le_29, le_30, le_31, le_32, le_33, le_34, le_35, le_36, le_37, le_38, le_39, le_40, le_41, le_42, le_43, le_44, le_45, li_0]
  have x60 : (60 : Int32).toInt = 60 := by decide
  have x0 : (0 : Int32).toInt = 0 := by decide
  have p0 := h.tPB0 (show 0 < nT by omega)
  have first : f_X1_round_b1 N (tI S1 27 w) 0 (Int32.ofNat w) M 0 0 60 = some (.inr (Int32.ofNat 1, tI S1 6 0, tI S1 6 0)) := by
    unfold f_X1_round_b1 gd
    have l1 : ¬ (Int32.ofNat nT ≤ 0) := by rw [z0, i_le (by omega) (by omega)]; omega
    have t0 := a_trough h.tt h.rd (show 0 < nT by omega)
    rw [← z0] at t0
    unfold In at p0
    have m1 : mnV 60 (tI S1 6 0) = tI S1 6 0 := by
      unfold mnV
      rw [← Int32.toInt_inj]
      simp only [Int32.lt_iff_toInt_lt, x60]
      split
      · rfl
      · omega
    have m2 : mxV 0 (tI S1 6 0) = tI S1 6 0 := by
      unfold mxV
      rw [← Int32.toInt_inj]
      simp only [Int32.lt_iff_toInt_lt, x0]
      split
      · rfl
      · omega
    simp only [h.tt.k, if_true, a_troughs h.tt h.rd, bd, l1, if_false, t0, h.rd.tk (show 0 < nT by omega), h.tP0 (show 0 < nT by omega), c_min, c_max, m1, m2, be]
    rfl
  have key := lp_for2 (f := fun s : Int32 × (Int32 × Int32) => f_X1_round_b1 N (tI S1 27 w) 0 (Int32.ofNat w) M s.1 s.2.1 s.2.2) (g := fun s : Int32 × (Int32 × Int32) => tw_round_b1 N (Int32.ofNat w) S1 s.1 s.2.1 s.2.2) (R := fun r r' => r'.2 = r.2) (fun i x y => y = x) nT (by
    rintro i hi _ ⟨x1, x2⟩ rfl
    have l1 : (Int32.ofNat nT ≤ Int32.ofNat i) = (nT ≤ i) := i_le (by omega) (by omega)
    unfold f_X1_round_b1 tw_round_b1
    simp only [ev_some, ev_none, ev_be, ev_gd, ev_bd, ev_bd2, ev_bd3, ev_bd4, ev_ite, h.tt.k, a_troughs h.tt h.rd, h.c12, l1, true_and, and_true, forall_const, not_true_eq_false, not_false_eq_true, false_implies, ne_eq, implies_true, true_implies, ev_some, i_succ]
    by_cases e0 : nT ≤ i
    · simp only [e0, true_and, and_true, forall_const, not_true_eq_false, not_false_eq_true, false_implies, ne_eq, implies_true, true_implies, ev_some]
      exact Or.inr ⟨_, _, rfl, rfl, rfl⟩
    have hi' : i < nT := by omega
    have n12 : inb (Int32.ofNat i) 12 = True := i_inb (by omega) (by omega)
    have ni : (Int32.ofNat i).toNatClampNeg = i := i_toN (by omega)
    simp only [e0, true_and, and_true, forall_const, not_true_eq_false, not_false_eq_true, false_implies, ne_eq, implies_true, true_implies, ev_some, ev_eq (a_trough h.tt h.rd hi'), h.rd.tk hi', h.tP0 hi', c_min, c_max, le_1, le_2, le_3, le_4, le_5, le_6, le_7, le_8, le_9, le_10, le_11, le_12, le_13, le_14, le_15, le_16, le_17, le_18, le_19, le_20, le_21, le_22, le_23, le_24, le_25, le_26, le_27, le_28, le_29, le_30, le_31, le_32, le_33, le_34, le_35, le_36, le_37, le_38, le_39, le_40, le_41, le_42, le_43, le_44, le_45, n12, ni]
    have m1 : mnV x2 (tI S1 6 i) = if x2 ≤ tI S1 6 i then x2 else tI S1 6 i := by
      unfold mnV
      rw [← Int32.toInt_inj]
      simp only [Int32.lt_iff_toInt_lt, Int32.le_iff_toInt_le]
      split <;> split <;> omega
    have m2 : mxV x1 (tI S1 6 i) = if tI S1 6 i ≤ x1 then x1 else tI S1 6 i := by
      unfold mxV
      rw [← Int32.toInt_inj]
      simp only [Int32.lt_iff_toInt_lt, Int32.le_iff_toInt_le]
      split <;> split <;> omega
    rw [m1, m2]
    by_cases c1 : x2 ≤ tI S1 6 i
    · by_cases c2 : tI S1 6 i ≤ x1
      · simp only [c1, c2, true_and, and_true, forall_const, not_true_eq_false, not_false_eq_true, false_implies, ne_eq, implies_true, true_implies, ev_some, if_true, if_false]
        exact Or.inl ⟨_, _, rfl, rfl, hi', rfl⟩
      · simp only [c1, c2, true_and, and_true, forall_const, not_true_eq_false, not_false_eq_true, false_implies, ne_eq, implies_true, true_implies, ev_some, if_true, if_false]
        exact Or.inl ⟨_, _, rfl, rfl, hi', rfl⟩
    · by_cases c2 : tI S1 6 i ≤ x1
      · simp only [c1, c2, true_and, and_true, forall_const, not_true_eq_false, not_false_eq_true, false_implies, ne_eq, implies_true, true_implies, ev_some, if_true, if_false]
        exact Or.inl ⟨_, _, rfl, rfl, hi', rfl⟩
      · simp only [c1, c2, true_and, and_true, forall_const, not_true_eq_false, not_false_eq_true, false_implies, ne_eq, implies_true, true_implies, ev_some, if_true, if_false]
        exact Or.inl ⟨_, _, rfl, rfl, hi', rfl⟩) (N - 1) N 1 (by omega) (by omega) (by omega) (tI S1 6 0, tI S1 6 0) (tI S1 6 0, tI S1 6 0) rfl
  obtain ⟨r, r1, r', r2, r3⟩ := key
  have run : lp N (fun s : Int32 × Int32 × Int32 => f_X1_round_b1 N (tI S1 27 w) 0 (Int32.ofNat w) M s.1 s.2.1 s.2.2) (0, 0, 60) = some r := by
    rw [lp_one (by omega) first]
    exact r1
  have r2' : lp N (fun s : Int32 × Int32 × Int32 => tw_round_b1 N (Int32.ofNat w) S1 s.1 s.2.1 s.2.2) (1, tI S1 6 0, tI S1 6 0) = some r' := r2
  simp only [run, r2', ev_some, r3]
  generalize abV (tI S1 27 w - r.2.2) = X
  generalize abV (tI S1 27 w - r.2.1) = Y
  have m : mnV X Y = if Y ≤ X then Y else X := by
    unfold mnV
    rw [← Int32.toInt_inj]
    simp only [Int32.lt_iff_toInt_lt, Int32.le_iff_toInt_le]
    split <;> split <;> omega
  rw [m]
  exact ⟨rfl, k⟩
end
