set_option maxRecDepth 100000
section
/-- n knots from i on -/
def rn : Nat → Nat → TS → Option TS
  | 0, _, S => some S
  | n + 1, i, S => bd2 (tw_valueOf (Int32.ofNat i) S) fun r S' => rn n (i + 1) (tsL S' 26 i r)
theorem rn_0 (i : Nat) (S : TS) : rn 0 i S = some S := rfl
theorem rn_s (n i : Nat) (S : TS) : rn (n + 1) i S = bd2 (tw_valueOf (Int32.ofNat i) S) fun r S' => rn n (i + 1) (tsL S' 26 i r) := rfl
theorem rn_add : ∀ (m n i : Nat) (S : TS), rn (m + n) i S = bd (rn m i S) fun S' => rn n (i + m) S' := by
  intro m
  induction m with
  | zero => intro n i S; rw [Nat.zero_add]; rfl
  | succ m ih =>
    intro n i S
    rw [Nat.add_right_comm, rn_s, rn_s]
    cases tw_valueOf (Int32.ofNat i) S with
    | none => rfl
    | some q =>
      simp only [bd2]
      rw [ih, show i + 1 + m = i + (m + 1) by omega]
/-- as S but for the error and the values from lo to hi -/
def AgV (lo hi : Nat) (S S' : TS) : Prop := (∀ j k, ¬ (j = 0 ∧ k = 53) → tI S' j k = tI S j k) ∧ ∀ j k, ¬ (j = 26 ∧ lo ≤ k ∧ k < hi) → tL S' j k = tL S j k
theorem AgV_E {S S' : TS} {lo hi : Nat} (h : AgE S S') : AgV lo hi S S' := ⟨h.1, fun j k _ => by rw [h.2]⟩
theorem AgV_trans {lo hi lo' hi' lo2 hi2 : Nat} {S S' S'' : TS} (h : AgV lo hi S S') (k : AgV lo' hi' S' S'') (h1 : lo2 ≤ lo) (h2 : hi ≤ hi2) (h3 : lo2 ≤ lo') (h4 : hi' ≤ hi2) : AgV lo2 hi2 S S'' :=
  ⟨fun j x hx => (k.1 j x hx).trans (h.1 j x hx), fun j x hx => (k.2 j x (by omega)).trans (h.2 j x (by omega))⟩
theorem AgV_set {S : TS} {lo hi i : Nat} {v : Int64} (h1 : lo ≤ i) (h2 : i < hi) : AgV lo hi S (tsL S 26 i v) := by
  refine ⟨fun j k _ => rfl, fun j k h => ?_⟩
  rw [tL_tsL, if_neg]
  omega
def ErR (S1 S2 : TS) (v : Int64) (x : Option (Option Int64)) : Prop := (tI S2 0 53 = 0 ∨ tI S2 0 53 = 1) ∧ (tI S1 0 53 = 1 → tI S2 0 53 = 1) ∧ (tI S1 0 53 = 0 → (x = some (some v) ∧ tI S2 0 53 = 0) ∨ (x = some none ∧ tI S2 0 53 = 1))
theorem pof_10 {d p nm : Nat} {M : Mem} (h : mT M p = 10) : pof (d + 1) p nm M = some (some (mI M p 0).toInt64) := by
  unfold pof f_X15_of gd
  simp only [h, if_true, bd]
theorem pof_11 {d p w : Nat} {M : Mem} (h : mT M p = 11) (hw : w < 7) (e : mI M p 0 = Int32.ofNat w) (h11 : mT M 11 = 103) (n11 : mLn M 11 = 7) : pof (d + 1) p 11 M = some (some (mL M 11 w)) := by
  have i1 : inb (Int32.ofNat w) 7 = True := i_inb (by omega) (by omega)
  have i2 : (Int32.ofNat w).toNatClampNeg = w := i_toN (by omega)
  unfold pof f_X16_of gd
  simp only [h, if_true, bd, e, h11, n11, i1, i2]
  rfl
theorem pof_12 {d p : Nat} {M : Mem} (h : mT M p = 12) (nm : Nat) : pof (d + 1) p nm M = f_X17_of (pof d) p nm M := by
  rw [pof]
  simp only [h]
  rfl
theorem pof_13 {d p : Nat} {M : Mem} (h : mT M p = 13) (nm : Nat) : pof (d + 1) p nm M = f_X18_of (pof d) p nm M := by
  rw [pof]
  simp only [h, gd]
  rfl
theorem tev {M : Mem} {S : TS} (h11 : mT M 11 = 103) (n11 : mLn M 11 = 7) : ∀ d p lo hi, Tr M S 0 d p lo hi → ∀ S1, (∀ j k, ¬ (j = 0 ∧ k = 53) → tI S1 j k = tI S j k) → NmE M S1 → (tI S1 0 53 = 0 ∨ tI S1 0 53 = 1) →
    lo < hi ∧ ev (rn (hi - lo) lo S1) fun S2 => AgV lo hi S1 S2 ∧ ErR S1 S2 (tL S2 26 (hi - 1)) (pof d p 11 M) := by
  intro d
  induction d with
  | zero => intro p lo hi h; exact h.elim
  | succ d ih =>
    intro p lo hi h S1 hS hN hE
    obtain ⟨hhi, h⟩ := h
    simp only [Nat.zero_add] at h
    rcases h with ⟨h1, h2, h3, h4⟩ | ⟨h1, h2, h3, h4, w, h5, h6⟩ | ⟨h1, a, m, h2, h3, h4, h5, h6, h7⟩ | ⟨h1, a, b, m, n, w, h2, h3, h4, h5, h6, h7, h8, h9, h10, h11', h12⟩
    · subst h2
      have i1 : inb (Int32.ofNat lo) 128 = True := i_inb (by omega) (by omega)
      have i2 : (Int32.ofNat lo).toNatClampNeg = lo := i_toN (by omega)
      refine ⟨by omega, ?_⟩
      rw [show lo + 1 - lo = 1 by omega, pof_10 h1]
      unfold rn tw_valueOf
      simp only [ev_some, ev_none, ev_be, ev_gd, ev_bd, ev_bd2, ev_bd3, ev_bd4, ev_ite, i1, i2, le_20, le_21, hS 20 lo (by omega), hS 21 lo (by omega), h3, h4, rn, if_true, true_and, and_true, forall_const, not_true_eq_false, not_false_eq_true, false_implies, ne_eq, implies_true, true_implies, ev_some]
      refine ⟨AgV_set (by omega) (by omega), hE, id, fun h0 => Or.inl ⟨?_, h0⟩⟩
      simp [tL_tsL]
    · subst h2
      have i1 : inb (Int32.ofNat lo) 128 = True := i_inb (by omega) (by omega)
      have i2 : (Int32.ofNat lo).toNatClampNeg = lo := i_toN (by omega)
      have i3 : inb (Int32.ofNat w) 7 = True := i_inb (by omega) (by omega)
      have i4 : (Int32.ofNat w).toNatClampNeg = w := i_toN (by omega)
      refine ⟨by omega, ?_⟩
      rw [show lo + 1 - lo = 1 by omega, pof_11 h1 h5 h6 h11 n11]
      unfold rn tw_valueOf
      have d10 : ((1 : Int32) = 0) = False := eq_false (by decide)
      simp only [ev_some, ev_none, ev_be, ev_gd, ev_bd, ev_bd2, ev_bd3, ev_bd4, ev_ite, i1, i2, le_20, le_21, le_25, hS 20 lo (by omega), hS 21 lo (by omega), h3, h4, h6, i3, i4, rn, if_true, if_false, d10, true_and, and_true, forall_const, not_true_eq_false, not_false_eq_true, false_implies, ne_eq, implies_true, true_implies, ev_some]
      refine ⟨AgV_set (by omega) (by omega), hE, id, fun h0 => Or.inl ⟨?_, h0⟩⟩
      simp [tL_tsL]
      exact hN w h5
    · subst h3
      refine ⟨by omega, ?_⟩
      obtain ⟨g1, S2, g2, g3, g4⟩ := ih a lo m h5 S1 hS hN hE
      rw [show m + 1 - lo = (m - lo) + 1 by omega, rn_add, g2, pof_12 h1]
      have i1 : inb (Int32.ofNat m) 128 = True := i_inb (by omega) (by omega)
      have i2 : (Int32.ofNat m).toNatClampNeg = m := i_toN (by omega)
      have i3 : inb (Int32.ofNat (m - 1)) 64 = True := i_inb (by omega) (by omega)
      have i4 : (Int32.ofNat (m - 1)).toNatClampNeg = m - 1 := i_toN (by omega)
      have d20 : ((2 : Int32) = 0) = False := eq_false (by decide)
      have d21 : ((2 : Int32) = 1) = False := eq_false (by decide)
      have k20 : tI S2 20 m = 2 := by rw [g3.1 20 m (by omega), hS 20 m (by omega), h6]
      have k21 : tI S2 21 m = Int32.ofNat (m - 1) := by rw [g3.1 21 m (by omega), hS 21 m (by omega), h7]
      rw [show lo + (m - lo) = m by omega]
      simp only [ev_bd, ev_some, rn_s, rn_0, ev_bd2]
      unfold tw_valueOf
      simp only [ev_some, ev_none, ev_be, ev_gd, ev_bd, ev_bd2, ev_bd3, ev_bd4, ev_ite, i1, i2, i3, i4, le_20, le_21, le_26, k20, k21, if_true, if_false, d20, d21, true_and, and_true, forall_const, not_true_eq_false, not_false_eq_true, false_implies, ne_eq, implies_true, true_implies, ev_some]
      refine ⟨AgV_trans g3 (AgV_set (lo := lo) (hi := m + 1) (by omega) (by omega)) (by omega) (by omega) (by omega) (by omega), g4.1, g4.2.1, fun h0 => ?_⟩
      have hv : ∀ r : Int64, tL (tsL S2 26 m r) 26 (m + 1 - 1) = r := by
        intro r
        rw [tL_tsL, if_pos]
        omega
      rw [hv]
      unfold f_X17_of gd
      simp only [h1, true_or, if_true, h2, bd, be]
      rcases g4.2.2 h0 with ⟨x1, x2⟩ | ⟨x1, x2⟩
      · exact Or.inl ⟨by rw [x1]; rfl, x2⟩
      · exact Or.inr ⟨by rw [x1]; rfl, x2⟩
    · subst h4
      refine ⟨by omega, ?_⟩
      obtain ⟨g1, S2, g2, g3, g4⟩ := ih a lo m h7 S1 hS hN hE
      obtain ⟨q1, S3, q2, q3, q4⟩ := ih b m n h8 S2 (fun j k hj => (g3.1 j k hj).trans (hS j k hj)) (fun w hw => by rw [g3.2 25 w (by omega)]; exact hN w hw) g4.1
      have k20 : tI S3 20 n = w := by rw [q3.1 20 n (by omega), g3.1 20 n (by omega), hS 20 n (by omega), h9]
      have k21 : tI S3 21 n = Int32.ofNat (m - 1) := by rw [q3.1 21 n (by omega), g3.1 21 n (by omega), hS 21 n (by omega), h10]
      have k22 : tI S3 22 n = Int32.ofNat (n - 1) := by rw [q3.1 22 n (by omega), g3.1 22 n (by omega), hS 22 n (by omega), h11']
      obtain ⟨⟨r, S4⟩, o1, X, o2, o3⟩ := node2 q4.1 (by omega) (by omega) (by omega) (by omega) h1 h2 h3 k20 k21 k22 h12
      have va : tL S3 26 (m - 1) = tL S2 26 (m - 1) := q3.2 26 (m - 1) (by omega)
      rw [show n + 1 - lo = (m - lo) + ((n - m) + 1) by omega, rn_add, g2]
      rw [pof_13 h1]
      simp only [ev_bd, ev_some]
      rw [show lo + (m - lo) = m by omega, rn_add, q2]
      simp only [ev_bd, ev_some]
      rw [show m + (n - m) = n by omega]
      simp only [rn_s, rn_0, ev_bd2, o1, ev_some]
      have hv : tL (tsL S4 26 n r) 26 (n + 1 - 1) = r := by
        rw [tL_tsL, if_pos]
        omega
      refine ⟨AgV_trans (AgV_trans g3 q3 (lo2 := lo) (hi2 := n) (by omega) (by omega) (by omega) (by omega)) (AgV_trans (AgV_E (lo := lo) (hi := n + 1) o3.1) (AgV_set (lo := lo) (hi := n + 1) (by omega) (by omega)) (lo2 := lo) (hi2 := n + 1) (by omega) (by omega) (by omega) (by omega)) (by omega) (by omega) (by omega) (by omega), o3.2.1, fun h0 => o3.2.2.1 (q4.2.1 (g4.2.1 h0)), fun h0 => ?_⟩
      rw [hv]
      rcases g4.2.2 h0 with ⟨x1, x2⟩ | ⟨x1, x2⟩
      · rcases q4.2.2 x2 with ⟨y1, y2⟩ | ⟨y1, y2⟩
        · rw [o2 (pof d) (by rw [x1, va]) y1]
          exact o3.2.2.2 y2
        · refine Or.inr ⟨?_, o3.2.2.1 y2⟩
          unfold f_X18_of gd
          simp only [h1, if_true, h2, bd, x1, btp_s, h3, y1, btp_n]
      · refine Or.inr ⟨?_, o3.2.2.1 (q4.2.1 x2)⟩
        unfold f_X18_of gd
        simp only [h1, if_true, h2, bd, x1, btp_n]
end
