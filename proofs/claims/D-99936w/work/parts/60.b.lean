set_option maxRecDepth 100000
section
/-! ===== Level 2: basics ===== -/
def ev {α : Type} (x : Option α) (P : α → Prop) : Prop := ∃ a, x = some a ∧ P a
theorem ev_some {α : Type} (a : α) (P : α → Prop) : ev (some a) P = P a := by
  apply propext
  exact ⟨fun ⟨b, h1, h2⟩ => (by cases h1; exact h2), fun h => ⟨a, rfl, h⟩⟩
theorem ev_none {α : Type} (P : α → Prop) : ev none P = False := by
  apply propext
  exact ⟨fun ⟨b, h1, _⟩ => (by cases h1), fun h => False.elim h⟩
theorem ev_be {α β : Type} (x : α) (f : α → Option β) (P : β → Prop) : ev (be x f) P = ev (f x) P := propext Iff.rfl
theorem ev_gd {α : Type} (c : Prop) [Decidable c] (e : Option α) (P : α → Prop) : ev (gd c e) P = (c ∧ ev e P) := by
  apply propext
  unfold gd
  by_cases h : c
  · rw [if_pos h]
    exact ⟨fun x => ⟨h, x⟩, fun x => x.2⟩
  · rw [if_neg h, ev_none]
    exact ⟨fun x => x.elim, fun x => h x.1⟩
theorem ev_bd {α β : Type} (x : Option α) (f : α → Option β) (P : β → Prop) : ev (bd x f) P = ev x (fun a => ev (f a) P) := by
  cases x with
  | none => rw [ev_none]; exact ev_none P
  | some a => rw [ev_some]; rfl
theorem ev_bd2 {α γ β : Type} (x : Option (α × γ)) (f : α → γ → Option β) (P : β → Prop) : ev (bd2 x f) P = ev x (fun a => ev (f a.1 a.2) P) := by
  cases x with
  | none => rw [ev_none]; exact ev_none P
  | some a => rw [ev_some]; rfl
theorem ev_bd3 {α γ δ β : Type} (x : Option (α × γ × δ)) (f : α → γ → δ → Option β) (P : β → Prop) : ev (bd3 x f) P = ev x (fun a => ev (f a.1 a.2.1 a.2.2) P) := by
  cases x with
  | none => rw [ev_none]; exact ev_none P
  | some a => rw [ev_some]; rfl
theorem ev_bd4 {α γ δ ε β : Type} (x : Option (α × γ × δ × ε)) (f : α → γ → δ → ε → Option β) (P : β → Prop) : ev (bd4 x f) P = ev x (fun a => ev (f a.1 a.2.1 a.2.2.1 a.2.2.2) P) := by
  cases x with
  | none => rw [ev_none]; exact ev_none P
  | some a => rw [ev_some]; rfl
theorem ev_ite {α : Type} (c : Prop) [Decidable c] (a b : Option α) (P : α → Prop) : ev (if c then a else b) P = ((c → ev a P) ∧ (¬ c → ev b P)) := by
  apply propext
  by_cases h : c
  · rw [if_pos h]
    exact ⟨fun x => ⟨fun _ => x, fun y => absurd h y⟩, fun x => x.1 h⟩
  · rw [if_neg h]
    exact ⟨fun x => ⟨fun y => absurd y h, fun _ => x⟩, fun x => x.2 h⟩
theorem ev_mono {α : Type} {x : Option α} {P Q : α → Prop} (h : ev x P) (k : ∀ a, P a → Q a) : ev x Q := by
  obtain ⟨a, h1, h2⟩ := h
  exact ⟨a, h1, k a h2⟩
theorem ev_of {α : Type} {x : Option α} {a : α} {P : α → Prop} (h : x = some a) (k : P a) : ev x P := ⟨a, h, k⟩
theorem ev_eq {α : Type} {x : Option α} {a : α} (h : x = some a) (P : α → Prop) : ev x P = P a := by rw [h, ev_some]
theorem ev_bx {α ρ β : Type} (x : Option (α ⊕ ρ)) (f : α → Option β) (k : ρ → Option β) (P : β → Prop) : ev (bx x f k) P = ev x (fun a => match a with
  | .inl a => ev (f a) P
  | .inr r => ev (k r) P) := by
  cases x with
  | none => rw [ev_none]; exact ev_none P
  | some a => cases a <;> (rw [ev_some]; rfl)
theorem ev_bx2 {α γ ρ β : Type} (x : Option ((α × γ) ⊕ ρ)) (f : α → γ → Option β) (k : ρ → Option β) (P : β → Prop) : ev (bx2 x f k) P = ev x (fun a => match a with
  | .inl a => ev (f a.1 a.2) P
  | .inr r => ev (k r) P) := by
  cases x with
  | none => rw [ev_none]; exact ev_none P
  | some a => cases a <;> (rw [ev_some]; rfl)
theorem ev_bx3 {α γ δ ρ β : Type} (x : Option ((α × γ × δ) ⊕ ρ)) (f : α → γ → δ → Option β) (k : ρ → Option β) (P : β → Prop) : ev (bx3 x f k) P = ev x (fun a => match a with
  | .inl a => ev (f a.1 a.2.1 a.2.2) P
  | .inr r => ev (k r) P) := by
  cases x with
  | none => rw [ev_none]; exact ev_none P
  | some a => cases a <;> (rw [ev_some]; rfl)
/-- one loop -/
theorem lp_ev {σ ρ : Type} {f : σ → Option (ρ ⊕ σ)} {R : ρ → Prop} (I : Nat → σ → Prop) (hs : ∀ n s, I n s → ev (f s) fun x => match x with
    | .inl r => R r
    | .inr s' => ∃ m, m < n ∧ I m s') : ∀ (N n : Nat) (s : σ), n < N → I n s → ev (lp N f s) R := by
  intro N
  induction N with
  | zero => intro n s h; omega
  | succ N ih =>
    intro n s hn hI
    obtain ⟨x, h1, h2⟩ := hs n s hI
    unfold lp
    rw [h1]
    cases x with
    | inl r => exact ⟨r, rfl, h2⟩
    | inr s' =>
      obtain ⟨m, h3, h4⟩ := h2
      exact ih m s' (by omega) h4
/-- two loops, side by side -/
theorem lp_rel {σ ρ σ' ρ' : Type} {f : σ → Option (ρ ⊕ σ)} {g : σ' → Option (ρ' ⊕ σ')} {R : ρ → ρ' → Prop} (I : Nat → σ → σ' → Prop)
    (hs : ∀ n s t, I n s t → ev (f s) fun x => ev (g t) fun y => match x, y with
    | .inl r, .inl r' => R r r'
    | .inr s', .inr t' => ∃ m, m < n ∧ I m s' t'
    | _, _ => False) : ∀ (N n : Nat) (s : σ) (t : σ'), n < N → I n s t → ev (lp N f s) fun r => ev (lp N g t) fun r' => R r r' := by
  intro N
  induction N with
  | zero => intro n s t h; omega
  | succ N ih =>
    intro n s t hn hI
    obtain ⟨x, h1, y, h2, h3⟩ := hs n s t hI
    unfold lp
    rw [h1, h2]
    cases x with
    | inl r =>
      cases y with
      | inl r' => exact ⟨r, rfl, r', rfl, h3⟩
      | inr t' => exact h3.elim
    | inr s' =>
      cases y with
      | inl r' => exact h3.elim
      | inr t' =>
        obtain ⟨m, h4, h5⟩ := h3
        exact ih m s' t' (by omega) h5
/-! numbers -/
theorem i_toN {k : Nat} (h : k < 2147483648) : (Int32.ofNat k).toNatClampNeg = k := by
  have h1 : (Int32.ofNat k).toInt = (k : Int) := Int32.toInt_ofNat_of_lt (by omega)
  unfold Int32.toNatClampNeg
  rw [h1]
  rfl
theorem i_toI {k : Nat} (h : k < 2147483648) : (Int32.ofNat k).toInt = (k : Int) := Int32.toInt_ofNat_of_lt (by omega)
theorem i_lt {j k : Nat} (hj : j < 2147483648) (hk : k < 2147483648) : (Int32.ofNat j < Int32.ofNat k) = (j < k) := by
  apply propext
  rw [Int32.lt_iff_toInt_lt, i_toI hj, i_toI hk]
  omega
theorem i_le {j k : Nat} (hj : j < 2147483648) (hk : k < 2147483648) : (Int32.ofNat j ≤ Int32.ofNat k) = (j ≤ k) := by
  apply propext
  rw [Int32.le_iff_toInt_le, i_toI hj, i_toI hk]
  omega
theorem i_eq {j k : Nat} (hj : j < 2147483648) (hk : k < 2147483648) : (Int32.ofNat j = Int32.ofNat k) = (j = k) := by
  apply propext
  rw [← Int32.toInt_inj, i_toI hj, i_toI hk]
  omega
theorem i_add (j k : Nat) : Int32.ofNat j + Int32.ofNat k = Int32.ofNat (j + k) := (Int32.ofNat_add j k).symm
theorem i_succ (k : Nat) : Int32.ofNat k + 1 = Int32.ofNat (k + 1) := (Int32.ofNat_add k 1).symm
theorem i_mul (j k : Nat) : Int32.ofNat j * Int32.ofNat k = Int32.ofNat (j * k) := (Int32.ofNat_mul j k).symm
theorem i_inb {k n : Nat} (h : k < n) (hn : n < 2147483648) : inb (Int32.ofNat k) n = True := by
  apply eq_true
  unfold inb
  rw [i_toN (by omega)]
  rintro (h1 | h1)
  · rw [Int32.lt_iff_toInt_lt, i_toI (by omega)] at h1
    have : (0 : Int32).toInt = 0 := by decide
    omega
  · omega
theorem i_of {x : Int32} (h : ¬ x < 0) : ∃ k : Nat, x = Int32.ofNat k ∧ k < 2147483648 := by
  refine ⟨x.toInt.toNat, ?_, ?_⟩
  · rw [← Int32.toInt_inj]
    rw [Int32.lt_iff_toInt_lt] at h
    have h0 : (0 : Int32).toInt = 0 := by decide
    have := x.toInt_lt
    rw [i_toI (by omega)]
    omega
  · have := x.toInt_lt
    omega
end
