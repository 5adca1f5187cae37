/-! ===== pure programs ===== -/
def be {α β : Type} (x : α) (f : α → β) : β := f x
def gd {α : Type} (c : Prop) [Decidable c] (e : Option α) : Option α := if c then e else none
def lp {σ ρ : Type} : Nat → (σ → Option (ρ ⊕ σ)) → σ → Option ρ
  | 0, _, _ => none
  | N + 1, f, s => match f s with
    | none => none
    | some (.inl r) => some r
    | some (.inr s') => lp N f s'
theorem be_of {α β : Type} {x : α} {f : α → Option β} {r : β} (h : be x f = some r) : ∃ y, y = x ∧ f y = some r := ⟨x, rfl, h⟩
theorem gd_of {α : Type} {c : Prop} [Decidable c] {e : Option α} {r : α} (h : gd c e = some r) : c ∧ e = some r := by
  unfold gd at h
  by_cases hc : c
  · rw [if_pos hc] at h
    exact ⟨hc, h⟩
  · rw [if_neg hc] at h
    cases h
theorem if_t {α : Type} {c : Prop} [Decidable c] {a b : Option α} {r : α} (hc : c) (h : (if c then a else b) = some r) : a = some r := by
  rw [if_pos hc] at h
  exact h
theorem if_f {α : Type} {c : Prop} [Decidable c] {a b : Option α} {r : α} (hc : ¬ c) (h : (if c then a else b) = some r) : b = some r := by
  rw [if_neg hc] at h
  exact h
theorem lp_walk {σ ρ : Type} {f : σ → Option (ρ ⊕ σ)} {r : ρ} {W : σ → Prop} (hs : ∀ s b, f s = some b → (∀ s', b = .inr s' → W s') → (∀ r', b = .inl r' → r' = r) → W s) : ∀ (N : Nat) (s : σ), lp N f s = some r → W s := by
  intro N
  induction N with
  | zero => intro s h; cases h
  | succ N ih =>
    intro s h
    unfold lp at h
    cases hf : f s with
    | none => rw [hf] at h; cases h
    | some b =>
      rw [hf] at h
      refine hs s b hf (fun s' e => ?_) (fun r' e => ?_)
      · subst e
        exact ih s' h
      · subst e
        exact Option.some.inj h
/-- a loop whose invariant falls in a measure comes to its end -/
theorem lp_run {σ ρ : Type} {f : σ → Option (ρ ⊕ σ)} {I : σ → Prop} {R : ρ → Prop} (μ : σ → Nat) (hs : ∀ s, I s → (∃ r, f s = some (.inl r) ∧ R r) ∨ ∃ s', f s = some (.inr s') ∧ I s' ∧ μ s' < μ s) : ∀ (N : Nat) (s : σ), I s → μ s < N → ∃ r, lp N f s = some r ∧ R r := by
  intro N
  induction N with
  | zero => intro s _ h; omega
  | succ N ih =>
    intro s hI hm
    rcases hs s hI with ⟨r, h1, h2⟩ | ⟨s', h1, h2, h3⟩
    · exact ⟨r, by unfold lp; rw [h1], h2⟩
    · obtain ⟨r, g1, g2⟩ := ih s' h2 (by omega)
      exact ⟨r, by unfold lp; rw [h1]; exact g1, g2⟩
def bd {α1 β : Type} (x : Option (α1)) (f : α1 → Option β) : Option β := match x with
  | none => none
  | some a1 => f a1
theorem bd_of {α1 β : Type} {x : Option (α1)} {f : α1 → Option β} {r : β} (h : bd x f = some r) : ∃ a1, x = some a1 ∧ f a1 = some r := by
  cases x with
  | none => cases h
  | some a => exact ⟨a, rfl, h⟩
def bd2 {α1 α2 β : Type} (x : Option (α1 × α2)) (f : α1 → α2 → Option β) : Option β := match x with
  | none => none
  | some (a1, a2) => f a1 a2
theorem bd2_of {α1 α2 β : Type} {x : Option (α1 × α2)} {f : α1 → α2 → Option β} {r : β} (h : bd2 x f = some r) : ∃ a1 a2, x = some (a1, a2) ∧ f a1 a2 = some r := by
  cases x with
  | none => cases h
  | some a => exact ⟨a.1, a.2, rfl, h⟩
def bd3 {α1 α2 α3 β : Type} (x : Option (α1 × α2 × α3)) (f : α1 → α2 → α3 → Option β) : Option β := match x with
  | none => none
  | some (a1, a2, a3) => f a1 a2 a3
theorem bd3_of {α1 α2 α3 β : Type} {x : Option (α1 × α2 × α3)} {f : α1 → α2 → α3 → Option β} {r : β} (h : bd3 x f = some r) : ∃ a1 a2 a3, x = some (a1, a2, a3) ∧ f a1 a2 a3 = some r := by
  cases x with
  | none => cases h
  | some a => exact ⟨a.1, a.2.1, a.2.2, rfl, h⟩
def bd4 {α1 α2 α3 α4 β : Type} (x : Option (α1 × α2 × α3 × α4)) (f : α1 → α2 → α3 → α4 → Option β) : Option β := match x with
  | none => none
  | some (a1, a2, a3, a4) => f a1 a2 a3 a4
theorem bd4_of {α1 α2 α3 α4 β : Type} {x : Option (α1 × α2 × α3 × α4)} {f : α1 → α2 → α3 → α4 → Option β} {r : β} (h : bd4 x f = some r) : ∃ a1 a2 a3 a4, x = some (a1, a2, a3, a4) ∧ f a1 a2 a3 a4 = some r := by
  cases x with
  | none => cases h
  | some a => exact ⟨a.1, a.2.1, a.2.2.1, a.2.2.2, rfl, h⟩
def bd5 {α1 α2 α3 α4 α5 β : Type} (x : Option (α1 × α2 × α3 × α4 × α5)) (f : α1 → α2 → α3 → α4 → α5 → Option β) : Option β := match x with
  | none => none
  | some (a1, a2, a3, a4, a5) => f a1 a2 a3 a4 a5
theorem bd5_of {α1 α2 α3 α4 α5 β : Type} {x : Option (α1 × α2 × α3 × α4 × α5)} {f : α1 → α2 → α3 → α4 → α5 → Option β} {r : β} (h : bd5 x f = some r) : ∃ a1 a2 a3 a4 a5, x = some (a1, a2, a3, a4, a5) ∧ f a1 a2 a3 a4 a5 = some r := by
  cases x with
  | none => cases h
  | some a => exact ⟨a.1, a.2.1, a.2.2.1, a.2.2.2.1, a.2.2.2.2, rfl, h⟩
def bd6 {α1 α2 α3 α4 α5 α6 β : Type} (x : Option (α1 × α2 × α3 × α4 × α5 × α6)) (f : α1 → α2 → α3 → α4 → α5 → α6 → Option β) : Option β := match x with
  | none => none
  | some (a1, a2, a3, a4, a5, a6) => f a1 a2 a3 a4 a5 a6
theorem bd6_of {α1 α2 α3 α4 α5 α6 β : Type} {x : Option (α1 × α2 × α3 × α4 × α5 × α6)} {f : α1 → α2 → α3 → α4 → α5 → α6 → Option β} {r : β} (h : bd6 x f = some r) : ∃ a1 a2 a3 a4 a5 a6, x = some (a1, a2, a3, a4, a5, a6) ∧ f a1 a2 a3 a4 a5 a6 = some r := by
  cases x with
  | none => cases h
  | some a => exact ⟨a.1, a.2.1, a.2.2.1, a.2.2.2.1, a.2.2.2.2.1, a.2.2.2.2.2, rfl, h⟩
def bd7 {α1 α2 α3 α4 α5 α6 α7 β : Type} (x : Option (α1 × α2 × α3 × α4 × α5 × α6 × α7)) (f : α1 → α2 → α3 → α4 → α5 → α6 → α7 → Option β) : Option β := match x with
  | none => none
  | some (a1, a2, a3, a4, a5, a6, a7) => f a1 a2 a3 a4 a5 a6 a7
theorem bd7_of {α1 α2 α3 α4 α5 α6 α7 β : Type} {x : Option (α1 × α2 × α3 × α4 × α5 × α6 × α7)} {f : α1 → α2 → α3 → α4 → α5 → α6 → α7 → Option β} {r : β} (h : bd7 x f = some r) : ∃ a1 a2 a3 a4 a5 a6 a7, x = some (a1, a2, a3, a4, a5, a6, a7) ∧ f a1 a2 a3 a4 a5 a6 a7 = some r := by
  cases x with
  | none => cases h
  | some a => exact ⟨a.1, a.2.1, a.2.2.1, a.2.2.2.1, a.2.2.2.2.1, a.2.2.2.2.2.1, a.2.2.2.2.2.2, rfl, h⟩
def bd8 {α1 α2 α3 α4 α5 α6 α7 α8 β : Type} (x : Option (α1 × α2 × α3 × α4 × α5 × α6 × α7 × α8)) (f : α1 → α2 → α3 → α4 → α5 → α6 → α7 → α8 → Option β) : Option β := match x with
  | none => none
  | some (a1, a2, a3, a4, a5, a6, a7, a8) => f a1 a2 a3 a4 a5 a6 a7 a8
theorem bd8_of {α1 α2 α3 α4 α5 α6 α7 α8 β : Type} {x : Option (α1 × α2 × α3 × α4 × α5 × α6 × α7 × α8)} {f : α1 → α2 → α3 → α4 → α5 → α6 → α7 → α8 → Option β} {r : β} (h : bd8 x f = some r) : ∃ a1 a2 a3 a4 a5 a6 a7 a8, x = some (a1, a2, a3, a4, a5, a6, a7, a8) ∧ f a1 a2 a3 a4 a5 a6 a7 a8 = some r := by
  cases x with
  | none => cases h
  | some a => exact ⟨a.1, a.2.1, a.2.2.1, a.2.2.2.1, a.2.2.2.2.1, a.2.2.2.2.2.1, a.2.2.2.2.2.2.1, a.2.2.2.2.2.2.2, rfl, h⟩
def bd9 {α1 α2 α3 α4 α5 α6 α7 α8 α9 β : Type} (x : Option (α1 × α2 × α3 × α4 × α5 × α6 × α7 × α8 × α9)) (f : α1 → α2 → α3 → α4 → α5 → α6 → α7 → α8 → α9 → Option β) : Option β := match x with
  | none => none
  | some (a1, a2, a3, a4, a5, a6, a7, a8, a9) => f a1 a2 a3 a4 a5 a6 a7 a8 a9
theorem bd9_of {α1 α2 α3 α4 α5 α6 α7 α8 α9 β : Type} {x : Option (α1 × α2 × α3 × α4 × α5 × α6 × α7 × α8 × α9)} {f : α1 → α2 → α3 → α4 → α5 → α6 → α7 → α8 → α9 → Option β} {r : β} (h : bd9 x f = some r) : ∃ a1 a2 a3 a4 a5 a6 a7 a8 a9, x = some (a1, a2, a3, a4, a5, a6, a7, a8, a9) ∧ f a1 a2 a3 a4 a5 a6 a7 a8 a9 = some r := by
  cases x with
  | none => cases h
  | some a => exact ⟨a.1, a.2.1, a.2.2.1, a.2.2.2.1, a.2.2.2.2.1, a.2.2.2.2.2.1, a.2.2.2.2.2.2.1, a.2.2.2.2.2.2.2.1, a.2.2.2.2.2.2.2.2, rfl, h⟩
def bd10 {α1 α2 α3 α4 α5 α6 α7 α8 α9 α10 β : Type} (x : Option (α1 × α2 × α3 × α4 × α5 × α6 × α7 × α8 × α9 × α10)) (f : α1 → α2 → α3 → α4 → α5 → α6 → α7 → α8 → α9 → α10 → Option β) : Option β := match x with
  | none => none
  | some (a1, a2, a3, a4, a5, a6, a7, a8, a9, a10) => f a1 a2 a3 a4 a5 a6 a7 a8 a9 a10
theorem bd10_of {α1 α2 α3 α4 α5 α6 α7 α8 α9 α10 β : Type} {x : Option (α1 × α2 × α3 × α4 × α5 × α6 × α7 × α8 × α9 × α10)} {f : α1 → α2 → α3 → α4 → α5 → α6 → α7 → α8 → α9 → α10 → Option β} {r : β} (h : bd10 x f = some r) : ∃ a1 a2 a3 a4 a5 a6 a7 a8 a9 a10, x = some (a1, a2, a3, a4, a5, a6, a7, a8, a9, a10) ∧ f a1 a2 a3 a4 a5 a6 a7 a8 a9 a10 = some r := by
  cases x with
  | none => cases h
  | some a => exact ⟨a.1, a.2.1, a.2.2.1, a.2.2.2.1, a.2.2.2.2.1, a.2.2.2.2.2.1, a.2.2.2.2.2.2.1, a.2.2.2.2.2.2.2.1, a.2.2.2.2.2.2.2.2.1, a.2.2.2.2.2.2.2.2.2, rfl, h⟩
theorem bek1_of {α1 β γ : Type} {F : α1 → Option β} {G : (α1 → Option β) → Option γ} {r : γ} (h : be (fun a1 => F a1) G = some r) : ∃ k : α1 → Option β, (∀ a1 res, k a1 = some res → F a1 = some res) ∧ G k = some r := ⟨F, fun a1 _ h => h, h⟩
theorem bek2_of {α1 α2 β γ : Type} {F : α1 → α2 → Option β} {G : (α1 → α2 → Option β) → Option γ} {r : γ} (h : be (fun a1 a2 => F a1 a2) G = some r) : ∃ k : α1 → α2 → Option β, (∀ a1 a2 res, k a1 a2 = some res → F a1 a2 = some res) ∧ G k = some r := ⟨F, fun a1 a2 _ h => h, h⟩
theorem bek3_of {α1 α2 α3 β γ : Type} {F : α1 → α2 → α3 → Option β} {G : (α1 → α2 → α3 → Option β) → Option γ} {r : γ} (h : be (fun a1 a2 a3 => F a1 a2 a3) G = some r) : ∃ k : α1 → α2 → α3 → Option β, (∀ a1 a2 a3 res, k a1 a2 a3 = some res → F a1 a2 a3 = some res) ∧ G k = some r := ⟨F, fun a1 a2 a3 _ h => h, h⟩
theorem bek4_of {α1 α2 α3 α4 β γ : Type} {F : α1 → α2 → α3 → α4 → Option β} {G : (α1 → α2 → α3 → α4 → Option β) → Option γ} {r : γ} (h : be (fun a1 a2 a3 a4 => F a1 a2 a3 a4) G = some r) : ∃ k : α1 → α2 → α3 → α4 → Option β, (∀ a1 a2 a3 a4 res, k a1 a2 a3 a4 = some res → F a1 a2 a3 a4 = some res) ∧ G k = some r := ⟨F, fun a1 a2 a3 a4 _ h => h, h⟩
theorem bek5_of {α1 α2 α3 α4 α5 β γ : Type} {F : α1 → α2 → α3 → α4 → α5 → Option β} {G : (α1 → α2 → α3 → α4 → α5 → Option β) → Option γ} {r : γ} (h : be (fun a1 a2 a3 a4 a5 => F a1 a2 a3 a4 a5) G = some r) : ∃ k : α1 → α2 → α3 → α4 → α5 → Option β, (∀ a1 a2 a3 a4 a5 res, k a1 a2 a3 a4 a5 = some res → F a1 a2 a3 a4 a5 = some res) ∧ G k = some r := ⟨F, fun a1 a2 a3 a4 a5 _ h => h, h⟩
theorem bek6_of {α1 α2 α3 α4 α5 α6 β γ : Type} {F : α1 → α2 → α3 → α4 → α5 → α6 → Option β} {G : (α1 → α2 → α3 → α4 → α5 → α6 → Option β) → Option γ} {r : γ} (h : be (fun a1 a2 a3 a4 a5 a6 => F a1 a2 a3 a4 a5 a6) G = some r) : ∃ k : α1 → α2 → α3 → α4 → α5 → α6 → Option β, (∀ a1 a2 a3 a4 a5 a6 res, k a1 a2 a3 a4 a5 a6 = some res → F a1 a2 a3 a4 a5 a6 = some res) ∧ G k = some r := ⟨F, fun a1 a2 a3 a4 a5 a6 _ h => h, h⟩
theorem bek7_of {α1 α2 α3 α4 α5 α6 α7 β γ : Type} {F : α1 → α2 → α3 → α4 → α5 → α6 → α7 → Option β} {G : (α1 → α2 → α3 → α4 → α5 → α6 → α7 → Option β) → Option γ} {r : γ} (h : be (fun a1 a2 a3 a4 a5 a6 a7 => F a1 a2 a3 a4 a5 a6 a7) G = some r) : ∃ k : α1 → α2 → α3 → α4 → α5 → α6 → α7 → Option β, (∀ a1 a2 a3 a4 a5 a6 a7 res, k a1 a2 a3 a4 a5 a6 a7 = some res → F a1 a2 a3 a4 a5 a6 a7 = some res) ∧ G k = some r := ⟨F, fun a1 a2 a3 a4 a5 a6 a7 _ h => h, h⟩
