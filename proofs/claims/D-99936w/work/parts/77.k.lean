set_option maxRecDepth 100000
section
def Us (j k : Nat) : Prop := (j = 0 ∧ (k = 1 ∨ k = 4 ∨ k = 5 ∨ (12 ≤ k ∧ k ≤ 22) ∨ (69 ≤ k ∧ k ≤ 72) ∨ k = 74 ∨ k = 75 ∨ k = 78 ∨ k = 80)) ∨ j = 1 ∨ j = 2 ∨ (4 ≤ j ∧ j ≤ 22) ∨ (27 ≤ j ∧ j ≤ 33 ∧ k < 6) ∨ (34 ≤ j ∧ j ≤ 39 ∧ k = 0) ∨ j = 41 ∨ (43 ≤ j ∧ j ≤ 45)
def KpM (M M' : Mem) : Prop := (mN M' = mN M) ∧ (mT M' = mT M) ∧ (mLn M' = mLn M) ∧ (mR M' = mR M) ∧ (∀ a k, ¬ (20 ≤ a ∧ a < 27) → ¬ (35 ≤ a ∧ a ≤ 36) → a ≠ 39 → ¬ (40 ≤ a ∧ a < 87) → mI M' a k = mI M a k)
theorem KpM.n {M M' : Mem} (h : KpM M M') : mN M' = mN M := h.1
theorem KpM.t {M M' : Mem} (h : KpM M M') : mT M' = mT M := h.2.1
theorem KpM.ln {M M' : Mem} (h : KpM M M') : mLn M' = mLn M := h.2.2.1
theorem KpM.r {M M' : Mem} (h : KpM M M') : mR M' = mR M := h.2.2.2.1
theorem KpM.i {M M' : Mem} (h : KpM M M') : ∀ a k, ¬ (20 ≤ a ∧ a < 27) → ¬ (35 ≤ a ∧ a ≤ 36) → a ≠ 39 → ¬ (40 ≤ a ∧ a < 87) → mI M' a k = mI M a k := h.2.2.2.2
def KpS (S S' : TS) : Prop := (∀ j k, Us j k → tI S' j k = tI S j k) ∧ (tL S' 0 67 = tL S 0 67) ∧ (tL S' 0 83 = tL S 0 83)
theorem KpS.i {S S' : TS} (h : KpS S S') : ∀ j k, Us j k → tI S' j k = tI S j k := h.1
theorem KpS.d {S S' : TS} (h : KpS S S') : tL S' 0 67 = tL S 0 67 := h.2.1
theorem KpS.e {S S' : TS} (h : KpS S S') : tL S' 0 83 = tL S 0 83 := h.2.2
variable {M M' : Mem} {S S' : TS} {g nT nH nL ns nk nt : Nat}
theorem Ful.rst (h : Ful M S g nT nH nL ns nk nt) (hM : KpM M M') : Rst M M' := by
  intro a ha
  refine ⟨by rw [hM.t], by rw [hM.ln], fun k => ⟨by rw [hM.r], ?_⟩⟩
  have hs := h.tt.s20
  have r20 : a < 20 ∨ 20 + 7 ≤ a := by
    refine hs.rng ?_ ?_
    · intro e
      rw [e] at ha
      unfold RK at ha
      omega
    · intro e
      rw [e] at ha
      unfold RK at ha
      omega
  refine hM.i a k (by omega) ?_ ?_ ?_
  · intro hc
    have : a = 35 ∨ a = 36 := by omega
    rcases this with rfl | rfl
    · rw [h.tt.k35] at ha
      unfold RK at ha
      omega
    · rw [h.tt.k36] at ha
      unfold RK at ha
      omega
  · rintro rfl
    rw [h.tt.k39] at ha
    unfold RK at ha
    omega
  · intro hc
    exact h.tk a hc.1 hc.2 ha
theorem SiR_mv {M M' : Mem} {S S' : TS} {c b nT nH : Nat} {z : Int32} {A : Nat → Prop} {x : Nat} (hI : ∀ a k, c ≤ a → a < c + 7 → mI M' a k = mI M a k) (hS : ∀ j k, (27 ≤ j ∧ j ≤ 33 ∧ 6 * b ≤ k ∧ k < 6 * b + 6) ∨ (34 ≤ j ∧ j ≤ 39 ∧ k = b) ∨ (j = 0 ∧ 69 ≤ k ∧ k ≤ 72) → tI S' j k = tI S j k) (hL : z = 1 → tL S' 0 67 = tL S 0 67) (hT : nT ≤ 6) (hH : nH ≤ 6) (h : SiR M S c b nT nH z A x) : SiR M' S' c b nT nH z A x := by
  have ho : ∀ k, onV M' c k = onV M c k := fun k => by unfold onV; rw [hI c 7 (by omega) (by omega), hI c 12 (by omega) (by omega), hI c 13 (by omega) (by omega)]
  refine ⟨fun k hk => ?_, fun k hk => ?_, fun k hk => ?_, fun k hk hx => ?_, fun k hk => ?_, fun k hk => ?_, fun k hk => ?_, fun k hk => ?_, fun k hk => ?_, fun k hk => ?_, fun k hk hA => ?_, ?_, fun k hk => ?_, ?_, ?_, ?_, ?_, ?_, ?_, ?_, ?_, ?_, ?_, fun hz => ?_, h.z01⟩
  · rw [hI _ _ (by omega) (by omega), hS _ _ (by omega)]; exact h.p k hk
  · rw [hI _ _ (by omega) (by omega), hS _ _ (by omega)]; exact h.th k hk
  · rw [hI _ _ (by omega) (by omega), hS _ _ (by omega)]; exact h.go k hk
  · rw [hI _ _ (by omega) (by omega), hS _ _ (by omega)]; exact h.hu k hk hx
  · rw [hI _ _ (by omega) (by omega), hS _ _ (by omega)]; exact h.dr k hk
  · rw [hI _ _ (by omega) (by omega), hS _ _ (by omega)]; exact h.wa k hk
  · rw [hS _ _ (by omega)]; exact h.pB k hk
  · rw [hS _ _ (by omega)]; exact h.gB k hk
  · rw [hS _ _ (by omega)]; exact h.tB k hk
  · rw [hS _ _ (by omega)]; exact h.wB k hk
  · rw [hS _ _ (by omega), hS _ _ (by omega)]; exact h.tA k hk hA
  · rw [hI _ _ (by omega) (by omega)]; exact h.onb
  · rw [ho, hS _ _ (by omega)]; exact h.onv k hk
  · rw [hI _ _ (by omega) (by omega), hS _ _ (by omega)]; exact h.hour
  · rw [hI _ _ (by omega) (by omega), hS _ _ (by omega)]; exact h.fi
  · rw [hI _ _ (by omega) (by omega), hS _ _ (by omega)]; exact h.ta
  · rw [hI _ _ (by omega) (by omega), hS _ _ (by omega)]; exact h.dk
  · rw [hI _ _ (by omega) (by omega), hS _ _ (by omega)]; exact h.tk
  · rw [hI _ _ (by omega) (by omega), hS _ _ (by omega)]; exact h.fo
  · rw [hI _ _ (by omega) (by omega), hS _ _ (by omega)]; exact h.fast
  · rw [hI _ _ (by omega) (by omega), hS _ _ (by omega)]; exact h.noR
  · rw [hI _ _ (by omega) (by omega), hS _ _ (by omega)]; exact h.noD
  · rw [hS _ _ (by omega)]; exact h.dw
  · rw [hI _ _ (by omega) (by omega), hL hz]; exact h.num hz
theorem SnR_mv (hM : Rst M M') (h38 : mR M' 38 = mR M 38) (h18 : mI M' 0 18 = mI M 0 18) (hS : ∀ j k, Us j k → tI S' j k = tI S j k) {nT ns : Nat} (h : SnR M S nT ns) : SnR M' S' nT ns := by
  have e : ∀ k, seA M' k = seA M k := fun k => by unfold seA; rw [h38]
  have h37 := hM 37 (by rw [h.k]; unfold RK; omega)
  have h38' := hM 38 (by rw [h.e]; unfold RK; omega)
  refine ⟨h.n, h37.1.trans h.k, (h37.2.2 2).2.trans h.sz, (h37.2.2 1).1.trans h.r, h38'.1.trans h.e, h38'.2.1.trans h.ln, ?_, ?_, ?_, ?_, ?_⟩
  · rw [hS _ _ (by unfold Us; omega)]; exact h.c
  · intro k hk; rw [h38, e]; exact h.it k hk
  · intro k hk
    rw [e, hS _ _ (by unfold Us; omega), hS _ _ (by unfold Us; omega), hS _ _ (by unfold Us; omega), hS _ _ (by unfold Us; omega)]
    have hk' : RK (mT M (seA M k)) := by
      unfold RK
      rcases h.v k hk with h1 | h1 <;> omega
    have hx := hM _ hk'
    rw [hx.1, (hx.2.2 0).2, (hx.2.2 1).2, (hx.2.2 2).2, (hx.2.2 3).2]
    exact h.v k hk
  · rw [h18, hS _ _ (by unfold Us; omega)]; exact h.kn
  · rw [hS _ _ (by unfold Us; omega)]; exact h.kb
theorem KpR_mv {nT nH nk : Nat} (hT6 : nT ≤ 6) (hH6 : nH ≤ 6) (hM : KpM M M') (hS : ∀ j k, Us j k → tI S' j k = tI S j k) (h : KpR M S nT nH nk) : KpR M' S' nT nH nk := by
  have h34 : mR M' 34 = mR M 34 := by rw [hM.r]
  refine ⟨h.n, ?_, ?_, ?_, ?_, ?_⟩
  · rw [hM.i 0 4 (by omega) (by omega) (by omega) (by omega)]; exact h.m
  · rw [hS _ _ (by unfold Us; omega)]; exact h.u
  · intro i hi
    rw [h34]
    rcases h.a i hi with h1 | ⟨q, h1, h2, h3⟩
    · exact Or.inl h1
    · exact Or.inr ⟨q, h1, StS_mv hM.t hM.ln hM.r h2, h3⟩
  · rw [h34]; exact h.d
  · intro i hi
    rw [h34]
    obtain ⟨q, h1, h2⟩ := h.v i hi
    have q87 : 87 ≤ q := by
      rcases h.a i (by have := h.n; omega) with h3 | ⟨q', h3, _, h4⟩
      · rw [h1] at h3; cases h3
      · rw [h1] at h3; cases h3; exact h4
    have hq : ∀ a k, q ≤ a → mI M' a k = mI M a k := fun a k ha => hM.i a k (by omega) (by omega) (by omega) (by omega)
    have hn : ∀ a k, 13 ≤ a → a < 20 → mI M' a k = mI M a k := fun a k h1 h2 => hM.i a k (by omega) (by omega) (by omega) (by omega)
    have s43 : ∀ k, tI S' 43 k = tI S 43 k := fun k => hS 43 k (by unfold Us; omega)
    refine ⟨q, h1, fun k hk => ?_, fun k hk => ?_, fun k hk => ?_, fun k hk => ?_, fun k hk => ?_, fun k hk => ?_, fun k h1 h3 h4 h5 => ?_⟩
    · rw [hq _ _ (by omega), s43]; exact h2.p k hk
    · rw [hq _ _ (by omega), s43]; exact h2.g k hk
    · rw [hq _ _ (by omega), s43]; exact h2.w k hk
    · rw [hq _ _ (by omega), hn _ _ (by omega) (by omega)]; exact h2.th k hk
    · rw [hq _ _ (by omega), hn _ _ (by omega) (by omega)]; exact h2.hu k hk
    · rw [hq _ _ (by omega), hn _ _ (by omega) (by omega)]; exact h2.dr k hk
    · rw [hq _ _ (by omega), hn _ _ (by omega) (by omega)]; exact h2.f k h1 h3 h4 h5
theorem ImR_mv {nT nH : Nat} (hT6 : nT ≤ 6) (hH6 : nH ≤ 6) (hI : ∀ a k, 27 ≤ a → a < 34 → mI M' a k = mI M a k) (hS : ∀ j k, Us j k → tI S' j k = tI S j k) (hL : tL S' 0 83 = tL S 0 83) (h : ImR M S nT nH) : ImR M' S' nT nH := by
  have s44 : ∀ k, tI S' 44 k = tI S 44 k := fun k => hS 44 k (by unfold Us; omega)
  have s45 : ∀ k, tI S' 45 k = tI S 45 k := fun k => hS 45 k (by unfold Us; omega)
  have ho : ∀ k, onV M' 27 k = onV M 27 k := fun k => by unfold onV; rw [hI 27 7 (by omega) (by omega), hI 27 12 (by omega) (by omega), hI 27 13 (by omega) (by omega)]
  have i := fun a k (h1 : 27 ≤ a) (h2 : a < 34) => hI a k h1 h2
  unfold ImR
  simp only [s44, s45, ho, hL]
  rw [i 27 7 (by omega) (by omega), i 27 8 (by omega) (by omega), i 27 9 (by omega) (by omega), i 27 10 (by omega) (by omega), i 27 6 (by omega) (by omega), i 27 15 (by omega) (by omega), i 27 16 (by omega) (by omega), i 27 11 (by omega) (by omega), i 27 12 (by omega) (by omega)]
  simp only [fun k => i 28 k (by omega) (by omega), fun k => i 29 k (by omega) (by omega), fun k => i 30 k (by omega) (by omega), fun k => i 31 k (by omega) (by omega), fun k => i 32 k (by omega) (by omega), fun k => i 33 k (by omega) (by omega)]
  exact h
theorem Ful_mv (h : Ful M S g nT nH nL ns nk nt) (hM : KpM M M') (hS : KpS S S') : Ful M' S' g nT nH nL ns nk nt := by
  have hr := h.rst hM
  have us := hS.i
  have i0 : ∀ k, mI M' 0 k = mI M 0 k := fun k => hM.i 0 k (by omega) (by omega) (by omega) (by omega)
  have i1 : ∀ k, mI M' 1 k = mI M 1 k := fun k => hM.i 1 k (by omega) (by omega) (by omega) (by omega)
  have i13 : ∀ a k, 13 ≤ a → a < 13 + 7 → mI M' a k = mI M a k := fun a k h1 h2 => hM.i a k (by omega) (by omega) (by omega) (by omega)
  refine ⟨TtS_mv hM.n hM.t hM.ln hM.r h.tt, by rw [hM.t]; exact h.tk, RdR_mv2 hr (fun j k h1 h2 => us j k (by unfold Us; omega)) (fun k h1 h2 => us 0 k (by unfold Us; omega)) (by omega) h.rd, SiR_mv i13 (fun j k hj => us j k (by unfold Us; omega)) (fun _ => hS.d) h.rd.nt h.rd.nh h.si, ?_, ?_, h.ntB, ?_, ?_, ?_, ?_, ?_, ?_, ?_, SnR_mv hr (by rw [hM.r]) (i0 18) us h.sn, KpR_mv h.rd.nt h.rd.nh hM us h.kp, ?_, ?_, ?_, ?_⟩
  · rw [i13 13 11 (by omega) (by omega), hS.d]; exact h.num
  · rw [i13 13 12 (by omega) (by omega)]; exact h.wt
  · rw [i0]; exact h.tp
  · rw [us _ _ (by unfold Us; omega)]; exact h.tpt
  · intro k hk; rw [i1, us _ _ (by unfold Us; omega)]; exact h.tb k hk
  · intro k hk; rw [i1]; exact h.tbB k hk
  · rw [i0, us _ _ (by unfold Us; omega)]; exact h.fk
  · rw [i0, us _ _ (by unfold Us; omega)]; exact h.fpl
  · rw [((hr g (by rw [h.rd.k]; unfold RK; omega)).2.2 7).2, us _ _ (by unfold Us; omega)]; exact h.kn
  · rw [i0, us _ _ (by unfold Us; omega)]; exact h.him
  · rw [us _ _ (by unfold Us; omega)]; exact h.hi01
  · intro h1
    rw [us _ _ (by unfold Us; omega)] at h1
    exact ImR_mv h.rd.nt h.rd.nh (fun a k h1 h2 => hM.i a k (by omega) (by omega) (by omega) (by omega)) us hS.e (h.im h1)
  · intro k hk; rw [us _ _ (by unfold Us; omega)]; exact h.wd k hk
end
