set_option maxRecDepth 100000
/-! ===== methods that make cells: the count of new cells is the memory's own ===== -/
def mZ (M : Mem) : Nat := ((List.range (mN M)).map (mLn M)).sum
def Ent (E : En) (G : Ctx) (Me : Mem) : Prop := Rep E Me G.2.2.2.1.heap
theorem sizes_of {E : En} {M : Mem} {H : Heap} (hR : Rep E M H) : (H.toList.drop E.2.1).map (fun c => c.slots.size) = (List.range (mN M)).map (mLn M) := by
  apply List.ext_getElem?
  intro i
  rw [List.getElem?_map, List.getElem?_map, List.getElem?_drop, Array.getElem?_toList]
  by_cases hi : i < mN M
  · obtain ⟨e, -, -, cell, h1, h2⟩ := hR.2.2 i hi
    rw [h1, List.getElem?_range hi]
    simp [h2]
  · rw [Array.getElem?_eq_none (by rw [hR.1]; omega), List.getElem?_eq_none (by simp; omega)]
    rfl
theorem sum_drop_le (l : List Nat) (n : Nat) : (l.drop n).sum = l.sum - (l.take n).sum ∧ (l.take n).sum ≤ l.sum := by
  have h : (l.take n).sum + (l.drop n).sum = l.sum := by rw [← List.sum_append_nat, List.take_append_drop]
  omega
section VA
variable {E : En} {G : Ctx} {M M' Me : Mem} {cells slots nL pc : Nat} {lv lv' : List (Nat × Value)} {st st0 : List Value} {Q : State → Prop} {cc : ByteArray} {ret : Option FieldType} {own : String} {rm0 : Room}
theorem V_narrow (hEn : Ent E G Me) (kk : mN Me ≤ mN M ∧ mZ Me ≤ mZ M → mN M - mN Me ≤ cells → mZ M - mZ Me ≤ slots → V E G M (mN M - mN Me) (mZ M - mZ Me) nL pc lv st Q) : V E G M cells slots nL pc lv st Q := by
  obtain ⟨p, e, R, s, m, args, below, meth, c⟩ := G
  intro H locs ls hR hS hl T hT X
  have hE2 : Rep E Me s.heap := hEn
  have hTH : (T.setVm s.vm).heap = H := hT
  obtain ⟨h1, h2, h3, h4, h5, h6⟩ := X.same
  have hz1 := sizes_of hR
  have hz2 := sizes_of hE2
  have g1 : mN Me ≤ mN M := by rw [hTH, hR.1, hE2.1] at h2; omega
  have g2 : mN M - mN Me ≤ cells := by rw [hTH, hR.1, hE2.1] at h3; omega
  have hold : ((List.range (mN M)).map (mLn M)).take (mN Me) = (List.range (mN Me)).map (mLn Me) := by
    apply List.ext_getElem?
    intro i
    by_cases hi : i < mN Me
    · obtain ⟨e1, -, -, cell, a1, a2⟩ := hE2.2.2 i hi
      obtain ⟨e2, -, -, cell2, b1, b2⟩ := hR.2.2 i (by omega)
      obtain ⟨c', k1, -, k3, -⟩ := h6 _ _ a1
      rw [hTH, b1] at k1
      cases k1
      rw [List.getElem?_take, if_pos hi, List.getElem?_map, List.getElem?_map, List.getElem?_range (by omega), List.getElem?_range hi]
      simp only [Option.map_some]
      rw [← a2, ← b2, k3]
    · rw [List.getElem?_eq_none (by simp; omega), List.getElem?_eq_none (by simp; omega)]
  have hsum : (((T.setVm s.vm).heap.toList.drop s.heap.size).map (fun c => c.slots.size)).sum = mZ M - mZ Me ∧ mZ Me ≤ mZ M := by
    rw [hTH, hE2.1, ← List.drop_drop, List.map_drop, hz1]
    have q := sum_drop_le ((List.range (mN M)).map (mLn M)) (mN Me)
    rw [hold] at q
    exact q
  have X2 : Stand p E.1 e R s m args below meth c T locs (mN M - mN Me) (mZ M - mZ Me) := { X with same := ⟨h1, h2, by rw [hTH, hR.1, hE2.1]; omega, h4, by rw [hsum.1]; exact Nat.le_refl _, h6⟩ }
  exact kk ⟨g1, hsum.2⟩ g2 (by rw [← hsum.1]; exact h5) H locs ls hR hS hl T hT X2
end VA
theorem mZ_nw (M : Mem) (t n : Nat) : mZ (nw M t n) = mZ M + n := by
  unfold mZ
  rw [show mN (nw M t n) = mN M + 1 from rfl, List.range_succ, List.map_append, List.sum_append_nat]
  have h : (List.range (mN M)).map (mLn (nw M t n)) = (List.range (mN M)).map (mLn M) := by
    apply List.map_congr_left
    intro a ha
    have := List.mem_range.mp ha
    show u1 (mLn M) (mN M) n a = mLn M a
    simp [u1, Nat.ne_of_lt this]
  rw [h]
  show _ + (u1 (mLn M) (mN M) n (mN M) + 0) = _
  simp [u1]
