set_option maxRecDepth 100000
section
theorem i32_mask31 (v : Int32) : (v &&& 2147483647).toInt = v.toInt % 2147483648 := by
  have h1 : (v &&& 2147483647).toBitVec.toNat = v.toBitVec.toNat % 2147483648 := by
    have hm : (2147483647 : Int32).toBitVec.toNat = 2 ^ 31 - 1 := by decide
    rw [Int32.toBitVec_and, BitVec.toNat_and, hm, Nat.and_two_pow_sub_one_eq_mod]
  have h2 : (v &&& 2147483647).toInt = (v &&& 2147483647).toBitVec.toInt := rfl
  have h3 : v.toInt = v.toBitVec.toInt := rfl
  rw [h2, h3, BitVec.toInt_eq_toNat_cond, BitVec.toInt_eq_toNat_cond, h1]
  have h4 := v.toBitVec.isLt
  split <;> split <;> omega
theorem i64_mask31 (v : Int64) : (v &&& 2147483647).toInt = v.toInt % 2147483648 := by
  have h1 : (v &&& 2147483647).toBitVec.toNat = v.toBitVec.toNat % 2147483648 := by
    have hm : (2147483647 : Int64).toBitVec.toNat = 2 ^ 31 - 1 := by decide
    rw [Int64.toBitVec_and, BitVec.toNat_and, hm, Nat.and_two_pow_sub_one_eq_mod]
  have h2 : (v &&& 2147483647).toInt = (v &&& 2147483647).toBitVec.toInt := rfl
  have h3 : v.toInt = v.toBitVec.toInt := rfl
  rw [h2, h3, BitVec.toInt_eq_toNat_cond, BitVec.toInt_eq_toNat_cond, h1]
  have h4 := v.toBitVec.isLt
  split <;> split <;> omega
theorem i32_shr16 (v : Int32) (h : 0 ≤ v.toInt) : (v >>> (16 &&& 31)).toInt = v.toInt / 65536 := by
  have e : ((16 : Int32) &&& 31) = 16 := by decide
  rw [e]
  have h2 : (v >>> 16).toInt = (v >>> 16).toBitVec.toInt := rfl
  have h3 : v.toInt = v.toBitVec.toInt := rfl
  have h4 : ((16 : Int32).toBitVec.smod 32).toNat = 16 := by decide
  rw [h2, h3, Int32.toBitVec_shiftRight, BitVec.toInt_sshiftRight', h4, Int.shiftRight_eq_div_pow]
  rfl
theorem irem100 {x : Int32} (h : 0 ≤ x.toInt) : (x - x / 100 * 100).toInt = x.toInt % 100 := by
  have hb := x.toInt_lt
  have e : (100 : Int32).toInt = 100 := by decide
  have hd : (x / 100).toInt = x.toInt / 100 := by
    rw [Int32.toInt_div, e, Int.tdiv_eq_ediv_of_nonneg h, Int.bmod_def]
    omega
  have hm : (x / 100 * 100).toInt = x.toInt / 100 * 100 := by
    rw [Int32.toInt_mul, hd, e, Int.bmod_def]
    omega
  rw [Int32.toInt_sub, hm, Int.bmod_def]
  omega
theorem lrem100 {x : Int64} (h : 0 ≤ x.toInt) : (x - x / 100 * 100).toInt = x.toInt % 100 := by
  have hb := x.toInt_lt
  have e : (100 : Int64).toInt = 100 := by decide
  have hd : (x / 100).toInt = x.toInt / 100 := by
    rw [Int64.toInt_div, e, Int.tdiv_eq_ediv_of_nonneg h, Int.bmod_def]
    omega
  have hm : (x / 100 * 100).toInt = x.toInt / 100 * 100 := by
    rw [Int64.toInt_mul, hd, e, Int.bmod_def]
    omega
  rw [Int64.toInt_sub, hm, Int.bmod_def]
  omega
theorem draw_eq {n : Int32} {d : Int64} (h1 : n.toInt64 = d) (h0 : 0 ≤ n.toInt) :
    (((n * 1103515245) + 12345) &&& 2147483647).toInt64 = ((d * 1103515245) + 12345) &&& 2147483647 ∧ 0 ≤ (((n * 1103515245) + 12345) &&& 2147483647).toInt ∧
    ((((n * 1103515245) + 12345) &&& 2147483647) >>> (16 &&& 31)) - ((((n * 1103515245) + 12345) &&& 2147483647) >>> (16 &&& 31)) / 100 * 100 = Int64.toInt32 (((((d * 1103515245) + 12345) &&& 2147483647) / 65536) - ((((d * 1103515245) + 12345) &&& 2147483647) / 65536) / (Int32.toInt64 100) * (Int32.toInt64 100)) := by
  have hd : d.toInt = n.toInt := by rw [← h1, Int32.toInt_toInt64]
  have hb := n.toInt_lt
  have a1 : (1103515245 : Int32).toInt = 1103515245 := by decide
  have a2 : (12345 : Int32).toInt = 12345 := by decide
  have b1 : (1103515245 : Int64).toInt = 1103515245 := by decide
  have b2 : (12345 : Int64).toInt = 12345 := by decide
  have b3 : (65536 : Int64).toInt = 65536 := by decide
  have x1 : (((n * 1103515245) + 12345) &&& 2147483647).toInt = (n.toInt * 1103515245 + 12345) % 2147483648 := by
    rw [i32_mask31, Int32.toInt_add, Int32.toInt_mul, a1, a2, Int.bmod_def, Int.bmod_def]
    omega
  have x2 : (((d * 1103515245) + 12345) &&& 2147483647).toInt = (n.toInt * 1103515245 + 12345) % 2147483648 := by
    rw [i64_mask31, Int64.toInt_add, Int64.toInt_mul, b1, b2, hd, Int.bmod_def, Int.bmod_def]
    omega
  have x3 : 0 ≤ (((n * 1103515245) + 12345) &&& 2147483647).toInt := by rw [x1]; omega
  have c1 : Int32.toInt64 100 = 100 := by decide
  refine ⟨?_, x3, ?_⟩
  · rw [← Int64.toInt_inj, Int32.toInt_toInt64, x1, x2]
  · generalize ((n * 1103515245) + 12345) &&& 2147483647 = p at *
    generalize ((d * 1103515245) + 12345) &&& 2147483647 = q at *
    have pq : p.toInt = q.toInt := x1.trans x2.symm
    have e1 : (p >>> (16 &&& 31)).toInt = p.toInt / 65536 := i32_shr16 p x3
    have pb := p.toInt_lt
    have e2 : (q / 65536).toInt = p.toInt / 65536 := by
      rw [Int64.toInt_div, b3, ← pq, Int.tdiv_eq_ediv_of_nonneg (by omega), Int.bmod_def]
      omega
    rw [c1, ← Int32.toInt_inj, irem100 (by omega), e1, Int64.toInt_toInt32, lrem100 (by omega), e2, Int.bmod_def]
    omega
theorem bits_off : ∀ o : Fin 64, ∀ i k : Fin 6, (((Int32.ofNat o &&& ((1 <<< (Int32.ofNat i &&& 31)) ^^^ (-1))) >>> (Int32.ofNat k &&& 31)) &&& 1 = 1) ↔ (k ≠ i ∧ (Int32.ofNat o >>> (Int32.ofNat k &&& 31)) &&& 1 = 1) := by decide +kernel
theorem bits_val : ∀ o : Fin 64, ∀ i : Fin 6, (Int32.ofNat o &&& ((1 <<< (Int32.ofNat i &&& 31)) ^^^ (-1))) = Int32.ofNat (o &&& (63 - 2 ^ i.val)) := by decide +kernel
end
