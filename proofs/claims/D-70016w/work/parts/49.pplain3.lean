/-! ===== the lowest bit ===== -/
theorem low_bits {m p : Nat} (h : 2 ^ (p + 1) * m + 2 ^ p < 2 ^ 31) : (nI (2 ^ (p + 1) * m + 2 ^ p) ^^^ (-1 : Int32)) &&& (nI (2 ^ (p + 1) * m + 2 ^ p) - nI 1) = nI (2 ^ p - 1) := by
  have hp : 0 < 2 ^ p := Nat.two_pow_pos p
  rw [pk_sub (show 1 ≤ 2 ^ (p + 1) * m + 2 ^ p by omega)]
  apply Int32.toBitVec_inj.mp
  apply BitVec.eq_of_getLsbD_eq
  intro i hi
  have e1 : ∀ n : Nat, (nI n).toBitVec.getLsbD i = n.testBit i := fun n => by
    show (BitVec.ofNat 32 n).getLsbD i = _
    rw [BitVec.getLsbD_ofNat]
    simp [hi]
  have e2 : (-1 : Int32).toBitVec = BitVec.allOnes 32 := by decide
  have e3 : (BitVec.allOnes 32).getLsbD i = true := by rw [BitVec.getLsbD_allOnes]; exact decide_eq_true hi
  rw [Int32.toBitVec_and, BitVec.getLsbD_and, Int32.toBitVec_xor, BitVec.getLsbD_xor, e1, e1, e1, e2, e3]
  have e4 : 2 ^ (p + 1) * m + 2 ^ p - 1 = 2 ^ (p + 1) * m + (2 ^ p - 1) := by omega
  rw [e4, Nat.testBit_two_pow_mul_add m (show 2 ^ p < 2 ^ (p + 1) by rw [Nat.pow_succ]; omega), Nat.testBit_two_pow_mul_add m (show 2 ^ p - 1 < 2 ^ (p + 1) by rw [Nat.pow_succ]; omega), Nat.testBit_two_pow_sub_one, Nat.testBit_two_pow]
  by_cases h1 : i < p
  · have h2 : i < p + 1 := by omega
    have h3 : ¬ p = i := by omega
    simp [h1, h2, h3]
  · by_cases h2 : i = p
    · subst h2; simp
    · have h3 : ¬ i < p + 1 := by omega
      simp [h1, h3]
theorem odd_part : ∀ n : Nat, 0 < n → ∃ p m, n = 2 ^ (p + 1) * m + 2 ^ p := by
  intro n
  induction n using Nat.strongRecOn with
  | _ n ih =>
    intro hn
    by_cases h : n % 2 = 1
    · exact ⟨0, n / 2, by omega⟩
    · obtain ⟨p, m, e⟩ := ih (n / 2) (by omega) (by omega)
      refine ⟨p + 1, m, ?_⟩
      have : n = 2 * (n / 2) := by omega
      rw [this, e, Nat.pow_succ 2 (p + 1), Nat.pow_succ 2 p]
      generalize 2 ^ p = z
      rw [Nat.mul_add, ← Nat.mul_assoc, Nat.mul_comm 2 (z * 2), Nat.mul_comm 2 z]
theorem or_nat {n k : Nat} (hn : n < 65536) (hk : k < 16) : ∃ m, m < 65536 ∧ nI n ||| (nI 1 <<< (nI k &&& 31)) = nI m := by
  refine ⟨n ||| 2 ^ k, ?_, ?_⟩
  · have h1 : n < 2 ^ 16 := hn
    have h2 : 2 ^ k < 2 ^ 16 := Nat.pow_lt_pow_right (by decide) hk
    exact Nat.or_lt_two_pow h1 h2
  · rw [shl_pow k (by omega)]
    apply Int32.toBitVec_inj.mp
    apply BitVec.eq_of_toNat_eq
    have h2 : 2 ^ k < 2 ^ 16 := Nat.pow_lt_pow_right (by decide) hk
    have h3 : n ||| 2 ^ k < 2 ^ 16 := Nat.or_lt_two_pow hn h2
    rw [Int32.toBitVec_or, BitVec.toNat_or]
    show (BitVec.ofNat 32 n).toNat ||| (BitVec.ofNat 32 (2 ^ k)).toNat = (BitVec.ofNat 32 (n ||| 2 ^ k)).toNat
    rw [BitVec.toNat_ofNat, BitVec.toNat_ofNat, BitVec.toNat_ofNat, Nat.mod_eq_of_lt (by omega), Nat.mod_eq_of_lt (by omega), Nat.mod_eq_of_lt (by omega)]
theorem hb_nat (st fe : vV) : ∀ n, n ≤ 16 → ∃ m, m < 65536 ∧ (hbF st fe n).2 = nI m
  | 0, _ => ⟨0, by decide, rfl⟩
  | n + 1, hn => by
    obtain ⟨m, hm, e⟩ := hb_nat st fe n (by omega)
    rw [hbF_step st fe (by omega), e]
    by_cases h : bkB st fe n = true
    · rw [if_pos h]; exact or_nat hm (by omega)
    · rw [if_neg h, or_0]; exact ⟨m, hm, rfl⟩
theorem hourB_nat (st : vV) : ∃ m, m < 65536 ∧ hourB st = nI m := by
  rw [hourB_eq]
  exact hb_nat st _ 16 (Nat.le_refl _)
/-- what the lowest bit of the broken ones is -/
theorem hourB_low {st : vV} (h : ¬ hourB st = 0) : ∃ p, p < 16 ∧ (hourB st ^^^ (-1 : Int32)) &&& (hourB st - nI 1) = nI (2 ^ p - 1) ∧ hasB (hourB st) (nI p) = true ∧ ∀ j, j < p → hasB (hourB st) (nI j) = false := by
  obtain ⟨n, hn, e⟩ := hourB_nat st
  have h0 : 0 < n := by
    rcases Nat.eq_zero_or_pos n with z | z
    · subst z; exact absurd (e.trans nI_0) h
    · exact z
  obtain ⟨p, m, en⟩ := odd_part n h0
  have hp : p < 16 := by
    rcases Nat.lt_or_ge p 16 with z | z
    · exact z
    · have : 2 ^ 16 ≤ 2 ^ p := Nat.pow_le_pow_right (by decide) z
      omega
  subst en
  rw [e]
  refine ⟨p, hp, low_bits (by omega), ?_, fun j hj => ?_⟩
  · rw [hasB_nat (by omega) (by omega), Nat.testBit_two_pow_mul_add m (show 2 ^ p < 2 ^ (p + 1) by rw [Nat.pow_succ]; have := Nat.two_pow_pos p; omega), if_pos (by omega), Nat.testBit_two_pow]
    simp
  · rw [hasB_nat (by omega) (by omega), Nat.testBit_two_pow_mul_add m (show 2 ^ p < 2 ^ (p + 1) by rw [Nat.pow_succ]; have := Nat.two_pow_pos p; omega), if_pos (by omega), Nat.testBit_two_pow]
    have : ¬ p = j := by omega
    simp [this]
theorem lowG_at {b : Int32} {p : Nat} (hp : p < 16) (h1 : hasB b (nI p) = true) (h2 : ∀ j, j < p → hasB b (nI j) = false) : ∀ n, n ≤ 16 → 16 ≤ n + p → lowG b n = nI p
  | 0, _, h => by omega
  | n + 1, hn, h => by
    have hs : lowG b (n + 1) = if hasB b (cdn n) = true then cdn n else lowG b n := rfl
    rw [hs, cdn_nat (by omega)]
    by_cases e : 15 - n = p
    · rw [e, if_pos h1]
    · rw [h2 (15 - n) (by omega), if_neg (by decide)]
      exact lowG_at hp h1 h2 n (by omega) (by omega)
theorem lowG_0 : ∀ n, lowG 0 n = (-1000000 : Int32)
  | 0 => rfl
  | n + 1 => by
    have hs : lowG 0 (n + 1) = if hasB 0 (cdn n) = true then cdn n else lowG 0 n := rfl
    rw [hs, lowG_0 n]
    by_cases e : n < 16
    · rw [cdn_nat e, ← nI_0, has_0 (by omega), if_neg (by decide)]
    · have e0 : hasB 0 (cdn n) = false := by
        unfold hasB
        have : (0 : Int32) >>> (cdn n &&& 31) = 0 := by
          apply Int32.toBitVec_inj.mp
          show (0#32).sshiftRight _ = 0#32
          simp
        rw [this]
        decide
      rw [e0, if_neg (by decide)]
