/-! ===== what the reference computes: acts, rows, asking ===== -/
def amOk (G : mG) : Prop := ∃ am, am ≤ 24 ∧ G 0 22 = nI am
def trOk (G : mG) : Prop := ∃ tm, tm ≤ 16 ∧ G 0 27 = nI tm
def byOk (G : mG) : Prop := ∃ b, b ≤ 120 ∧ G 0 8 = nI b
def szOk (G : mG) : Prop := ∀ r, r < 8 → G 2 r = -1 ∨ ∃ k, k ≤ 40 ∧ G 2 r = nI k
theorem seg_0 (K : mG) (n a : Nat) (g : vV) : K = va_up K n (fun j => if a ≤ j ∧ j < a + 0 then g (j - a) else K n j) := by
  apply va_up_id'
  funext j
  rw [if_neg (by omega)]
theorem seg_step (g f : vV) (a i : Nat) : upd (fun j => if a ≤ j ∧ j < a + i then g (j - a) else f j) (a + i) (g i) = fun j => if a ≤ j ∧ j < a + (i + 1) then g (j - a) else f j := by
  funext j
  unfold upd
  by_cases h : j = a + i
  · subst h; rw [if_pos rfl, if_pos (by omega), Nat.add_sub_cancel_left]
  · rw [if_neg h]
    show (if a ≤ j ∧ j < a + i then g (j - a) else f j) = _
    by_cases h2 : a ≤ j ∧ j < a + i
    · rw [if_pos h2, if_pos (by omega)]
    · rw [if_neg h2, if_neg (by omega)]
def note2 (G : mG) (am : Nat) : mG := g2 (va_up G 22 (fun j => if 57 * am ≤ j ∧ j < 57 * am + 57 then G 6 (j - 57 * am) else G 22 j)) 0 22 (nI (am + 1))
def note1 (G : mG) : mG := g2 (va_up G 22 (fun j => if j < 1311 then G 22 (j + 57) else G 22 j)) 0 22 (nI 23)
def noteG (G : mG) : mG := if ix (G 0 22) = 24 then note2 (note1 G) 23 else note2 G (ix (G 0 22))
theorem amOk_note {G : mG} (h : amOk G) : amOk (noteG G) := by
  obtain ⟨am, h1, h2⟩ := h
  unfold noteG
  rw [h2, ix_nI (by omega)]
  split
  · exact ⟨24, by decide, rfl⟩
  · exact ⟨am + 1, by omega, rfl⟩
theorem amOk_hour {G : mG} (h : amOk G) : amOk (hourG G) := h
noncomputable def hrsG (G : mG) : Nat → mG
  | 0 => G
  | n + 1 => hourG (noteG (hrsG G n))
theorem amOk_hrs {G : mG} (h : amOk G) : ∀ n, amOk (hrsG G n)
  | 0 => h
  | n + 1 => amOk_hour (amOk_note (amOk_hrs h n))
theorem sz_pos {x : Int32} (h : x = -1 ∨ ∃ k, k ≤ 40 ∧ x = nI k) (c : 0 ≤ x) : ∃ k, k ≤ 40 ∧ x = nI k := by
  rcases h with rfl | h
  · exact absurd c (by decide)
  · exact h
theorem inB_sz {x i : Int32} {k : Nat} (hk : k ≤ 1000) (e : x = nI k) (c : inB i 0 (x - nI 1) = true) : ∃ j, j < k ∧ i = nI j := by
  subst e
  rcases Nat.eq_zero_or_pos k with h | h
  · subst h
    simp only [inB, Bool.and_eq_true, decide_eq_true_eq] at c
    exact absurd (Int32.le_trans c.1 c.2) (by decide)
  · rw [pk_sub (by omega)] at c
    obtain ⟨j, hj, rfl⟩ := inB_nat (by omega) c
    exact ⟨j, by omega, rfl⟩
/-- i from 0 to a size less n, as longs -/
theorem in_szn {x i n : Int32} {k : Nat} (hk : k ≤ 1000) (e : x = nI k) (hn : ¬ n < 0) (c : (decide ((0 : Int64) ≤ i.toInt64) && decide (i.toInt64 ≤ x.toInt64 - n.toInt64)) = true) : ∃ a b, i = nI a ∧ n = nI b ∧ a + b ≤ k := by
  subst e
  obtain ⟨b, hb, rfl⟩ := nI_of hn
  simp only [Bool.and_eq_true, decide_eq_true_eq] at c
  obtain ⟨c1, c2⟩ := c
  rw [nI_l (by omega), nI_l hb] at c2
  have hi0 : 0 ≤ i.toInt := by
    have := Int64.le_iff_toInt_le.mp c1
    rw [Int32.toInt_toInt64] at this
    simpa using this
  have h2 := Int64.le_iff_toInt_le.mp c2
  rw [Int32.toInt_toInt64] at h2
  have e3 : (lN k - lN b).toInt = (k : Int) - (b : Int) := by
    rw [Int64.toInt_sub, lN_toInt (by omega), lN_toInt hb]
    apply Int.bmod_eq_of_le <;> omega
  rw [e3] at h2
  obtain ⟨a, ha, rfl⟩ := nI_of (x := i) (by rw [Int32.not_lt, Int32.le_iff_toInt_le]; simpa using hi0)
  rw [nI_toInt ha] at h2
  exact ⟨a, b, rfl, rfl, by omega⟩
def isKd (of kind : Int32) : Bool := decide (kind = 0) || (decide (of = kind) || ((decide (kind = nI 1) && decide (of < nI 4)) || (decide (kind = nI 4) && decide (of = nI 5))))
def beginG (G : mG) (b : Int32) : mG := if ix (G 0 27) < 16 then g2 (g2 G 27 (ix (G 0 27)) b) 0 27 (nI (ix (G 0 27) + 1)) else G
theorem trOk_begin {G : mG} {b : Int32} (h : trOk G) : trOk (beginG G b) := by
  obtain ⟨tm, h1, h2⟩ := h
  unfold beginG
  rw [h2, ix_nI (by omega)]
  split
  · exact ⟨tm + 1, by omega, rfl⟩
  · exact ⟨tm, h1, h2⟩
theorem trOk_blow {G : mG} (h : trOk G) : trOk (blowG G) := h
theorem beginG_6 (G : mG) (b : Int32) : beginG G b 6 = G 6 := by
  unfold beginG
  split <;> rfl
def cntR (sz : vV) : Nat → Nat
  | 0 => 0
  | n + 1 => cntR sz n + (if sz n < 0 then 0 else 1)
theorem cntR_le (sz : vV) : ∀ n, cntR sz n ≤ n
  | 0 => Nat.le_refl 0
  | n + 1 => by
    have := cntR_le sz n
    show cntR sz n + (if _ then 0 else 1) ≤ n + 1
    split <;> omega
theorem tsw0_6 {x : Int32} (h0 : ¬ x = nI 0) (h1 : ¬ x = nI 1) (h2 : ¬ x = nI 2) (h3 : ¬ x = nI 3) (h4 : ¬ x = nI 4) (h5 : ¬ x = nI 5) (h6 : ¬ x = nI 6) : x.toInt < 0 ∨ 6 < x.toInt := by
  rcases Int.lt_or_le x.toInt 0 with h | h
  · exact Or.inl h
  · right
    rcases Int.lt_or_le 6 x.toInt with hz | hz
    · exact hz
    · exfalso
      have key : ∀ k : Nat, k < 2 ^ 31 → x.toInt = (k : Int) → x = nI k := fun k hk e => Int32.toInt_inj.mp (by rw [e, nI_toInt hk])
      have hc : x.toInt = 0 ∨ x.toInt = 1 ∨ x.toInt = 2 ∨ x.toInt = 3 ∨ x.toInt = 4 ∨ x.toInt = 5 ∨ x.toInt = 6 := by omega
      rcases hc with e | e | e | e | e | e | e
      · exact h0 (key 0 (by decide) e)
      · exact h1 (key 1 (by decide) e)
      · exact h2 (key 2 (by decide) e)
      · exact h3 (key 3 (by decide) e)
      · exact h4 (key 4 (by decide) e)
      · exact h5 (key 5 (by decide) e)
      · exact h6 (key 6 (by decide) e)
theorem tsw1_4 {x : Int32} (h1 : ¬ x = nI 1) (h2 : ¬ x = nI 2) (h3 : ¬ x = nI 3) (h4 : ¬ x = nI 4) : x.toInt < 1 ∨ 4 < x.toInt := by
  rcases Int.lt_or_le x.toInt 1 with h | h
  · exact Or.inl h
  · right
    rcases Int.lt_or_le 4 x.toInt with hz | hz
    · exact hz
    · exfalso
      have key : ∀ k : Nat, k < 2 ^ 31 → x.toInt = (k : Int) → x = nI k := fun k hk e => Int32.toInt_inj.mp (by rw [e, nI_toInt hk])
      have hc : x.toInt = 1 ∨ x.toInt = 2 ∨ x.toInt = 3 ∨ x.toInt = 4 := by omega
      rcases hc with e | e | e | e
      · exact h1 (key 1 (by decide) e)
      · exact h2 (key 2 (by decide) e)
      · exact h3 (key 3 (by decide) e)
      · exact h4 (key 4 (by decide) e)
theorem tsw0_4 {x : Int32} (h0 : ¬ x = nI 0) (h1 : ¬ x = nI 1) (h2 : ¬ x = nI 2) (h3 : ¬ x = nI 3) (h4 : ¬ x = nI 4) : x.toInt < 0 ∨ 4 < x.toInt := by
  rcases Int.lt_or_le x.toInt 0 with h | h
  · exact Or.inl h
  · right
    rcases Int.lt_or_le 4 x.toInt with hz | hz
    · exact hz
    · exfalso
      have key : ∀ k : Nat, k < 2 ^ 31 → x.toInt = (k : Int) → x = nI k := fun k hk e => Int32.toInt_inj.mp (by rw [e, nI_toInt hk])
      have hc : x.toInt = 0 ∨ x.toInt = 1 ∨ x.toInt = 2 ∨ x.toInt = 3 ∨ x.toInt = 4 := by omega
      rcases hc with e | e | e | e | e
      · exact h0 (key 0 (by decide) e)
      · exact h1 (key 1 (by decide) e)
      · exact h2 (key 2 (by decide) e)
      · exact h3 (key 3 (by decide) e)
      · exact h4 (key 4 (by decide) e)
theorem isKd_3 {a k : Int32} (h1 : k = nI 1) (h2 : a < nI 4) : isKd a k = true := by simp [isKd, h1, h2]
theorem isKd_4 {a k : Int32} (h1 : k = nI 4) (h2 : a = nI 5) : isKd a k = true := by simp [isKd, h1, h2]
theorem isKd_f {a k : Int32} (h1 : ¬ k = 0) (h2 : ¬ a = k) (h3 : ¬ (k = nI 1 ∧ a < nI 4)) (h4 : ¬ (k = nI 4 ∧ a = nI 5)) : isKd a k = false := by
  unfold isKd
  simp only [Bool.or_eq_false_iff, decide_eq_false_iff_not, Bool.and_eq_false_iff]
  refine ⟨h1, h2, ?_, ?_⟩
  · by_cases h : k = nI 1
    · exact Or.inr (fun q => h3 ⟨h, q⟩)
    · exact Or.inl h
  · by_cases h : k = nI 4
    · exact Or.inr (fun q => h4 ⟨h, q⟩)
    · exact Or.inl h
def lentF (st : vV) (b : Int32) (q : Nat) : Int32 := if b = nI 10 then st (25 + q) else nI q
noncomputable def wmkR (st : vV) (q : Nat) : Int32 := lentF st (nI 20) q + (bl st).1 q
noncomputable def wmkG (G : mG) : mG := blowG (beginG (beginG G (nI 21)) (nI 20))
def hszR (st : vV) (q : Nat) : Int32 := lentF st (nI 10) q - nI 100
def hszG (G : mG) : mG := beginG (beginG G (nI 13)) (nI 10)
