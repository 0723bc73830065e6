/-! ===== the air is never below 0 ===== -/
def gOk (st : vV) : Prop := ∀ y, y < 4 → (∃ g, g < 32 ∧ st (1 + y) = nI g) ∧ ∃ r, r < 32 ∧ st (5 + y) = nI r
/-- all is felt as naturals up to A -/
def aB (f : vV) (A : Nat) : Prop := ∀ j, ∃ a, a ≤ A ∧ f j = nI a
theorem goes_le {x : Nat} {y : Int32} {b A : Nat} {f : vV × Int32} (h : ∀ j, ∃ a, a ≤ A ∧ f.1 j = nI a) : ∀ j, ∃ a, a ≤ A + b ∧ (goesF x y (nI b) f).1 j = nI a := by
  intro j
  obtain ⟨a, ha, e⟩ := h j
  unfold goesF
  by_cases c : inB y 0 (nI 3) = true
  · rw [if_pos c]
    by_cases hj : j = 4 * x + 4 + ix y
    · refine ⟨a + b, by omega, ?_⟩
      show upd _ _ _ j = _
      rw [upd_at, if_pos hj, ← hj, e, nI_add]
    · refine ⟨a, by omega, ?_⟩
      show upd _ _ _ j = _
      rw [upd_at, if_neg hj, e]
  · rw [if_neg c]
    exact ⟨a, by omega, e⟩
theorem onF_le (kind op : Int32) {a : Nat} (h : a < 2 ^ 31) : ∃ b, b ≤ a ∧ onF kind op (nI a) = nI b ∧ (nI 4 ≤ kind → b = 0) := by
  unfold onF
  by_cases c : kind = 0 ∨ (kind = nI 3 ∧ op = nI 1)
  · rw [if_pos c]
    refine ⟨a, Nat.le_refl _, rfl, fun q => ?_⟩
    rcases c with c | c
    · subst c; exact absurd q (by decide)
    · rw [c.1] at q; exact absurd q (by decide)
  · rw [if_neg c]
    by_cases c2 : kind = nI 2
    · rw [if_pos c2]
      refine ⟨a / 2, Nat.div_le_self _ _, pk_div h (by decide) (by decide), fun q => ?_⟩
      rw [c2] at q; exact absurd q (by decide)
    · rw [if_neg c2]
      exact ⟨0, by omega, rfl, fun _ => rfl⟩
theorem upF_le (kind hour : Int32) {a b : Nat} (h : a < 2 ^ 31) (hb : b ≤ a) (h4 : nI 4 ≤ kind → b = 0) : ∃ c, c ≤ a - b ∧ upF kind hour (nI a) (nI b) = nI c := by
  unfold upF
  by_cases c : nI 4 ≤ kind
  · rw [if_pos c]
    have := h4 c
    by_cases c2 : nthF kind hour = true
    · rw [if_pos c2]; exact ⟨a, by omega, rfl⟩
    · rw [if_neg c2]; exact ⟨0, by omega, rfl⟩
  · rw [if_neg c, pk_sub hb]
    exact ⟨(a - b) / 2, Nat.div_le_self _ _, pk_div (by omega) (by decide) (by decide)⟩
theorem cellF_le {st : vV} {f : vV × Int32} {A c : Nat} (hA : A < 2 ^ 31) (h : ∀ j, ∃ a, a ≤ A ∧ f.1 j = nI a) : ∀ j, ∃ a, a ≤ A + A ∧ (cellF st f c).1 j = nI a := by
  obtain ⟨v, hv, ev⟩ := h c
  unfold cellF
  rw [ev]
  obtain ⟨o, ho, eo, o4⟩ := onF_le (st (9 + c)) (st (41 + c)) (a := v) (by omega)
  rw [eo]
  obtain ⟨u, hu, eu⟩ := upF_le (st (9 + c)) (st 0) (a := v) (b := o) (by omega) ho o4
  rw [eu, pk_sub ho, pk_sub hu]
  intro j
  obtain ⟨a, ha, e⟩ := goes_le (x := c / 4) (y := nI (c % 4 + 1)) (b := v - o - u) (goes_le (x := c / 4) (y := nI (c % 4) - nI 1) (b := u) (goes_le (x := c / 4) (y := nI (c % 4)) (b := o) h)) j
  exact ⟨a, by omega, e⟩
theorem blF_le {st : vV} (h : ∀ y, y < 4 → ∃ g, g < 32 ∧ st (1 + y) = nI g) : ∀ n, n ≤ 16 → ∀ j, ∃ a, a ≤ 32 * 2 ^ n ∧ (blF st n).1 j = nI a
  | 0, _, j => by
    show ∃ a, _ ∧ bl0 st j = nI a
    unfold bl0
    by_cases hj : j < 4
    · obtain ⟨g, hg, e⟩ := h j hj
      rw [if_pos hj]
      exact ⟨g, by omega, e⟩
    · rw [if_neg hj]
      exact ⟨0, by omega, rfl⟩
  | n + 1, hn, j => by
    have ih := blF_le h n (by omega)
    have h2 : 32 * 2 ^ n ≤ 32 * 2 ^ 15 := Nat.mul_le_mul_left _ (Nat.pow_le_pow_right (by decide) (by omega))
    obtain ⟨a, ha, e⟩ := cellF_le (st := st) (c := n) (f := blF st n) (A := 32 * 2 ^ n) (by omega) ih j
    exact ⟨a, by rw [Nat.pow_succ]; omega, e⟩
theorem bl_nat {st : vV} (h : ∀ y, y < 4 → ∃ g, g < 32 ∧ st (1 + y) = nI g) (j : Nat) : ∃ a, a ≤ 32 * 2 ^ 16 ∧ (bl st).1 j = nI a := by
  rw [bl_eq]
  exact blF_le h 16 (Nat.le_refl _) j
/-! ===== most ===== -/
noncomputable def msC (st : vV) (y n : Nat) : Int32 := if (msF st y n).1 = -1000000 then -1000000 else (msF st y n).2
theorem nI_neM {n : Nat} (h : n < 2 ^ 31) : ¬ nI n = (-1000000 : Int32) := by
  intro e
  have := congrArg Int32.toInt e
  rw [nI_toInt h, show (-1000000 : Int32).toInt = -1000000 by decide] at this
  omega
theorem nI_ltN {n : Nat} (h : n < 2 ^ 31) : (-1000000 : Int32) < nI n := by
  rw [Int32.lt_iff_toInt_lt, nI_toInt h, show (-1000000 : Int32).toInt = -1000000 by decide]
  omega
/-- either nothing yet, or a natural -/
theorem ms_inv {st : vV} (h : ∀ y, y < 4 → ∃ g, g < 32 ∧ st (1 + y) = nI g) (y : Nat) : ∀ n, n ≤ 16 → (msF st y n = (-1000000, -1)) ∨ ∃ c a, c < 16 ∧ a < 2 ^ 31 ∧ msF st y n = (nI c, nI a)
  | 0, _ => Or.inl rfl
  | n + 1, hn => by
    have ih := ms_inv h y n (by omega)
    have hs : msF st y (n + 1) = if isWk st n = true then msF st y n else (if msV st y n ≤ (msF st y n).2 then (msF st y n).1 else nI n, if msV st y n ≤ (msF st y n).2 then (msF st y n).2 else msV st y n) := rfl
    rw [hs]
    by_cases c : isWk st n = true
    · rw [if_pos c]; exact ih
    · rw [if_neg c]
      obtain ⟨a, ha, e⟩ := bl_nat (st := upd st (9 + n) (nI 1)) (fun y hy => by rw [upd_at, if_neg (by omega)]; exact h y hy) (16 + y)
      have ev : msV st y n = nI a := e
      by_cases c2 : msV st y n ≤ (msF st y n).2
      · rw [if_pos c2, if_pos c2]; exact ih
      · rw [if_neg c2, if_neg c2]; exact Or.inr ⟨n, a, by omega, by omega, by rw [ev]⟩
theorem ms_wk {st : vV} {y n : Nat} (c : isWk st n = true) : msC st y n = msC st y (n + 1) ∧ (msF st y n).1 = (msF st y (n + 1)).1 := by
  have hs : msF st y (n + 1) = msF st y n := by
    show (if isWk st n = true then _ else _) = _
    rw [if_pos c]
  unfold msC
  rw [hs]
  exact ⟨rfl, rfl⟩
/-- the component's step -/
theorem ms_step {st : vV} (h : ∀ y, y < 4 → ∃ g, g < 32 ∧ st (1 + y) = nI g) {y n : Nat} (hn : n < 16) (c : isWk st n = false) :
    (msF st y (n + 1)).1 = (if msV st y n ≤ msC st y n then (msF st y n).1 else nI n) ∧ msC st y (n + 1) = (if msC st y n < msV st y n then msV st y n else msC st y n) := by
  obtain ⟨a, ha, e⟩ := bl_nat (st := upd st (9 + n) (nI 1)) (fun y hy => by rw [upd_at, if_neg (by omega)]; exact h y hy) (16 + y)
  have ev : msV st y n = nI a := e
  have hs : msF st y (n + 1) = (if msV st y n ≤ (msF st y n).2 then (msF st y n).1 else nI n, if msV st y n ≤ (msF st y n).2 then (msF st y n).2 else msV st y n) := by
    show (if isWk st n = true then _ else _) = _
    rw [if_neg (by rw [c]; decide)]
  rcases ms_inv h y n (by omega) with z | ⟨q, w, hq, hw, z⟩
  · have e1 : ¬ msV st y n ≤ (msF st y n).2 := by
      rw [z, ev, Int32.not_le]
      show (-1 : Int32) < nI a
      rw [Int32.lt_iff_toInt_lt, nI_toInt (by omega), show (-1 : Int32).toInt = -1 by decide]
      omega
    have eC : msC st y n = -1000000 := by unfold msC; rw [z]; rfl
    have e2 : msC st y n < msV st y n := by rw [eC, ev]; exact nI_ltN (by omega)
    rw [if_neg e1, if_neg e1] at hs
    refine ⟨by rw [hs, if_neg (Int32.not_le.mpr e2)], ?_⟩
    rw [if_pos e2]
    unfold msC
    rw [hs, if_neg (nI_neM (by omega))]
  · have eC : msC st y n = nI w := by unfold msC; rw [z, if_neg (nI_neM (by omega))]
    have e2 : (msF st y n).2 = nI w := by rw [z]
    have e1 : (msF st y n).1 = nI q := by rw [z]
    rw [eC]
    rw [e2] at hs
    by_cases c2 : msV st y n ≤ nI w
    · rw [if_pos c2, if_pos c2] at hs
      refine ⟨by rw [hs, if_pos c2], ?_⟩
      rw [if_neg (Int32.not_lt.mpr c2)]
      unfold msC
      rw [hs]
      show (if (msF st y n).1 = _ then _ else _) = _
      rw [e1, if_neg (nI_neM (by omega))]
    · rw [if_neg c2, if_neg c2] at hs
      refine ⟨by rw [hs, if_neg c2], ?_⟩
      rw [if_pos (Int32.not_le.mp c2)]
      unfold msC
      rw [hs, if_neg (nI_neM (by omega))]
theorem ms_end {st : vV} (h : ∀ y, y < 4 → ∃ g, g < 32 ∧ st (1 + y) = nI g) (y : Nat) : (0 ≤ (msF st y 16).1 ∧ msC st y 16 = (msF st y 16).2) ∨ (¬ 0 ≤ (msF st y 16).1 ∧ (msF st y 16).1 = -1000000 ∧ msC st y 16 = -1000000) := by
  rcases ms_inv h y 16 (Nat.le_refl _) with z | ⟨q, w, hq, hw, z⟩
  · right
    unfold msC
    rw [z]
    exact ⟨by decide, rfl, rfl⟩
  · left
    unfold msC
    rw [z]
    exact ⟨nI_pos' (by omega), by rw [if_neg (nI_neM (by omega))]⟩
/-! ===== stands ===== -/
theorem allB_f {P : Nat → Bool} {c : Nat} (h : P c = false) : ∀ n, c < n → allB P n = false
  | 0, h0 => by omega
  | n + 1, hn => by
    show (allB P n && P n) = false
    by_cases e : c = n
    · subst e; rw [h, Bool.and_false]
    · rw [allB_f h n (by omega), Bool.false_and]
/-! ===== lots ===== -/
theorem lt_9 (st : vV) (c s : Int32) : ∀ x, x ≤ 16 → ∀ j, x ≤ j → j < 16 → (ltF st c s x).2.2 (9 + j) = st (9 + j)
  | 0, _, _, _, _ => rfl
  | x + 1, hx, j, hj, hj2 => by
    have ih := lt_9 st c s x (by omega) j (by omega) hj2
    show (if isWk (ltF st c s x).2.2 x = true then ((ltF st c s x).1 * (if hasB s (nI (ltF st c s x).2.1) = true then c else nI 10 - c), (ltF st c s x).2.1 + 1, if hasB s (nI (ltF st c s x).2.1) = true then clr (ltF st c s x).2.2 x else (ltF st c s x).2.2) else ltF st c s x).2.2 (9 + j) = _
    split
    · dsimp only
      split
      · show upd (upd (upd _ (9 + x) (nI 0)) (25 + x) (nI 0)) (41 + x) (nI 0) (9 + j) = _
        rw [upd_at, if_neg (by omega), upd_at, if_neg (by omega), upd_at, if_neg (by omega)]
        exact ih
      · exact ih
    · exact ih
theorem lt_wk {st : vV} {c s : Int32} {x : Nat} (hx : x < 16) : isWk (ltF st c s x).2.2 x = isWk st x := by
  unfold isWk
  rw [lt_9 st c s x (by omega) x (Nat.le_refl _) hx]
def wyF (c s : Int32) : Nat → Int32
  | 0 => nI 1
  | k + 1 => wyF c s k * (if hasB s (nI k) = true then c else nI 10 - c)
theorem lt_way (st : vV) (c s : Int32) : ∀ x, (ltF st c s x).1 = wyF c s (ltF st c s x).2.1
  | 0 => rfl
  | x + 1 => by
    have ih := lt_way st c s x
    have hs : ltF st c s (x + 1) = if isWk (ltF st c s x).2.2 x = true then ((ltF st c s x).1 * (if hasB s (nI (ltF st c s x).2.1) = true then c else nI 10 - c), (ltF st c s x).2.1 + 1, if hasB s (nI (ltF st c s x).2.1) = true then clr (ltF st c s x).2.2 x else (ltF st c s x).2.2) else ltF st c s x := rfl
    rw [hs]
    split
    · show (ltF st c s x).1 * _ = wyF c s ((ltF st c s x).2.1 + 1)
      rw [ih]
      rfl
    · exact ih
theorem lt_many (st : vV) (c s : Int32) : ∀ x, x ≤ 16 → (ltF st c s x).2.1 = cntW st x
  | 0, _ => rfl
  | x + 1, hx => by
    have ih := lt_many st c s x (by omega)
    have hs : ltF st c s (x + 1) = if isWk (ltF st c s x).2.2 x = true then ((ltF st c s x).1 * (if hasB s (nI (ltF st c s x).2.1) = true then c else nI 10 - c), (ltF st c s x).2.1 + 1, if hasB s (nI (ltF st c s x).2.1) = true then clr (ltF st c s x).2.2 x else (ltF st c s x).2.2) else ltF st c s x := rfl
    rw [hs]
    show _ = cntW st x + (if isWk st x = true then 1 else 0)
    rw [lt_wk (by omega)]
    by_cases c1 : isWk st x = true
    · rw [if_pos c1, if_pos c1]
      show (ltF st c s x).2.1 + 1 = _
      rw [ih]
    · rw [if_neg c1, if_neg c1, ih, Nat.add_zero]
/-- the sum of all the ways -/
def wsF (c : Int32) (n : Nat) : Nat → Int32
  | 0 => nI 0
  | s + 1 => wsF c n s + wyF c (nI s) n
theorem hasB_nat {s k : Nat} (hs : s < 2 ^ 31) (hk : k < 32) : hasB (nI s) (nI k) = s.testBit k := by
  rw [hasB_bit _ hk]
  show (BitVec.ofNat 32 s).getLsbD k = _
  rw [BitVec.getLsbD_ofNat]
  simp [hk]
theorem wy_lo {c : Int32} {s n : Nat} (hn : n ≤ 16) (hs : s < 2 ^ n) : ∀ k, k ≤ n → wyF c (nI (2 ^ n + s)) k = wyF c (nI s) k
  | 0, _ => rfl
  | k + 1, hk => by
    have ih := wy_lo (c := c) hn hs k (by omega)
    have h16 : 2 ^ n ≤ 2 ^ 16 := Nat.pow_le_pow_right (by decide) hn
    show wyF c _ k * (if hasB _ (nI k) = true then c else _) = wyF c _ k * (if hasB _ (nI k) = true then c else _)
    rw [ih, hasB_nat (by omega) (by omega), hasB_nat (by omega) (by omega), Nat.testBit_two_pow_add_gt (by omega)]
theorem ws_hi {c : Int32} {n : Nat} (hn : n ≤ 15) : ∀ s, s ≤ 2 ^ n → wsF c (n + 1) (2 ^ n + s) = wsF c (n + 1) (2 ^ n) + wsF c n s * c
  | 0, _ => by
    show _ = _ + nI 0 * c
    rw [nI_0, Int32.zero_mul, Int32.add_zero]
    rfl
  | s + 1, hs => by
    have ih := ws_hi (c := c) hn s (by omega)
    have h16 : 2 ^ n ≤ 2 ^ 15 := Nat.pow_le_pow_right (by decide) hn
    show wsF c (n + 1) (2 ^ n + s) + wyF c (nI (2 ^ n + s)) (n + 1) = _ + (wsF c n s + wyF c (nI s) n) * c
    rw [ih]
    have e : wyF c (nI (2 ^ n + s)) (n + 1) = wyF c (nI s) n * c := by
      show wyF c _ n * (if hasB _ (nI n) = true then c else _) = _
      rw [wy_lo (by omega) (by omega) n (Nat.le_refl _), hasB_nat (by omega) (by omega), Nat.testBit_two_pow_add_eq, Nat.testBit_lt_two_pow (by omega), if_pos (show (!false) = true from rfl)]
    rw [e, Int32.add_mul, Int32.add_assoc]
theorem ws_lo {c : Int32} {n : Nat} (hn : n ≤ 15) : ∀ s, s ≤ 2 ^ n → wsF c (n + 1) s = wsF c n s * (nI 10 - c)
  | 0, _ => by
    show nI 0 = nI 0 * _
    rw [nI_0, Int32.zero_mul]
  | s + 1, hs => by
    have ih := ws_lo (c := c) hn s (by omega)
    have h16 : 2 ^ n ≤ 2 ^ 15 := Nat.pow_le_pow_right (by decide) hn
    show wsF c (n + 1) s + wyF c (nI s) (n + 1) = (wsF c n s + wyF c (nI s) n) * _
    rw [ih, Int32.add_mul]
    show _ + wyF c (nI s) n * (if hasB _ (nI n) = true then c else _) = _
    rw [hasB_nat (by omega) (by omega), Nat.testBit_lt_two_pow (by omega), if_neg (by decide)]
theorem ws_all (c : Int32) : ∀ n, n ≤ 16 → wsF c n (2 ^ n) = pwF n
  | 0, _ => by
    show nI 0 + nI 1 = nI 1
    decide
  | n + 1, hn => by
    have ih := ws_all c n (by omega)
    have e : 2 ^ (n + 1) = 2 ^ n + 2 ^ n := by rw [Nat.pow_succ]; omega
    rw [e, ws_hi (by omega) _ (Nat.le_refl _), ws_lo (by omega) _ (Nat.le_refl _), ih, ← Int32.mul_add]
    show pwF n * (nI 10 - c + c) = pwF n * nI 10
    rw [Int32.sub_add_cancel]
