/-! ===== bits; the air in a pass, plainly ===== -/
theorem b_s32 : ∀ c, c < 32 → ((nI c &&& 31).toBitVec.smod 32).toNat = c := by decide +kernel
theorem and_one (x : Int32) : decide (x &&& nI 1 = nI 1) = x.toBitVec.getLsbD 0 := by
  rw [Bool.eq_iff_iff, decide_eq_true_eq]
  constructor
  · intro h
    have h2 := congrArg (fun z : Int32 => z.toBitVec.getLsbD 0) h
    simpa [nI] using h2
  · intro h
    apply Int32.toBitVec_inj.mp
    apply BitVec.eq_of_getLsbD_eq
    intro i hi
    have e : (nI 1).toBitVec = 1#32 := by decide
    rw [Int32.toBitVec_and, BitVec.getLsbD_and, e, BitVec.getLsbD_one]
    by_cases h0 : i = 0
    · subst h0; simp [h]
    · simp [h0]
theorem hasB_bit (x : Int32) {c : Nat} (hc : c < 32) : hasB x (nI c) = x.toBitVec.getLsbD c := by
  unfold hasB
  rw [and_one]
  show (x.toBitVec.sshiftRight ((nI c &&& 31).toBitVec.smod 32).toNat).getLsbD 0 = _
  rw [b_s32 c hc, BitVec.getLsbD_sshiftRight]
  simp [hc]
theorem one_bit {n i : Nat} (hn : n < 32) (hi : i < 32) : (nI 1 <<< (nI n &&& 31)).toBitVec.getLsbD i = decide (i = n) := by
  show ((nI 1).toBitVec <<< ((nI n &&& 31).toBitVec.smod 32).toNat).getLsbD i = _
  rw [b_s32 n hn, BitVec.getLsbD_shiftLeft, show (nI 1).toBitVec = 1#32 by decide, BitVec.getLsbD_one]
  by_cases h : i = n
  · subst h; simp [hi]
  · by_cases h2 : i < n
    · simp [h2, h]
    · have : i - n ≠ 0 := by omega
      simp [h, this]
theorem has_or {x : Int32} {n c : Nat} (hn : n < 32) (hc : c < 32) : hasB (x ||| (nI 1 <<< (nI n &&& 31))) (nI c) = (hasB x (nI c) || decide (c = n)) := by
  rw [hasB_bit _ hc, hasB_bit _ hc, Int32.toBitVec_or, BitVec.getLsbD_or, one_bit hn hc]
theorem has_0 {c : Nat} (hc : c < 32) : hasB (nI 0) (nI c) = false := by
  rw [hasB_bit _ hc, show (nI 0).toBitVec = 0#32 by decide]
  simp
theorem or_0 (x : Int32) : x ||| nI 0 = x := by
  apply Int32.toBitVec_inj.mp
  rw [Int32.toBitVec_or, show (nI 0).toBitVec = 0#32 by decide]
  simp
theorem has_opC {x : Int32} {n c : Nat} (hn : n < 32) (hc : c < 32) : hasB (opC x n) (nI c) = (hasB x (nI c) && decide (c ≠ n)) := by
  unfold opC
  rw [hasB_bit _ hc, hasB_bit _ hc, Int32.toBitVec_and, BitVec.getLsbD_and, Int32.toBitVec_xor, BitVec.getLsbD_xor, one_bit hn hc, show (-1 : Int32).toBitVec = BitVec.allOnes 32 by decide]
  by_cases h : c = n
  · subst h
    have h1 : (BitVec.allOnes 32).getLsbD c = true := by rw [BitVec.getLsbD_allOnes]; exact decide_eq_true hc
    rw [h1]
    simp
  · have h1 : (BitVec.allOnes 32).getLsbD c = true := by rw [BitVec.getLsbD_allOnes]; exact decide_eq_true hc
    rw [h1]
    simp [h]
theorem has_xor {x : Int32} {n c : Nat} (hn : n < 32) (hc : c < 32) : hasB (x ^^^ (nI 1 <<< (nI n &&& 31))) (nI c) = (hasB x (nI c) ^^ decide (c = n)) := by
  rw [hasB_bit _ hc, hasB_bit _ hc, Int32.toBitVec_xor, BitVec.getLsbD_xor, one_bit hn hc]
/-- the bit itself -/
theorem bit_val (x : Int32) {c : Nat} (hc : c < 32) : (x >>> (nI c &&& 31)) &&& nI 1 = (if hasB x (nI c) = true then nI 1 else nI 0) := by
  by_cases h : hasB x (nI c) = true
  · rw [if_pos h]
    unfold hasB at h
    exact of_decide_eq_true h
  · rw [if_neg h]
    apply Int32.toBitVec_inj.mp
    apply BitVec.eq_of_getLsbD_eq
    intro i hi
    rw [hasB_bit x hc] at h
    rw [Int32.toBitVec_and, BitVec.getLsbD_and, show (nI 1).toBitVec = 1#32 by decide, show (nI 0).toBitVec = 0#32 by decide, BitVec.getLsbD_one]
    by_cases h0 : i = 0
    · subst h0
      have e : (x >>> (nI c &&& 31)).toBitVec.getLsbD 0 = x.toBitVec.getLsbD c := by
        show (x.toBitVec.sshiftRight ((nI c &&& 31).toBitVec.smod 32).toNat).getLsbD 0 = _
        rw [b_s32 c hc, BitVec.getLsbD_sshiftRight]
        simp [hc]
      rw [e]
      simp at h
      simp [h]
    · simp [h0]
/-! ===== the air in a pass, as functions ===== -/
def pFL (I : mG) (u : Nat) (f : vV × Int32) : mG := va_up (va_up (va_up I u (upd (I u) 8 f.2)) (u + 4) f.1) (u + 5) (fun y => f.1 (16 + y))
theorem pFL_u (I : mG) (u : Nat) (f : vV × Int32) : pFL I u f u = upd (I u) 8 f.2 := by
  unfold pFL
  rw [va_up_ne _ _ (by omega), va_up_ne _ _ (by omega), va_up_self]
theorem pFL_4 (I : mG) (u : Nat) (f : vV × Int32) : pFL I u f (u + 4) = f.1 := by
  unfold pFL
  rw [va_up_ne _ _ (by omega), va_up_self]
theorem pFL_5 (I : mG) (u : Nat) (f : vV × Int32) : pFL I u f (u + 5) = fun y => f.1 (16 + y) := by
  unfold pFL
  rw [va_up_self]
theorem pFL_ne (I : mG) (u : Nat) (f : vV × Int32) {n : Nat} (h : n ≠ u) (h4 : n ≠ u + 4) (h5 : n ≠ u + 5) : pFL I u f n = I n := by
  unfold pFL
  rw [va_up_ne _ _ h5, va_up_ne _ _ h4, va_up_ne _ _ h]
theorem g2_ne (I : mG) {a n : Nat} (i : Nat) (x : Int32) (h : n ≠ a) : g2 I a i x n = I n := va_up_ne _ _ h
theorem g2_s (I : mG) (a i : Nat) (x : Int32) : g2 I a i x a = upd (I a) i x := va_up_self _ _ _
theorem upd_at (f : vV) (i : Nat) (x : Int32) (j : Nat) : upd f i x j = if j = i then x else f j := rfl
theorem in4 {y : Int32} (h : inB y 0 (nI 3) = true) : ∃ k, k ≤ 3 ∧ y = nI k := inB_nat (by decide) h
theorem come_fl (I : mG) (u : Nat) {x : Nat} (y v : Int32) (f : vV × Int32) {n i : Nat} (hx : x < 4) (h : n = u + 4 → i < 16) : comeI (pFL I u f) u (x + 1) y v n i = pFL I u (goesF x y v f) n i := by
  by_cases c : inB y 0 (nI 3) = true
  · obtain ⟨k, hk, rfl⟩ := in4 c
    have c1 : ¬ nI k < 0 := nI_pos (by omega)
    have c2 : nI k < nI 4 := nI_lt (by omega) (by decide)
    unfold comeI goesF
    rw [if_neg c1, if_pos c2, if_pos c, ix_nI (by omega), pFL_5, pFL_4]
    by_cases h4 : x + 1 = 4
    · rw [if_pos h4]
      have hx3 : x = 3 := by omega
      subst hx3
      by_cases e5 : n = u + 5
      · subst e5
        rw [g2_s, pFL_5, pFL_5]
        simp only [upd_at]
        by_cases e : i = k
        · subst e; simp
        · have e2 : ¬ 16 + i = 16 + k := by omega
          simp [e, e2]
      · rw [g2_ne _ _ _ e5]
        by_cases e4 : n = u + 4
        · subst e4
          rw [pFL_4, pFL_4]
          have := h rfl
          show f.1 i = upd f.1 _ _ i
          rw [upd_at, if_neg (by omega)]
        · by_cases e0 : n = u
          · subst e0; rw [pFL_u, pFL_u]
          · rw [pFL_ne _ _ _ e0 e4 e5, pFL_ne _ _ _ e0 e4 e5]
    · rw [if_neg h4]
      have e0' : 4 * (x + 1) + k = 4 * x + 4 + k := by omega
      rw [e0']
      by_cases e4 : n = u + 4
      · subst e4
        rw [g2_s, pFL_4, pFL_4]
      · rw [g2_ne _ _ _ e4]
        by_cases e5 : n = u + 5
        · subst e5
          rw [pFL_5, pFL_5]
          show f.1 (16 + i) = upd f.1 _ _ (16 + i)
          rw [upd_at, if_neg (by omega)]
        · by_cases e0 : n = u
          · subst e0; rw [pFL_u, pFL_u]
          · rw [pFL_ne _ _ _ e0 e4 e5, pFL_ne _ _ _ e0 e4 e5]
  · have key : comeI (pFL I u f) u (x + 1) y v = g2 (pFL I u f) u 8 (pFL I u f u 8 + v) := by
      unfold comeI
      by_cases c1 : y < 0
      · rw [if_pos c1]
      · rw [if_neg c1]
        by_cases c2 : y < nI 4
        · exfalso
          obtain ⟨j, hj, rfl⟩ := nI_of c1
          have hj4 : j < 4 := (nI_ltI hj (by decide)).mp c2
          exact c (inB_of (by decide) (by omega))
        · rw [if_neg c2]
    rw [key]
    unfold goesF
    rw [if_neg c]
    by_cases e0 : n = u
    · subst e0
      rw [g2_s, pFL_u, pFL_u]
      show upd (upd (I n) 8 f.2) 8 (upd (I n) 8 f.2 8 + v) i = upd (I n) 8 (f.2 + v) i
      rw [upd_uu, upd_at _ 8 f.2 8, if_pos rfl]
    · rw [g2_ne _ _ _ e0]
      by_cases e4 : n = u + 4
      · subst e4; rw [pFL_4, pFL_4]
      · by_cases e5 : n = u + 5
        · subst e5; rw [pFL_5, pFL_5]
        · rw [pFL_ne _ _ _ e0 e4 e5, pFL_ne _ _ _ e0 e4 e5]
theorem onK_eq {k : Nat} {v op : Int32} {b : Bool} (h1 : 1 ≤ k) (h2 : k ≤ 5) (hb : b = decide (op = nI 1)) : onK k v b = onF (nI k) op v := by
  have hk : k = 1 ∨ k = 2 ∨ k = 3 ∨ k = 4 ∨ k = 5 := by omega
  have z : nI 0 + v / nI 2 = v / nI 2 := by rw [nI_0, Int32.zero_add]
  rcases hk with rfl | rfl | rfl | rfl | rfl
  · unfold onK onF; rw [if_neg (by decide), if_neg (by decide), if_neg (by rintro (q | q); exact absurd q (by decide); exact absurd q.1 (by decide)), if_neg (by decide)]
  · unfold onK onF; rw [if_pos rfl, if_neg (by rintro (q | q); exact absurd q (by decide); exact absurd q.1 (by decide)), if_pos rfl, z]
  · unfold onK onF
    rw [if_neg (by decide), if_pos rfl]
    by_cases e : op = nI 1
    · rw [if_pos (by rw [hb]; exact decide_eq_true e), if_pos (Or.inr ⟨rfl, e⟩)]
    · rw [if_neg (by rw [hb]; exact fun q => e (of_decide_eq_true q)), if_neg (by rintro (q | q); exact absurd q (by decide); exact e q.2), if_neg (by decide)]
  · unfold onK onF; rw [if_neg (by decide), if_neg (by decide), if_neg (by rintro (q | q); exact absurd q (by decide); exact absurd q.1 (by decide)), if_neg (by decide)]
  · unfold onK onF; rw [if_neg (by decide), if_neg (by decide), if_neg (by rintro (q | q); exact absurd q (by decide); exact absurd q.1 (by decide)), if_neg (by decide)]
theorem onF_0 {v op : Int32} : v = onF (nI 0) op v := by unfold onF; rw [if_pos (Or.inl nI_0)]
theorem sub_0 (v : Int32) : v - nI 0 = v := by rw [nI_0, Int32.sub_zero]
theorem nrK_eq {k h : Nat} {v op : Int32} (hh : h < 2 ^ 31) (h1 : 1 ≤ k) (h2 : k ≤ 5) : nrK k (v - onF (nI k) op v) (nI h) = upF (nI k) (nI h) v (onF (nI k) op v) := by
  have hk : k = 1 ∨ k = 2 ∨ k = 3 ∨ k = 4 ∨ k = 5 := by omega
  have hz : ∀ j : Nat, j = 4 ∨ j = 5 → onF (nI j) op v = nI 0 := by
    rintro j (rfl | rfl)
    · unfold onF; rw [if_neg (by rintro (q | q); exact absurd q (by decide); exact absurd q.1 (by decide)), if_neg (by decide)]
    · unfold onF; rw [if_neg (by rintro (q | q); exact absurd q (by decide); exact absurd q.1 (by decide)), if_neg (by decide)]
  have hr : irem (nI h) (nI 2) = nI (h % 2) := pk_rem hh (by decide) (by decide)
  rcases hk with rfl | rfl | rfl | rfl | rfl
  · unfold nrK upF; rw [if_neg (by decide), if_neg (by decide), if_neg (by decide)]
  · unfold nrK upF; rw [if_neg (by decide), if_neg (by decide), if_neg (by decide)]
  · unfold nrK upF; rw [if_neg (by decide), if_neg (by decide), if_neg (by decide)]
  · rw [hz 4 (Or.inl rfl), sub_0]
    unfold nrK upF
    rw [if_pos rfl, if_pos (by decide), if_pos (by simp [nthF])]
  · rw [hz 5 (Or.inr rfl), sub_0]
    unfold nrK upF nthF
    rw [hr, if_neg (show ¬ (5 : Nat) = 4 by decide), if_pos (show (5 : Nat) = 5 from rfl)]
    have : h % 2 = 0 ∨ h % 2 = 1 := by omega
    rcases this with e | e
    · rw [e, if_neg (show ¬ nI 0 = nI 1 by decide), if_pos (show nI 4 ≤ nI 5 by decide), if_pos (by decide)]
    · rw [e, if_pos (show nI 1 = nI 1 from rfl), if_pos (show nI 4 ≤ nI 5 by decide), if_neg (by decide)]
theorem upF_0 {h v op : Int32} : nI 0 = upF (nI 0) h v (onF (nI 0) op v) := by
  rw [← onF_0]
  unfold upF
  rw [if_neg (by decide), Int32.sub_self]
  decide
/-! ===== a pass and the reference's vector ===== -/
def wkC (dom : List Nat) (K : gK) (I : mG) (o : Option Nat) (st : vV) (c : Nat) : Prop := (o = none ∧ st (9 + c) = nI 0) ∨ ∃ w k, o = some w ∧ w ∈ dom ∧ 1 ≤ k ∧ k ≤ 5 ∧ (K w).1 = 3 + k ∧ st (9 + c) = nI k ∧ I w 0 = nI c ∧ I w 1 = st (25 + c)
/-- the pass u is as st says -/
def psR (dom : List Nat) (K : gK) (I : mG) (R : gR) (u : Nat) (st : vV) : Prop :=
  isPass dom K R u ∧ I u 1 = st 0 ∧ (∀ y, y < 4 → I (u + 1) y = st (1 + y) ∧ I (u + 2) y = st (5 + y)) ∧
  ∀ c, c < 16 → hasB (I u 5) (nI c) = decide (st (41 + c) = nI 1) ∧ (st (41 + c) = nI 0 ∨ st (41 + c) = nI 1) ∧ (st (9 + c) = nI 0 → st (41 + c) = nI 0) ∧ wkC dom K I (R (u + 3) c) st c
/-- nothing but the pass u has changed -/
def pOff (u : Nat) (I I' : mG) (R R' : gR) : Prop := (∀ n, n < u ∨ u + 6 ≤ n → I' n = I n ∧ R' n = R n) ∧ ∀ n, n ≠ u + 3 → R' n = R n
theorem pOff.rf {u : Nat} {I : mG} {R : gR} : pOff u I I R R := ⟨fun _ _ => ⟨rfl, rfl⟩, fun _ _ => rfl⟩
theorem pOff.tr {u : Nat} {I I' I2 : mG} {R R' R2 : gR} (h : pOff u I I' R R') (h2 : pOff u I' I2 R' R2) : pOff u I I2 R R2 :=
  ⟨fun n hn => ⟨((h2.1 n hn).1).trans (h.1 n hn).1, ((h2.1 n hn).2).trans (h.1 n hn).2⟩, fun n hn => (h2.2 n hn).trans (h.2 n hn)⟩
theorem isPass.off {dom : List Nat} {K : gK} {R R' : gR} {u : Nat} (h : isPass dom K R u) (e : R' u = R u) : isPass dom K R' u := by
  obtain ⟨h1, h2, h3⟩ := h
  refine ⟨h1, h2, ?_⟩
  rw [e]
  exact h3
/-- a cell of a class of works lies in no pass -/
theorem isPass.wk {dom : List Nat} {K : gK} {R : gR} {u w k : Nat} (h : isPass dom K R u) (hk : (K w).1 = 3 + k) (h1 : 1 ≤ k) (h2 : k ≤ 5) : w < u ∨ u + 6 ≤ w := by
  obtain ⟨-, ⟨a0, a1, a2, a3, a4, a5⟩, -⟩ := h
  by_cases hw : w < u ∨ u + 6 ≤ w
  · exact hw
  · exfalso
    have : w = u ∨ w = u + 1 ∨ w = u + 2 ∨ w = u + 3 ∨ w = u + 4 ∨ w = u + 5 := by omega
    rcases this with e | e | e | e | e | e <;> subst e
    · omega
    · rw [a1] at hk; simp only at hk; omega
    · rw [a2] at hk; simp only at hk; omega
    · rw [a3] at hk; simp only at hk; omega
    · rw [a4] at hk; simp only at hk; omega
    · rw [a5] at hk; simp only at hk; omega
/-- two passes lie apart -/
theorem isPass.apart {dom : List Nat} {K : gK} {R : gR} {u v : Nat} (h : isPass dom K R u) (h' : isPass dom K R v) (hne : u ≠ v) : u + 6 ≤ v ∨ v + 6 ≤ u := by
  obtain ⟨-, ⟨a0, a1, a2, a3, a4, a5⟩, -⟩ := h
  obtain ⟨-, ⟨b0, b1, b2, b3, b4, b5⟩, -⟩ := h'
  by_cases hw : u + 6 ≤ v ∨ v + 6 ≤ u
  · exact hw
  · exfalso
    have : v = u + 1 ∨ v = u + 2 ∨ v = u + 3 ∨ v = u + 4 ∨ v = u + 5 ∨ u = v + 1 ∨ u = v + 2 ∨ u = v + 3 ∨ u = v + 4 ∨ u = v + 5 := by omega
    rcases this with e | e | e | e | e | e | e | e | e | e <;> subst e
    · rw [a1] at b0; exact absurd b0 (by decide)
    · rw [a2] at b0; exact absurd b0 (by decide)
    · rw [a3] at b0; exact absurd b0 (by decide)
    · rw [a4] at b0; exact absurd b0 (by decide)
    · rw [a5] at b0; exact absurd b0 (by decide)
    · rw [b1] at a0; exact absurd a0 (by decide)
    · rw [b2] at a0; exact absurd a0 (by decide)
    · rw [b3] at a0; exact absurd a0 (by decide)
    · rw [b4] at a0; exact absurd a0 (by decide)
    · rw [b5] at a0; exact absurd a0 (by decide)
theorem isPass.k1 {dom : List Nat} {K : gK} {R : gR} {u n i : Nat} (h : isPass dom K R u) (hk : (K n).1 < 20 ∨ i < (K n).2) (e : n = u + 1) : i < 4 := by
  subst e
  rw [h.2.1.2.1] at hk
  rcases hk with h | h
  · exact absurd h (by decide)
  · exact h
theorem isPass.k2 {dom : List Nat} {K : gK} {R : gR} {u n i : Nat} (h : isPass dom K R u) (hk : (K n).1 < 20 ∨ i < (K n).2) (e : n = u + 2) : i < 4 := by
  subst e
  rw [h.2.1.2.2.1] at hk
  rcases hk with h | h
  · exact absurd h (by decide)
  · exact h
theorem isPass.k4 {dom : List Nat} {K : gK} {R : gR} {u n i : Nat} (h : isPass dom K R u) (hk : (K n).1 < 20 ∨ i < (K n).2) (e : n = u + 4) : i < 16 := by
  subst e
  rw [h.2.1.2.2.2.2.1] at hk
  rcases hk with h | h
  · exact absurd h (by decide)
  · exact h
theorem isPass.k5 {dom : List Nat} {K : gK} {R : gR} {u n i : Nat} (h : isPass dom K R u) (hk : (K n).1 < 20 ∨ i < (K n).2) (e : n = u + 5) : i < 4 := by
  subst e
  rw [h.2.1.2.2.2.2.2] at hk
  rcases hk with h | h
  · exact absurd h (by decide)
  · exact h
theorem wkC.wk {dom : List Nat} {K : gK} {I : mG} {o : Option Nat} {st : vV} {c : Nat} (h : wkC dom K I o st c) : isWk st c = o.isSome := by
  rcases h with ⟨rfl, h⟩ | ⟨w, k, rfl, -, h1, h2, -, h, -⟩
  · unfold isWk; rw [h]; decide
  · unfold isWk
    rw [h]
    have : (0 : Int32) < nI k := by rw [← nI_0]; exact nI_lt (by omega) (by omega)
    simp [this]
/-- a pass elsewhere is not touched -/
theorem psR.off {dom : List Nat} {K : gK} {I I' : mG} {R R' : gR} {u v : Nat} {st : vV} (h : psR dom K I R v st) (ho : pOff u I I' R R') (hu : isPass dom K R u) (hne : v ≠ u) : psR dom K I' R' v st := by
  have hap := hu.apart h.1 (Ne.symm hne)
  have e : ∀ j, j < 6 → I' (v + j) = I (v + j) ∧ R' (v + j) = R (v + j) := fun j hj => ho.1 _ (by omega)
  have e0 : I' v = I v ∧ R' v = R v := ho.1 v (by omega)
  obtain ⟨h1, h2, h3, h4⟩ := h
  refine ⟨h1.off e0.2, by rw [e0.1]; exact h2, fun y hy => ?_, fun c hc => ?_⟩
  · rw [(e 1 (by omega)).1, (e 2 (by omega)).1]; exact h3 y hy
  · obtain ⟨g1, g2, g3, g4⟩ := h4 c hc
    refine ⟨by rw [e0.1]; exact g1, g2, g3, ?_⟩
    rw [(e 3 (by omega)).2]
    rcases g4 with g4 | ⟨w, k, a1, a2, a3, a4, a5, a6, a7, a8⟩
    · exact Or.inl g4
    · have hw := hu.wk a5 a3 a4
      exact Or.inr ⟨w, k, a1, a2, a3, a4, a5, a6, by rw [(ho.1 w hw).1]; exact a7, by rw [(ho.1 w hw).1]; exact a8⟩
/-! ===== an hour ===== -/
def bkB (st fe : vV) (c : Nat) : Bool := isWk st c && decide (st (25 + c) < fe c)
theorem hbF_char (st fe : vV) : ∀ n, n ≤ 16 → (∀ c, c < 16 → ((hbF st fe n).1 (9 + c) = (if c < n ∧ bkB st fe c = true then nI 0 else st (9 + c))) ∧ ((hbF st fe n).1 (25 + c) = (if c < n ∧ bkB st fe c = true then nI 0 else st (25 + c))) ∧ ((hbF st fe n).1 (41 + c) = (if c < n ∧ bkB st fe c = true then nI 0 else st (41 + c))) ∧ hasB (hbF st fe n).2 (nI c) = decide (c < n ∧ bkB st fe c = true)) ∧ (∀ j, j < 9 → (hbF st fe n).1 j = st j)
  | 0, _ => by
    refine ⟨fun c hc => ?_, fun j _ => rfl⟩
    have e : ¬ (c < 0 ∧ bkB st fe c = true) := by omega
    rw [if_neg e, if_neg e, if_neg e]
    exact ⟨rfl, rfl, rfl, by rw [decide_eq_false e]; exact has_0 (by omega)⟩
  | n + 1, hn => by
    obtain ⟨ih, ih2⟩ := hbF_char st fe n (by omega)
    have hs : (hbF st fe (n + 1)) = if bkB st fe n = true then (clr (hbF st fe n).1 n, (hbF st fe n).2 ||| (nI 1 <<< (nI n &&& 31))) else hbF st fe n := by
      show (if isWk (hbF st fe n).1 n = true ∧ (hbF st fe n).1 (25 + n) < fe n then _ else _) = _
      obtain ⟨a1, a2, -, -⟩ := ih n (by omega)
      rw [if_neg (by omega)] at a1 a2
      have e : (isWk (hbF st fe n).1 n = true ∧ (hbF st fe n).1 (25 + n) < fe n) ↔ bkB st fe n = true := by
        unfold bkB isWk
        rw [a1, a2, Bool.and_eq_true, decide_eq_true_eq, decide_eq_true_eq]
      by_cases hb : bkB st fe n = true
      · rw [if_pos (e.mpr hb), if_pos hb]
      · rw [if_neg (fun q => hb (e.mp q)), if_neg hb]
    rw [hs]
    by_cases hb : bkB st fe n = true
    · rw [if_pos hb]
      refine ⟨fun c hc => ?_, fun j hj => ?_⟩
      · obtain ⟨a1, a2, a3, a4⟩ := ih c hc
        by_cases hcn : c = n
        · subst hcn
          rw [if_pos ⟨by omega, hb⟩, if_pos ⟨by omega, hb⟩, if_pos ⟨by omega, hb⟩]
          refine ⟨?_, ?_, ?_, ?_⟩
          · show upd (upd (upd _ (9 + c) (nI 0)) (25 + c) (nI 0)) (41 + c) (nI 0) (9 + c) = _
            rw [upd_at, if_neg (by omega), upd_at, if_neg (by omega), upd_at, if_pos rfl]
          · show upd (upd (upd _ (9 + c) (nI 0)) (25 + c) (nI 0)) (41 + c) (nI 0) (25 + c) = _
            rw [upd_at, if_neg (by omega), upd_at, if_pos rfl]
          · show upd (upd (upd _ (9 + c) (nI 0)) (25 + c) (nI 0)) (41 + c) (nI 0) (41 + c) = _
            rw [upd_at, if_pos rfl]
          · show hasB (_ ||| _) _ = _
            rw [has_or (by omega) (by omega), decide_eq_true (show c = c from rfl), Bool.or_true, decide_eq_true ⟨by omega, hb⟩]
        · have e1 : (c < n + 1 ∧ bkB st fe c = true) ↔ (c < n ∧ bkB st fe c = true) := ⟨fun q => ⟨by omega, q.2⟩, fun q => ⟨by omega, q.2⟩⟩
          simp only [e1]
          refine ⟨?_, ?_, ?_, ?_⟩
          · show upd (upd (upd _ (9 + n) (nI 0)) (25 + n) (nI 0)) (41 + n) (nI 0) (9 + c) = _
            rw [upd_at, if_neg (by omega), upd_at, if_neg (by omega), upd_at, if_neg (by omega)]
            exact a1
          · show upd (upd (upd _ (9 + n) (nI 0)) (25 + n) (nI 0)) (41 + n) (nI 0) (25 + c) = _
            rw [upd_at, if_neg (by omega), upd_at, if_neg (by omega), upd_at, if_neg (by omega)]
            exact a2
          · show upd (upd (upd _ (9 + n) (nI 0)) (25 + n) (nI 0)) (41 + n) (nI 0) (41 + c) = _
            rw [upd_at, if_neg (by omega), upd_at, if_neg (by omega), upd_at, if_neg (by omega)]
            exact a3
          · show hasB (_ ||| _) _ = _
            rw [has_or (by omega) (by omega), a4, decide_eq_false (show ¬ c = n from hcn), Bool.or_false]
      · show upd (upd (upd _ (9 + n) (nI 0)) (25 + n) (nI 0)) (41 + n) (nI 0) j = _
        rw [upd_at, if_neg (by omega), upd_at, if_neg (by omega), upd_at, if_neg (by omega)]
        exact ih2 j hj
    · rw [if_neg hb]
      refine ⟨fun c hc => ?_, ih2⟩
      have e1 : (c < n + 1 ∧ bkB st fe c = true) ↔ (c < n ∧ bkB st fe c = true) := ⟨fun q => ⟨by
        by_cases hcn : c = n
        · subst hcn; exact absurd q.2 hb
        · omega, q.2⟩, fun q => ⟨by omega, q.2⟩⟩
      simp only [e1]
      exact ih c hc
theorem hbF_step (st fe : vV) {n : Nat} (hn : n < 16) : (hbF st fe (n + 1)).2 = (hbF st fe n).2 ||| (if bkB st fe n = true then nI 1 <<< (nI n &&& 31) else nI 0) := by
  obtain ⟨ih, -⟩ := hbF_char st fe n (by omega)
  obtain ⟨a1, a2, -, -⟩ := ih n (by omega)
  rw [if_neg (by omega)] at a1 a2
  have e : (isWk (hbF st fe n).1 n = true ∧ (hbF st fe n).1 (25 + n) < fe n) ↔ bkB st fe n = true := by
    unfold bkB isWk
    rw [a1, a2, Bool.and_eq_true, decide_eq_true_eq, decide_eq_true_eq]
  have hs : hbF st fe (n + 1) = if isWk (hbF st fe n).1 n = true ∧ (hbF st fe n).1 (25 + n) < fe n then (clr (hbF st fe n).1 n, (hbF st fe n).2 ||| (nI 1 <<< (nI n &&& 31))) else hbF st fe n := rfl
  rw [hs]
  by_cases hb : bkB st fe n = true
  · rw [if_pos (e.mpr hb), if_pos hb]
  · rw [if_neg (fun q => hb (e.mp q)), if_neg hb, or_0]
def oF (o b : Int32) : Nat → Int32
  | 0 => o
  | n + 1 => if hasB b (nI n) = true then opC (oF o b n) n else oF o b n
def rF (f : Nat → Option Nat) (b : Int32) : Nat → Nat → Option Nat
  | 0 => f
  | n + 1 => if hasB b (nI n) = true then va_up (rF f b n) n none else rF f b n
theorem oF_has (o b : Int32) {c : Nat} (hc : c < 16) : ∀ n, n ≤ 16 → hasB (oF o b n) (nI c) = (hasB o (nI c) && !(decide (c < n) && hasB b (nI c)))
  | 0, _ => by simp [oF]
  | n + 1, hn => by
    have ih := oF_has o b hc n (by omega)
    have hs : oF o b (n + 1) = if hasB b (nI n) = true then opC (oF o b n) n else oF o b n := rfl
    rw [hs]
    by_cases hb : hasB b (nI n) = true
    · rw [if_pos hb, has_opC (by omega) (by omega), ih]
      by_cases hcn : c = n
      · subst hcn; simp [hb]
      · have e : decide (c < n + 1) = decide (c < n) := by
          by_cases h : c < n
          · rw [decide_eq_true h, decide_eq_true (by omega)]
          · rw [decide_eq_false h, decide_eq_false (by omega)]
        rw [e]; simp [hcn]
    · rw [if_neg hb, ih]
      by_cases hcn : c = n
      · subst hcn; simp [hb]
      · have e : decide (c < n + 1) = decide (c < n) := by
          by_cases h : c < n
          · rw [decide_eq_true h, decide_eq_true (by omega)]
          · rw [decide_eq_false h, decide_eq_false (by omega)]
        rw [e]
theorem rF_at (f : Nat → Option Nat) (b : Int32) (c : Nat) : ∀ n, rF f b n c = if c < n ∧ hasB b (nI c) = true then none else f c
  | 0 => by rw [if_neg (by omega)]; rfl
  | n + 1 => by
    have ih := rF_at f b c n
    have hs : rF f b (n + 1) = if hasB b (nI n) = true then va_up (rF f b n) n none else rF f b n := rfl
    rw [hs]
    by_cases hb : hasB b (nI n) = true
    · rw [if_pos hb]
      by_cases hcn : c = n
      · subst hcn; rw [va_up_self, if_pos ⟨by omega, hb⟩]
      · rw [va_up_ne _ _ hcn, ih]
        by_cases h : c < n ∧ hasB b (nI c) = true
        · rw [if_pos h, if_pos ⟨by omega, h.2⟩]
        · rw [if_neg h, if_neg (fun q => h ⟨by omega, q.2⟩)]
    · rw [if_neg hb, ih]
      by_cases hcn : c = n
      · subst hcn; rw [if_neg (by omega), if_neg (fun q => hb q.2)]
      · by_cases h : c < n ∧ hasB b (nI c) = true
        · rw [if_pos h, if_pos ⟨by omega, h.2⟩]
        · rw [if_neg h, if_neg (fun q => h ⟨by omega, q.2⟩)]
theorem rsF_o (X : vV) : ∀ n, ∀ j, (j = 0 ∨ n < j) → rsF X n j = X j
  | 0, _, _ => rfl
  | n + 1, j, h => by
    show upd (rsF X n) (1 + n) _ j = _
    rw [upd_at, if_neg (by omega)]
    exact rsF_o X n j (by omega)
/-- behind an hour the pass is as hourS says -/
theorem psR.hour {dom : List Nat} {K : gK} {I I' : mG} {R R' : gR} {u : Nat} {st : vV} (h : psR dom K I R u st) (ho : pOff u I I' R R') (e1 : I' u 1 = st 0 + nI 1) (e5 : I' u 5 = oF (I u 5) (hourB st) 16) (eg : ∀ y, y < 4 → I' (u + 1) y = rsF (hS0 st) 4 (1 + y)) (er : ∀ y, y < 4 → I' (u + 2) y = I (u + 2) y) (eR : R' (u + 3) = rF (R (u + 3)) (hourB st) 16) : psR dom K I' R' u (hourS st) := by
  obtain ⟨h1, h2, h3, h4⟩ := h
  obtain ⟨ch, ch0⟩ := hbF_char st (bl st).1 16 (Nat.le_refl _)
  have hX : ∀ j, j ≠ 0 → hS0 st j = (hbF st (bl st).1 16).1 j := fun j hj => by
    show upd _ 0 _ j = _
    rw [upd_at, if_neg hj]
  rw [hourS_eq]
  refine ⟨h1.off (ho.2 u (by omega)), ?_, fun y hy => ⟨eg y hy, ?_⟩, fun c hc => ?_⟩
  · rw [rsF_o _ _ _ (Or.inl rfl), e1]
    show _ = upd _ 0 _ 0
    rw [upd_at, if_pos rfl, ch0 0 (by omega)]
  · rw [er y hy, (h3 y hy).2, rsF_o _ _ _ (by omega), hX _ (by omega), ch0 _ (by omega)]
  · obtain ⟨g1, g2, g3, g4⟩ := h4 c hc
    obtain ⟨c1, c2, c3, c4⟩ := ch c hc
    rw [rsF_o _ _ _ (show 41 + c = 0 ∨ 4 < 41 + c by omega), rsF_o _ _ _ (show 9 + c = 0 ∨ 4 < 9 + c by omega), hX _ (show 41 + c ≠ 0 by omega), hX _ (show 9 + c ≠ 0 by omega), c1, c3, e5, oF_has _ _ hc 16 (Nat.le_refl _), hourB_eq, c4, g1]
    have hw := g4.wk
    by_cases hb : bkB st (bl st).1 c = true
    · have e : c < 16 ∧ bkB st (bl st).1 c = true := ⟨hc, hb⟩
      rw [if_pos e, if_pos e]
      refine ⟨by simp [hb, hc, show ¬ nI 0 = nI 1 by decide], Or.inl rfl, fun _ => rfl, Or.inl ⟨?_, ?_⟩⟩
      · rw [eR, rF_at, hourB_eq, if_pos ⟨hc, by rw [c4]; exact decide_eq_true e⟩]
      · rw [rsF_o _ _ _ (by omega), hX _ (by omega), c1, if_pos e]
    · have e : ¬ (c < 16 ∧ bkB st (bl st).1 c = true) := fun q => hb q.2
      rw [if_neg e, if_neg e]
      refine ⟨by simp [hb], g2, g3, ?_⟩
      have eo : R' (u + 3) c = R (u + 3) c := by rw [eR, rF_at, hourB_eq, if_neg (fun q => by rw [c4] at q; exact e (of_decide_eq_true q.2))]
      rw [eo]
      rcases g4 with ⟨g4, g5⟩ | ⟨w, k, a1, a2, a3, a4, a5, a6, a7, a8⟩
      · exact Or.inl ⟨g4, by rw [rsF_o _ _ _ (by omega), hX _ (by omega), c1, if_neg e]; exact g5⟩
      · have hww := h1.wk a5 a3 a4
        refine Or.inr ⟨w, k, a1, a2, a3, a4, a5, by rw [rsF_o _ _ _ (by omega), hX _ (by omega), c1, if_neg e]; exact a6, by rw [(ho.1 w hww).1]; exact a7, ?_⟩
        rw [(ho.1 w hww).1, rsF_o _ _ _ (by omega), hX _ (by omega), c2, if_neg e]
        exact a8
