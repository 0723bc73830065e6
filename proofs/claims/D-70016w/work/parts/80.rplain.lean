/-! ===== the reader: what its fields say ===== -/
/-- the reader's fields at, token, from, value -/
def rdI (I : mG) (rd : Nat) (a t f v : Int32) : mG := va_up I rd (fun k => if k = 2 then a else if k = 3 then t else if k = 4 then f else if k = 5 then v else I rd k)
theorem rdI_at (I : mG) (rd : Nat) (a t f v : Int32) (k : Nat) : rdI I rd a t f v rd k = if k = 2 then a else if k = 3 then t else if k = 4 then f else if k = 5 then v else I rd k := by
  unfold rdI
  rw [va_up_self]
theorem rdI_ne {I : mG} {rd : Nat} {a t f v : Int32} {m : Nat} (h : m ≠ rd) : rdI I rd a t f v m = I m := va_up_ne _ _ h
theorem rdI_1 (I : mG) (rd : Nat) (a t f v : Int32) : rdI I rd a t f v rd 1 = I rd 1 := rdI_at _ _ _ _ _ _ _
theorem rdI_2 (I : mG) (rd : Nat) (a t f v : Int32) : rdI I rd a t f v rd 2 = a := rdI_at _ _ _ _ _ _ _
theorem rdI_3 (I : mG) (rd : Nat) (a t f v : Int32) : rdI I rd a t f v rd 3 = t := rdI_at _ _ _ _ _ _ _
theorem rdI_4 (I : mG) (rd : Nat) (a t f v : Int32) : rdI I rd a t f v rd 4 = f := rdI_at _ _ _ _ _ _ _
theorem rdI_5 (I : mG) (rd : Nat) (a t f v : Int32) : rdI I rd a t f v rd 5 = v := rdI_at _ _ _ _ _ _ _
theorem rdI_ext {J I : mG} {rd : Nat} {a t f v : Int32} (h : ∀ m, m ≠ rd → J m = I m) (h2 : ∀ k, J rd k = if k = 2 then a else if k = 3 then t else if k = 4 then f else if k = 5 then v else I rd k) : J = rdI I rd a t f v := by
  funext m k
  by_cases e : m = rd
  · subst e; rw [h2, rdI_at]
  · rw [h m e, rdI_ne e]
theorem rdI_id (I : mG) (rd : Nat) : I = rdI I rd (I rd 2) (I rd 3) (I rd 4) (I rd 5) := by
  refine rdI_ext (fun _ _ => rfl) (fun k => ?_)
  repeat' split
  all_goals first | rfl | (subst k; rfl)
theorem rdI_in {I : mG} {rd : Nat} {a t f v : Int32} (h2 : I rd 2 = a) (h3 : I rd 3 = t) (h4 : I rd 4 = f) (h5 : I rd 5 = v) : I = rdI I rd a t f v := by
  subst h2; subst h3; subst h4; subst h5
  exact rdI_id I rd
theorem rdI_p2 (I : mG) (rd : Nat) (a t f v x : Int32) : g2 (rdI I rd a t f v) rd 2 x = rdI I rd x t f v := by
  refine rdI_ext (fun m h => ?_) (fun k => ?_)
  · funext k; rw [g2_ap, if_neg (fun z => h z.1), rdI_ne h]
  · rw [g2_ap, rdI_at]
    by_cases e : k = 2
    · rw [if_pos ⟨rfl, e⟩, if_pos e]
    · rw [if_neg (fun z => e z.2), if_neg e, if_neg e]
theorem rdI_p3 (I : mG) (rd : Nat) (a t f v x : Int32) : g2 (rdI I rd a t f v) rd 3 x = rdI I rd a x f v := by
  refine rdI_ext (fun m h => ?_) (fun k => ?_)
  · funext k; rw [g2_ap, if_neg (fun z => h z.1), rdI_ne h]
  · rw [g2_ap, rdI_at]
    by_cases e : k = 3
    · subst e; rw [if_pos ⟨rfl, rfl⟩]; rfl
    · rw [if_neg (fun z => e z.2)]
      simp only [if_neg e]
theorem rdI_p4 (I : mG) (rd : Nat) (a t f v x : Int32) : g2 (rdI I rd a t f v) rd 4 x = rdI I rd a t x v := by
  refine rdI_ext (fun m h => ?_) (fun k => ?_)
  · funext k; rw [g2_ap, if_neg (fun z => h z.1), rdI_ne h]
  · rw [g2_ap, rdI_at]
    by_cases e : k = 4
    · subst e; rw [if_pos ⟨rfl, rfl⟩]; rfl
    · rw [if_neg (fun z => e z.2)]
      simp only [if_neg e]
theorem rdI_p5 (I : mG) (rd : Nat) (a t f v x : Int32) : g2 (rdI I rd a t f v) rd 5 x = rdI I rd a t f x := by
  refine rdI_ext (fun m h => ?_) (fun k => ?_)
  · funext k; rw [g2_ap, if_neg (fun z => h z.1), rdI_ne h]
  · rw [g2_ap, rdI_at]
    by_cases e : k = 5
    · subst e; rw [if_pos ⟨rfl, rfl⟩]; rfl
    · rw [if_neg (fun z => e z.2)]
      simp only [if_neg e]
theorem rdI_rdI (I : mG) (rd : Nat) (a t f v a' t' f' v' : Int32) : rdI (rdI I rd a t f v) rd a' t' f' v' = rdI I rd a' t' f' v' := by
  refine rdI_ext (fun m h => by rw [rdI_ne h, rdI_ne h]) (fun k => ?_)
  rw [rdI_at, rdI_at]
  by_cases h2 : k = 2
  · rw [if_pos h2, if_pos h2]
  by_cases h3 : k = 3
  · rw [if_neg h2, if_pos h3, if_neg h2, if_pos h3]
  by_cases h4 : k = 4
  · rw [if_neg h2, if_neg h3, if_pos h4, if_neg h2, if_neg h3, if_pos h4]
  by_cases h5 : k = 5
  · rw [if_neg h2, if_neg h3, if_neg h4, if_pos h5, if_neg h2, if_neg h3, if_neg h4, if_pos h5]
  rw [if_neg h2, if_neg h3, if_neg h4, if_neg h5, if_neg h2, if_neg h3, if_neg h4, if_neg h5, if_neg h2, if_neg h3, if_neg h4, if_neg h5]
/-- the tape T, of n bytes -/
def tpR (I : mG) (T : vV) (n : Nat) : Prop := n ≤ 120 ∧ ∀ i, i < n → ∃ c, c < 256 ∧ T i = nI c ∧ I 10 i = asL (nI 0) (nI c)
def rdB (N : Nat) (K : gK) (I : mG) (R : gR) (rd : Nat) (T : vV) (n : Nat) : Prop := (44 ≤ rd ∧ rd + 7 ≤ N ∧ (K rd).1 = 10 ∧ K 10 = (21, 120)) ∧ (R rd 0 = some 10 ∧ R rd 6 = some (rd + 1) ∧ I rd 1 = nI n) ∧ tpR I T n
theorem rdB.rdI {N : Nat} {K : gK} {I : mG} {R : gR} {rd : Nat} {T : vV} {n : Nat} (h : rdB N K I R rd T n) (a t f v : Int32) : rdB N K (rdI I rd a t f v) R rd T n := by
  obtain ⟨h1, ⟨h2, h3, h4⟩, h5, h6⟩ := h
  refine ⟨h1, ⟨h2, h3, by rw [rdI_1]; exact h4⟩, h5, fun i hi => ?_⟩
  rw [rdI_ne (by omega)]
  exact h6 i hi
def lkV (T : vV) (n p : Nat) : Int32 := if p < n then T p else -1000000
theorem lk_and : ∀ c : Nat, c < 256 → asL (nI 0) (nI c) &&& nI 255 = nI c := by decide +kernel
theorem lk_in {T : vV} {n p c : Nat} (h : p < n) (e : T p = nI c) : lkV T n p = nI c := by
  unfold lkV
  rw [if_pos h, e]
theorem lk_no {T : vV} {n p : Nat} (h : ¬ p < n) : lkV T n p = -1000000 := if_neg h
/-- the component's token and the reference's -/
def tkR (tk va : Int32) (E : Nat × Int32 × Int32) : Prop :=
  (E.2.1 = nI 3 ∧ tk = nI 0) ∨ (E.2.1 = nI 2 ∧ tk = nI 2 ∧ va = E.2.2) ∨ (∃ c, (97 ≤ c ∧ c ≤ 122) ∧ E.2.1 = nI 1 ∧ E.2.2 = nI c ∧ va = nI c ∧ tk = nI 1) ∨ (∃ c, (c = 44 ∨ c = 59) ∧ E.2.1 = nI 1 ∧ E.2.2 = nI c ∧ va = nI c ∧ tk = nI 3) ∨ (E.2.1 = nI 0 ∧ tk = nI 4)
theorem ch_not : ∀ c : Nat, c < 256 → inB (nI c) (nI 97) (nI 122) = true → inB (nI c) (nI 48) (nI 57) = false ∧ isLet (nI c) = true ∧ 97 ≤ c ∧ c ≤ 122 := by decide +kernel
theorem ch_sig : ∀ c : Nat, c < 256 → c = 44 ∨ c = 59 → inB (nI c) (nI 48) (nI 57) = false ∧ isLet (nI c) = true := by decide +kernel
theorem ch_str : ∀ c : Nat, c < 256 → inB (nI c) (nI 97) (nI 122) = false → c ≠ 44 → c ≠ 59 → isLet (nI c) = false := by decide +kernel
theorem ch_ne : ∀ c : Nat, c < 256 → ¬ nI c = (-1000000 : Int32) := by decide +kernel
theorem ch_dig : ∀ c : Nat, c < 256 → inB (nI c) (nI 48) (nI 57) = true → nI c - nI 48 = vst (nI 0) (nI c) ∧ vst (nI 0) (nI c) ≤ nI 99 := by decide +kernel
theorem nt_end {T : vV} {n p : Nat} (h : p ≤ n) (h2 : ¬ p < n) : ntT T n p = (p, nI 3, nI 0) := nt_e (dgV_e (dgt_e1 (by omega))) (Nat.le_refl p) (by omega)
theorem nt_oth {T : vV} {n p c : Nat} (h : p < n) (e : T p = nI c) (hd : inB (nI c) (nI 48) (nI 57) = false) : ntT T n p = (p + 1, bI (isLet (nI c)), nI c) := by
  have := nt_o (T := T) (n := n) (dgV_e (v := nI 0) (dgt_e2 (by rw [e]; exact hd))) (Nat.le_refl p) (by omega)
  rw [e] at this
  exact this
theorem vst_le {v x : Int32} (h : v ≤ nI 99) : nI 10 * v + x - nI 48 = vst v x := (if_pos h).symm
theorem dgt_no {T : vV} {n q c : Nat} (e : T q = nI c) (h : inB (nI c) (nI 48) (nI 57) = false) : dgt T n q = false := dgt_e2 (by rw [e]; exact h)
theorem tk_num {t v : Int32} {E : Nat × Int32 × Int32} (h : tkR t v E) : (t = nI 2 ↔ E.2.1 = nI 2) ∧ (E.2.1 = nI 2 → v = E.2.2) ∧ (t = nI 0 ↔ E.2.1 = nI 3) := by
  rcases h with ⟨h1, h2⟩ | ⟨h1, h2, h3⟩ | ⟨c, -, h1, -, -, h2⟩ | ⟨c, -, h1, -, -, h2⟩ | ⟨h1, h2⟩ <;> rw [h1, h2] <;> refine ⟨by decide, ?_, by decide⟩ <;> intro z <;> first | exact h3 | exact absurd z (by decide)
theorem tk_let {T : vV} {n b c : Nat} {t v : Int32} (h : tkR t v (ntT T n b)) (hc : 97 ≤ c ∧ c ≤ 122) : (decide (t = nI 1) && decide (v = nI c)) = isL T n b (nI c) := by
  unfold isL
  rcases h with ⟨h1, h2⟩ | ⟨h1, h2, h3⟩ | ⟨d, hd, h1, h3, h4, h2⟩ | ⟨d, hd, h1, h3, h4, h2⟩ | ⟨h1, h2⟩
  · rw [h1, h2]; rfl
  · rw [h1, h2]; rfl
  · rw [h1, h2, h3, h4]
  · rw [h1, h2, h3]
    have : ¬ nI d = nI c := fun z => by have := (nI_inj (a := d) (b := c) z (by omega) (by omega)); omega
    rw [decide_eq_false this, Bool.and_false]; rfl
  · rw [h1, h2]; rfl
theorem tk_sig {T : vV} {n b c : Nat} {t v : Int32} (h : tkR t v (ntT T n b)) (hc : c = 44 ∨ c = 59) : (decide (t = nI 3) && decide (v = nI c)) = isL T n b (nI c) := by
  unfold isL
  rcases h with ⟨h1, h2⟩ | ⟨h1, h2, h3⟩ | ⟨d, hd, h1, h3, h4, h2⟩ | ⟨d, hd, h1, h3, h4, h2⟩ | ⟨h1, h2⟩
  · rw [h1, h2]; rfl
  · rw [h1, h2]; rfl
  · rw [h1, h2, h3]
    have : ¬ nI d = nI c := fun z => by have := (nI_inj (a := d) (b := c) z (by omega) (by omega)); omega
    rw [decide_eq_false this, Bool.and_false]; rfl
  · rw [h1, h2, h3, h4]; rfl
  · rw [h1, h2]; rfl
