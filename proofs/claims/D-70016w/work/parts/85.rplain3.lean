/-! ===== the parser, step by step, as the reader takes it ===== -/
theorem kOf_c {T : vV} {n b k : Nat} (h : kOf T n b = k) (h0 : k ≠ 0) : ∃ c, (97 ≤ c ∧ c ≤ 122) ∧ isL T n b (nI c) = true ∧ sIx c = nI (k - 1) ∧ 1 ≤ k ∧ k ≤ 5 := by
  unfold kOf at h
  split at h
  · rename_i z; subst h; exact ⟨119, by decide, z, by decide, by decide⟩
  split at h
  · rename_i z; subst h; exact ⟨110, by decide, z, by decide, by decide⟩
  split at h
  · rename_i z; subst h; exact ⟨115, by decide, z, by decide, by decide⟩
  split at h
  · rename_i z; subst h; exact ⟨104, by decide, z, by decide, by decide⟩
  split at h
  · rename_i z; subst h; exact ⟨118, by decide, z, by decide, by decide⟩
  exact absurd h.symm h0
/-- a letter that is read -/
theorem tk_val {T : vV} {n b c : Nat} {t v : Int32} (h : tkR t v (ntT T n b)) (hc : 97 ≤ c ∧ c ≤ 122) (hL : isL T n b (nI c) = true) : t = nI 1 ∧ v = nI c := by
  rw [← tk_let h hc, Bool.and_eq_true, decide_eq_true_eq, decide_eq_true_eq] at hL
  exact hL
/-- what the loop of all() asks: a letter, and one of the five -/
theorem tk_loop {T : vV} {n b : Nat} {t v : Int32} (h : tkR t v (ntT T n b)) : (t = nI 1 ∧ ∃ c, (97 ≤ c ∧ c ≤ 122) ∧ v = nI c ∧ ((kOf T n b = 0 ∧ sIx c = -1) ∨ ∃ k, kOf T n b = k + 1 ∧ sIx c = nI k ∧ k < 5)) ∨ (¬ t = nI 1 ∧ kOf T n b = 0) := by
  by_cases h1 : t = nI 1
  · refine Or.inl ⟨h1, ?_⟩
    have key : ∃ c, (97 ≤ c ∧ c ≤ 122) ∧ v = nI c := by
      rcases h with ⟨-, z⟩ | ⟨-, z, -⟩ | ⟨c, hc, -, -, z, -⟩ | ⟨c, -, -, -, -, z⟩ | ⟨-, z⟩
      · rw [h1] at z; exact absurd z (by decide)
      · rw [h1] at z; exact absurd z (by decide)
      · exact ⟨c, hc, z⟩
      · rw [h1] at z; exact absurd z (by decide)
      · rw [h1] at z; exact absurd z (by decide)
    obtain ⟨c, hc, rfl⟩ := key
    refine ⟨c, hc, rfl, ?_⟩
    have hL : ∀ d, (97 ≤ d ∧ d ≤ 122) → isL T n b (nI d) = decide (c = d) := by
      intro d hd
      rw [← tk_let h hd, h1]
      by_cases e : c = d
      · subst e; rw [decide_eq_true rfl, decide_eq_true rfl, decide_eq_true rfl]; rfl
      · rw [decide_eq_false e, decide_eq_false (fun z => e (nI_inj (a := c) (b := d) z (by omega) (by omega))), Bool.and_false]
    unfold kOf
    rw [hL 119 (by decide), hL 110 (by decide), hL 115 (by decide), hL 104 (by decide), hL 118 (by decide)]
    unfold sIx
    by_cases e1 : c = 119
    · subst e1; exact Or.inr ⟨0, rfl, rfl, by decide⟩
    by_cases e2 : c = 110
    · subst e2; exact Or.inr ⟨1, rfl, rfl, by decide⟩
    by_cases e3 : c = 115
    · subst e3; exact Or.inr ⟨2, rfl, rfl, by decide⟩
    by_cases e4 : c = 104
    · subst e4; exact Or.inr ⟨3, rfl, rfl, by decide⟩
    by_cases e5 : c = 118
    · subst e5; exact Or.inr ⟨4, rfl, rfl, by decide⟩
    refine Or.inl ⟨?_, ?_⟩
    · rw [decide_eq_false e1, decide_eq_false e2, decide_eq_false e3, decide_eq_false e4, decide_eq_false e5]; rfl
    · rw [if_neg e1, if_neg e2, if_neg e3, if_neg e4, if_neg e5]
  · refine Or.inr ⟨h1, ?_⟩
    have hL : ∀ d, (97 ≤ d ∧ d ≤ 122) → isL T n b (nI d) = false := by
      intro d hd
      rw [← tk_let h hd, decide_eq_false h1, Bool.false_and]
    unfold kOf
    rw [hL 119 (by decide), hL 110 (by decide), hL 115 (by decide), hL 104 (by decide), hL 118 (by decide)]
    rfl
theorem fg3 {T : vV} {n b : Nat} (h : (ntT T n b).2.1 = nI 2) : inB (ntT T n b).2.2 0 (nI 3) = decide ((ntT T n b).2.2 ≤ nI 3) := by
  obtain ⟨j, hj, e⟩ := num_nat h
  rw [e]
  unfold inB
  rw [decide_eq_true (show (0 : Int32) ≤ nI j from nI_pos' (by omega)), Bool.true_and]
theorem pWork_6 {T : vV} {n b wk : Nat} {k : Int32} {rv : vV} (h : wk = 6) : pWork T n k b wk rv = .error (nI 3, b) := if_pos h
theorem pWork_lt {T : vV} {n b wk : Nat} {k : Int32} {rv : vV} (h : ¬ wk = 6) : pWork T n k b wk rv = pWork1 T n k (ntT T n b).1 wk rv := if_neg h
theorem pW1_step {T : vV} {n b wk : Nat} {k : Int32} {rv : vV} :
    (∃ w, fgE T n b 0 (nI 3) w ∧ pWork1 T n k b wk rv = .error (w, b)) ∨
    ((ntT T n b).2.1 = nI 2 ∧ ∃ x, x ≤ 3 ∧ (ntT T n b).2.2 = nI x ∧ inB (ntT T n b).2.2 0 (nI 3) = true ∧
      ((isL T n (ntT T n b).1 (nI 44) = false ∧ pWork1 T n k b wk rv = .error (nI 1, (ntT T n b).1)) ∨
       (isL T n (ntT T n b).1 (nI 44) = true ∧ pWork1 T n k b wk rv = pWork2 T n k x (ntT T n (ntT T n b).1).1 wk rv))) := by
  by_cases h1 : (ntT T n b).2.1 = nI 2
  · have e3 := fg3 h1
    by_cases h3 : (ntT T n b).2.2 ≤ nI 3
    · obtain ⟨x, hx, ex⟩ := num_le3 h1 h3
      refine Or.inr ⟨h1, x, hx, ex, by rw [e3, decide_eq_true h3], ?_⟩
      cases hL : isL T n (ntT T n b).1 (nI 44) with
      | false => exact Or.inl ⟨rfl, pWork1_er h1 h3 (pTake_f hL)⟩
      | true => exact Or.inr ⟨rfl, pWork1_ok h1 h3 hx ex (pTake_t hL)⟩
    · refine Or.inl ⟨nI 2, Or.inr ⟨h1, by rw [e3, decide_eq_false h3], rfl⟩, ?_⟩
      unfold pWork1
      rw [if_pos h1, if_neg h3]
  · refine Or.inl ⟨nI 1, Or.inl ⟨h1, rfl⟩, ?_⟩
    unfold pWork1
    rw [if_neg h1]
theorem pW2_step {T : vV} {n b wk x : Nat} {k : Int32} {rv : vV} :
    (¬ (ntT T n b).2.1 = nI 2 ∧ pWork2 T n k x b wk rv = .error (nI 1, b)) ∨
    ((ntT T n b).2.1 = nI 2 ∧ inB (ntT T n b).2.2 0 (nI 3) = false ∧ pWork2 T n k x b wk rv = .error (nI 2, b)) ∨
    ((ntT T n b).2.1 = nI 2 ∧ inB (ntT T n b).2.2 0 (nI 3) = true ∧ ∃ y, y ≤ 3 ∧ (ntT T n b).2.2 = nI y ∧
      ((isWk rv (4 * x + y) = true ∧ pWork2 T n k x b wk rv = .error (nI 2, b)) ∨
       (isWk rv (4 * x + y) = false ∧
        ((isL T n (ntT T n b).1 (nI 44) = false ∧ pWork2 T n k x b wk rv = .error (nI 1, (ntT T n b).1)) ∨
         (isL T n (ntT T n b).1 (nI 44) = true ∧ pWork2 T n k x b wk rv = pNum T n 0 (nI 99) (25 + (4 * x + y)) (nI 59) (ntT T n (ntT T n b).1).1 (wk + 1) (upd rv (9 + (4 * x + y)) k)))))) := by
  by_cases h1 : (ntT T n b).2.1 = nI 2
  · have e3 := fg3 h1
    by_cases h3 : (ntT T n b).2.2 ≤ nI 3
    · obtain ⟨y, hy, ey⟩ := num_le3 h1 h3
      refine Or.inr (Or.inr ⟨h1, by rw [e3, decide_eq_true h3], y, hy, ey, ?_⟩)
      have ew : isWk rv (4 * x + y) = decide (0 < rv (9 + 4 * x + y)) := by unfold isWk; rw [Nat.add_assoc]
      by_cases hf : rv (9 + 4 * x + y) ≤ 0
      · refine Or.inr ⟨by rw [ew, decide_eq_false (Int32.not_lt.mpr hf)], ?_⟩
        cases hL : isL T n (ntT T n b).1 (nI 44) with
        | false => exact Or.inl ⟨rfl, pWork2_er h1 h3 hy ey hf (pTake_f hL)⟩
        | true => exact Or.inr ⟨rfl, pWork2_ok h1 h3 hy ey hf (pTake_t hL)⟩
      · exact Or.inl ⟨by rw [ew, decide_eq_true (Int32.not_le.mp hf)], pWork2_f h1 h3 hy ey hf⟩
    · refine Or.inr (Or.inl ⟨h1, by rw [e3, decide_eq_false h3], ?_⟩)
      unfold pWork2
      rw [if_pos h1, if_neg h3]
  · refine Or.inl ⟨h1, ?_⟩
    unfold pWork2
    rw [if_neg h1]
theorem pN_step {T : vV} {n b wk a : Nat} {hi sg : Int32} {rv : vV} :
    (∃ w, fgE T n b 0 hi w ∧ pNum T n 0 hi a sg b wk rv = .error (w, b)) ∨
    ((ntT T n b).2.1 = nI 2 ∧ inB (ntT T n b).2.2 0 hi = true ∧
      ((isL T n (ntT T n b).1 sg = false ∧ pNum T n 0 hi a sg b wk rv = .error (nI 1, (ntT T n b).1)) ∨
       (isL T n (ntT T n b).1 sg = true ∧ pNum T n 0 hi a sg b wk rv = .ok ((ntT T n (ntT T n b).1).1, wk, upd rv a (ntT T n b).2.2)))) := by
  by_cases h : (ntT T n b).2.1 = nI 2 ∧ inB (ntT T n b).2.2 0 hi = true
  · refine Or.inr ⟨h.1, h.2, ?_⟩
    have e := pNum_in (wk := wk) (a := a) (sg := sg) (rd := rv) h.1 h.2
    cases hL : isL T n (ntT T n b).1 sg with
    | false => rw [pTake_f hL] at e; exact Or.inl ⟨rfl, e⟩
    | true => rw [pTake_t hL] at e; exact Or.inr ⟨rfl, e⟩
  · obtain ⟨w, hw⟩ := fg_not h
    exact Or.inl ⟨w, hw, pNum_fg hw⟩
theorem wkN_put {f g : Nat → Option Nat} {c w : Nat} (hg : ∀ i, g i = if i = c then some w else f i) (hn : f c = none) : ∀ m, wkN g m = wkN f m + (if c < m then 1 else 0)
  | 0 => by rw [if_neg (by omega)]; rfl
  | m + 1 => by
    show wkN g m + (if (g m).isSome = true then 1 else 0) = wkN f m + (if (f m).isSome = true then 1 else 0) + _
    rw [wkN_put hg hn m, hg m]
    by_cases e : m = c
    · subst e
      rw [if_pos (rfl : m = m), hn, if_neg (Nat.lt_irrefl m), if_pos (Nat.lt_succ_self m)]
      rfl
    · rw [if_neg e]
      by_cases h : c < m
      · rw [if_pos h, if_pos (show c < m + 1 by omega)]; omega
      · rw [if_neg h, if_neg (show ¬ c < m + 1 by omega)]; omega
theorem rdS.work {N : Nat} {K K2 : gK} {I I2 : mG} {R R2 : gR} {rd : Nat} {T : vV} {n b wk k c : Nat} {rv : vV} {h : Int32} (hs : rdS N K I R rd T n b wk rv) (hK : ∀ m, m < N → K2 m = K m) (hI : ∀ m, m < N → I2 m = I m ∧ R2 m = R m) (hk : 1 ≤ k ∧ k ≤ 5) (e1 : (K2 N).1 = 3 + k) (e2 : I2 N 0 = nI c) (e3 : I2 N 1 = h) (hc : c < 16) (hf : isWk rv c = false) (h6 : wk < 6) : rdS (N + 1) K2 I2 (r2 R2 (rd + 1 + 3) c (some N)) rd T n b (wk + 1) (upd (upd rv (9 + c) (nI k)) (25 + c) h) := by
  obtain ⟨⟨⟨b1, b2, b3, b4⟩, ⟨b5, b6, b7⟩, b8, b9⟩, ⟨t1, t2, t3, t4⟩, p1, ⟨p2, p3⟩, p4⟩ := hs
  have hI0 := hI rd (by omega)
  have hr : ∀ m, m ≠ rd + 1 + 3 → r2 R2 (rd + 1 + 3) c (some N) m = R2 m := fun m hm => va_up_ne _ _ hm
  refine ⟨⟨⟨b1, by omega, by rw [hK rd (by omega)]; exact b3, by rw [hK 10 (by omega)]; exact b4⟩, ⟨by rw [hr _ (by omega), hI0.2]; exact b5, by rw [hr _ (by omega), hI0.2]; exact b6, by rw [hI0.1]; exact b7⟩, b8, fun i hi => by rw [(hI 10 (by omega)).1]; exact b9 i hi⟩, ⟨t1, by rw [hI0.1]; exact t2, by rw [hI0.1]; exact t3, by rw [hI0.1]; exact t4⟩, ?_, ⟨?_, by omega⟩, high_ok (high_ok p4 (by omega) _) (by omega) _⟩
  · have q1 : psR (List.range (N + 1)) K2 I2 R2 (rd + 1) rv := p1.ag (by omega) hK (fun j hj => hI _ (by omega)) (fun w _ hw _ _ _ => (hI w hw).1)
    exact q1.put hc (List.mem_range.mpr (by omega)) e1 hk.1 hk.2 e2 e3
  · have hz : R (rd + 4) c = none := by
      have := p1.wk hc
      rw [hf] at this
      cases hz : R (rd + 1 + 3) c with
      | none => rfl
      | some z => rw [hz] at this; cases this
    rw [wkN_put (f := R (rd + 4)) (c := c) (w := N) (fun i => ?_) hz 16, p2, if_pos hc]
    rw [r2_ap, (hI (rd + 4) (by omega)).2]
    by_cases e : i = c
    · rw [if_pos ⟨rfl, e⟩, if_pos e]
    · rw [if_neg (fun z => e z.2), if_neg e]
theorem ok_inj {a b : Nat × Nat × vV} (h : (Except.ok a : PE) = .ok b) : a = b := by injection h
