/-! ===== a shelf changes ===== -/
theorem wShe.lane {N : Nat} {K : gK} {I : mG} {R : gR} {G : mG} (h : wShe N K I R G) {k a : Nat} (hk : k < 8) (ha : R (2 + k) 0 = some a) : 44 ≤ a ∧ a < N ∧ 20 ≤ (K a).1 ∧ (K a).1 < 23 ∧ sep R a := by
  rcases h.1 k hk with ⟨z1, -⟩ | ⟨a', n, t, z1, z2, z3, z4, z5, z6, z7, z8, z9, z10⟩
  · rw [z1] at ha; cases ha
  · rw [z1] at ha; cases ha
    refine ⟨z2, z3, ?_, ?_, z10⟩
    · rw [z6]; dsimp only; split <;> (try split) <;> omega
    · rw [z6]; dsimp only; split <;> (try split) <;> omega
theorem wcR.she {N N' : Nat} {K K' : gK} {I I' : mG} {R R' : gR} {G G' : mG} {b : Bool} {k : Nat} (h : wcR N K I R G b) (hk : k < 8) (hN : N ≤ N') (hK : ∀ n, n < N → K' n = K n) (ho : ∀ n, n < N → n ≠ 2 + k → R (2 + k) 0 ≠ some n → I' n = I n ∧ R' n = R n) (hs : wShe N' K' I' R' G') (hb : ∀ j a, j < 8 → R' (2 + j) 0 = some a → R (2 + j) 0 = some a ∨ N ≤ a) (hG : ∀ n, n ≠ 1 → n ≠ 2 → n ≠ 3 → G' n = G n) : wcR N' K' I' R' G' b := by
  obtain ⟨f, hp, ⟨p1, p2, p3, p4⟩, ac, im, sh, tr, ta⟩ := h
  have h44 : 44 ≤ N := f.1
  have ho2 : ∀ n, n < 44 → n ≠ 2 + k → I' n = I n ∧ R' n = R n := fun n hn hne => ho n (by omega) hne (fun z => by have := sh.lane hk z; omega)
  have ha : agr (fun n => n = 2 + k ∨ R (2 + k) 0 = some n) N K I R K' I' R' := fun n hn => ⟨hK n hn, fun hx => ho n hn (fun z => hx (Or.inl z)) (fun z => hx (Or.inr z))⟩
  have nX : ∀ n, n < 44 → n ≠ 2 + k → ¬ (n = 2 + k ∨ R (2 + k) 0 = some n) := fun n hn hne z => by
    rcases z with z | z
    · exact hne z
    · have := sh.lane hk z; omega
  have e0 : I' 0 = I 0 ∧ R' 0 = R 0 := ho2 0 (by omega) (by omega)
  have e23 : R' 23 = R 23 := (ho2 23 (by omega) (by omega)).2
  have e24 : R' 24 = R 24 := (ho2 24 (by omega) (by omega)).2
  have hks : (K (2 + k)).1 = 1 := (f.2.2.2.2.2.2 k hk).2
  have hw : wkS N K I I' := fun w j hw hj k1 k5 => (ho w hw (fun z => by rw [z, hks] at hj; omega) (fun z => by have := sh.lane hk z; omega)).1
  have hpx : ∀ i p j, i < 28 → plc R i = some p → j < 6 → ¬ (p + j = 2 + k ∨ R (2 + k) 0 = some (p + j)) := fun i p j hi hpp hj z => by
    rcases z with z | z
    · have := pass_ne hp hi hpp; omega
    · have := (sh.lane hk z).2.2.2.2 i p hi hpp; omega
  have hpo : ∀ i p j, i < 28 → plc R i = some p → j < 6 → I' (p + j) = I (p + j) ∧ R' (p + j) = R (p + j) := fun i p j hi hpp hj => by
    have := (hp.at hi hpp).lt
    exact ho _ (by omega) (fun z => hpx i p j hi hpp hj (Or.inl z)) (fun z => hpx i p j hi hpp hj (Or.inr z))
  refine ⟨f.ag hN ha (fun k _ => by rw [e0.2]) (nX 1 (by omega) (by omega)) (fun n h1 h2 => nX n h2 (by omega)), hp.ag hN ha e23 e24 (fun i p hi hpp => (hpo i p 0 hi hpp (by omega)).2), ⟨?_, ?_, by rw [hG 0 (by decide) (by decide) (by decide)]; exact p3, by rw [hG 6 (by decide) (by decide) (by decide)]; exact p4⟩, ?_, ?_, hs, ?_, ?_⟩
  · rw [hG 6 (by decide) (by decide) (by decide)]
    exact p1.ag hN hK (fun j hj => hpo 0 11 j (by decide) rfl hj) hw
  · rw [(hpo 0 11 0 (by decide) rfl (by decide)).1]; exact p2
  · have := ac.ag hp hN ha (by rw [e0.1]) (fun k p z => by rw [e23]; exact z) hw (fun k p j hk hpp hj => hpx (2 + k) p j (by omega) (by rw [plc_p hk]; exact hpp) hj)
    unfold wAct actV at this ⊢
    rw [hG 0 (by decide) (by decide) (by decide), hG 22 (by decide) (by decide) (by decide)]
    exact this
  · have := im.ag hp hN ha e24 hw (fun k p j hk hpp hj => hpx (26 + k) p j (by omega) (by rw [plc_i]; exact hpp) hj)
    unfold wImg imgV at this ⊢
    rw [hG 25 (by decide) (by decide) (by decide), hG 26 (by decide) (by decide) (by decide)]
    exact this
  · obtain ⟨t, bb, m, a1, a2, a3, a4, a5, a6, a7, a8, a9, a10, a11, a12, a13, a14⟩ := tr
    have et := ho t a2 (by omega) (fun z => by have := sh.lane hk z; omega)
    have eb := ho bb a6 (by omega) (a14 k hk)
    refine ⟨t, bb, m, by rw [e0.2]; exact a1, by omega, a3, by rw [hK t a2]; exact a4, by rw [et.2]; exact a5, by omega, a7, by rw [hK bb a6]; exact a8, a9, by rw [et.1]; exact a10, by rw [hG 0 (by decide) (by decide) (by decide)]; exact a11, fun i hi => by rw [eb.1, hG 27 (by decide) (by decide) (by decide)]; exact a12 i hi, a13.ag e23 e24, fun j hj z => ?_⟩
    rcases hb j bb hj z with z | z
    · exact a14 j hj z
    · omega
  · unfold wTap at ta ⊢
    rw [e0.1, (ho2 10 (by omega) (by omega)).1, hG 8 (by decide) (by decide) (by decide), hG 0 (by decide) (by decide) (by decide)]
    exact ta
theorem nI_inj {a b : Nat} (h : nI a = nI b) (ha : a < 2147483648) (hb : b < 2147483648) : a = b := by
  have := congrArg ix h
  rwa [ix_nI ha, ix_nI hb] at this
theorem g2_ap (I : mG) (a i : Nat) (x : Int32) (n j : Nat) : g2 I a i x n j = if n = a ∧ j = i then x else I n j := by
  by_cases e : n = a
  · subst e
    by_cases e2 : j = i
    · subst e2; rw [g2_at, if_pos ⟨rfl, rfl⟩]
    · rw [if_neg (fun z => e2 z.2)]; unfold g2; rw [va_up_self, upd_at, if_neg e2]
  · rw [if_neg (fun z => e z.1), g2_ne _ _ _ e]
theorem r2_ap (R : gR) (a i : Nat) (x : Option Nat) (n j : Nat) : r2 R a i x n j = if n = a ∧ j = i then x else R n j := by
  by_cases e : n = a
  · subst e
    unfold r2
    rw [va_up_self]
    by_cases e2 : j = i
    · subst e2; rw [va_up_self, if_pos ⟨rfl, rfl⟩]
    · rw [va_up_ne _ _ e2, if_neg (fun z => e2 z.2)]
  · rw [if_neg (fun z => e z.1), r2_ne _ _ _ _ e]
/-- nothing is left on a shelf -/
theorem wcR.unheld {N : Nat} {K : gK} {I : mG} {R : gR} {G : mG} {b : Bool} {k : Nat} (h : wcR N K I R G b) (hk : k < 8) : wcR N K I (r2 R (2 + k) 0 none) (g2 G 2 k (-1)) b := by
  have sh := h.2.2.2.2.2.1
  have hR : ∀ j, j ≠ k → r2 R (2 + k) 0 none (2 + j) 0 = R (2 + j) 0 := fun j hj => by rw [r2_ap, if_neg (by omega)]
  have hR0 : r2 R (2 + k) 0 none (2 + k) 0 = none := by rw [r2_ap, if_pos ⟨rfl, rfl⟩]
  have h23 : r2 R (2 + k) 0 none 23 = R 23 := r2_ne _ _ _ _ (by omega)
  have h24 : r2 R (2 + k) 0 none 24 = R 24 := r2_ne _ _ _ _ (by omega)
  refine h.she hk (Nat.le_refl _) (fun _ _ => rfl) (fun n _ hn _ => ⟨rfl, r2_ne _ _ _ _ hn⟩) ⟨fun j hj => ?_, fun i j a hi hj z1 z2 => ?_⟩ (fun j a hj z => ?_) (fun n h1 h2 h3 => g2_ne _ _ _ h2)
  · by_cases e : j = k
    · subst e
      exact Or.inl ⟨hR0, by rw [g2_ap, if_pos ⟨rfl, rfl⟩]⟩
    · rcases sh.1 j hj with ⟨z1, z2⟩ | ⟨a', n, t, z1, z2, z3, z4, z5, z6, z7, z8, z9, z10⟩
      · exact Or.inl ⟨by rw [hR j e]; exact z1, by rw [g2_ap, if_neg (fun z => e z.2)]; exact z2⟩
      · exact Or.inr ⟨a', n, t, by rw [hR j e]; exact z1, z2, z3, z4, z5, z6, by rw [g2_ap, if_neg (fun z => e z.2)]; exact z7, by rw [g2_ne _ _ _ (by decide)]; exact z8, fun i hi => by rw [g2_ne _ _ _ (by decide)]; exact z9 i hi, z10.ag h23 h24⟩
  · have e1 : i ≠ k := fun e => by rw [e, hR0] at z1; cases z1
    have e2 : j ≠ k := fun e => by rw [e, hR0] at z2; cases z2
    rw [hR i e1] at z1
    rw [hR j e2] at z2
    exact sh.2 i j a hi hj z1 z2
  · by_cases e : j = k
    · rw [e, hR0] at z; cases z
    · rw [hR j e] at z; exact Or.inl z
/-- .. nothing lay there -/
theorem wcR.unheld0 {N : Nat} {K : gK} {I : mG} {R : gR} {G : mG} {b : Bool} {k : Nat} (h : wcR N K I R G b) (hz : R (2 + k) 0 = none) : wcR N K I (r2 R (2 + k) 0 none) G b := by
  have e : r2 R (2 + k) 0 none = R := by
    funext n j
    rw [r2_ap]
    split
    · rename_i z; rw [z.1, z.2, hz]
    · rfl
  rw [e]; exact h
/-- an item is put -/
theorem wcR.item {N : Nat} {K : gK} {I : mG} {R : gR} {G : mG} {b : Bool} {k a n t i : Nat} {x : Int32} (h : wcR N K I R G b) (hk : k < 8) (ha : R (2 + k) 0 = some a) (ht : G 1 k = nI t) (hn : G 2 k = nI n) (h31 : n < 2147483648) (h3 : t ≤ 2) (hi : i < n) (hx : asL (nI t) x = x) : wcR N K (g2 I a i x) R (g2 G 3 (40 * k + i) x) b := by
  have sh := h.2.2.2.2.2.1
  refine h.she hk (Nat.le_refl _) (fun _ _ => rfl) (fun m _ hm hm2 => ⟨g2_ne _ _ _ (fun z => hm2 (by rw [z]; exact ha)), rfl⟩) ⟨fun j hj => ?_, sh.2⟩ (fun j a hj z => Or.inl z) (fun n h1 h2 h3 => g2_ne _ _ _ h3)
  rcases sh.1 j hj with ⟨z1, z2⟩ | ⟨a', n', t', z1, z2, z3, z4, z5, z6, z7, z8, z9, z10⟩
  · exact Or.inl ⟨z1, by rw [g2_ne _ _ _ (by decide)]; exact z2⟩
  · refine Or.inr ⟨a', n', t', z1, z2, z3, z4, z5, z6, by rw [g2_ne _ _ _ (by decide)]; exact z7, by rw [g2_ne _ _ _ (by decide)]; exact z8, fun i' hi' => ?_, z10⟩
    by_cases e : j = k
    · subst e
      have ea : a' = a := Option.some.inj (z1.symm.trans ha)
      subst ea
      have et : t' = t := nI_inj (z8.symm.trans ht) (by omega) (by omega)
      subst et
      by_cases ei : i' = i
      · subst ei
        rw [g2_ap, if_pos ⟨rfl, rfl⟩, g2_ap, if_pos ⟨rfl, rfl⟩]
        exact ⟨rfl, hx⟩
      · rw [g2_ap, if_neg (fun z => ei z.2), g2_ap, if_neg (fun z => by omega)]
        exact z9 i' hi'
    · have ea : a' ≠ a := fun z => e (sh.2 j k a' hj hk z1 (by rw [z]; exact ha))
      have en : n ≤ 40 := by
        rcases sh.1 k hk with ⟨y1, -⟩ | ⟨a2, n2, t2, y1, y2, y3, y4, y5, y6, y7, -⟩
        · rw [y1] at ha; cases ha
        · have : n2 = n := nI_inj (y7.symm.trans hn) (by omega) h31
          omega
      rw [g2_ap, if_neg (fun z => ea z.1), g2_ap, if_neg (fun z => by omega)]
      exact z9 i' hi'
/-- a new row -/
theorem wcR.row {N : Nat} {K : gK} {I : mG} {R : gR} {G : mG} {b : Bool} {k n t : Nat} (h : wcR N K I R G b) (hk : k < 8) (ht : t ≤ 2) (hn : n ≤ 40) : wcR (N + 1) (va_up K N (if t = 0 then 21 else if t = 1 then 22 else 20, n)) (va_up I N (fun _ => nI 0)) (r2 (va_up R N (fun _ => none)) (2 + k) 0 (some N)) (va_up (g2 (g2 G 1 k (nI t)) 2 k (nI n)) 3 (fun j => if 40 * k ≤ j ∧ j < 40 * k + 40 then (fun _ => nI 0) (j - 40 * k) else G 3 j)) b := by
  have sh := h.2.2.2.2.2.1
  have h44 : 44 ≤ N := h.1.1
  have oR : ∀ m, m < N → m ≠ 2 + k → r2 (va_up R N (fun _ => none)) (2 + k) 0 (some N) m = R m := fun m hm hne => by rw [r2_ne _ _ _ _ hne, va_up_ne _ _ (by omega)]
  have hR : ∀ j, j < 8 → j ≠ k → r2 (va_up R N (fun _ => none)) (2 + k) 0 (some N) (2 + j) 0 = R (2 + j) 0 := fun j hj hne => by rw [oR _ (by omega) (by omega)]
  have hR0 : r2 (va_up R N (fun _ => none)) (2 + k) 0 (some N) (2 + k) 0 = some N := by rw [r2_ap, if_pos ⟨rfl, rfl⟩]
  have hsp : ∀ a, sep R a → sep (r2 (va_up R N (fun _ => none)) (2 + k) 0 (some N)) a := fun a q => q.ag (oR 23 (by omega) (by omega)) (oR 24 (by omega) (by omega))
  refine h.she hk (by omega) (fun m hm => va_up_ne _ _ (by omega)) (fun m hm hne _ => ⟨va_up_ne _ _ (by omega), oR m hm hne⟩) ⟨fun j hj => ?_, fun i j a hi hj z1 z2 => ?_⟩ (fun j a hj z => ?_) (fun m h1 h2 h3 => by rw [va_up_ne _ _ h3, g2_ne _ _ _ h2, g2_ne _ _ _ h1])
  · by_cases e : j = k
    · subst e
      refine Or.inr ⟨N, n, t, hR0, h44, by omega, ht, hn, va_up_self _ _ _, ?_, ?_, fun i hi => ?_, ?_⟩
      · rw [va_up_ne _ _ (by decide), g2_ap, if_pos ⟨rfl, rfl⟩]
      · rw [va_up_ne _ _ (by decide), g2_ne _ _ _ (by decide), g2_ap, if_pos ⟨rfl, rfl⟩]
      · rw [va_up_self, va_up_self, if_pos (by omega)]
        refine ⟨rfl, ?_⟩
        match t, ht with
        | 0, _ => decide
        | 1, _ => decide
        | 2, _ => decide
      · refine hsp N (fun i p hi hpp => ?_)
        have := (h.2.1.at hi hpp).lt
        omega
    · rcases sh.1 j hj with ⟨z1, z2⟩ | ⟨a', n', t', z1, z2, z3, z4, z5, z6, z7, z8, z9, z10⟩
      · exact Or.inl ⟨by rw [hR j hj e]; exact z1, by rw [va_up_ne _ _ (by decide), g2_ap, if_neg (fun z => e z.2), g2_ne _ _ _ (by decide)]; exact z2⟩
      · refine Or.inr ⟨a', n', t', by rw [hR j hj e]; exact z1, z2, by omega, z4, z5, by rw [va_up_ne _ _ (by omega)]; exact z6, by rw [va_up_ne _ _ (by decide), g2_ap, if_neg (fun z => e z.2), g2_ne _ _ _ (by decide)]; exact z7, by rw [va_up_ne _ _ (by decide), g2_ne _ _ _ (by decide), g2_ap, if_neg (fun z => e z.2)]; exact z8, fun i hi => ?_, hsp _ z10⟩
        rw [va_up_ne _ _ (by omega), va_up_self, if_neg (by omega)]
        exact z9 i hi
  · by_cases e1 : i = k
    · by_cases e2 : j = k
      · omega
      · rw [e1, hR0] at z1; cases z1
        rw [hR j hj e2] at z2
        have := sh.lane hj z2
        omega
    · rw [hR i hi e1] at z1
      by_cases e2 : j = k
      · rw [e2, hR0] at z2; cases z2
        have := sh.lane hi z1
        omega
      · rw [hR j hj e2] at z2
        exact sh.2 i j a hi hj z1 z2
  · by_cases e : j = k
    · rw [e, hR0] at z; cases z; exact Or.inr (Nat.le_refl _)
    · rw [hR j hj e] at z; exact Or.inl z
