/-! ===== acts that are kept ===== -/
theorem psR.cg {dom : List Nat} {K : gK} {I : mG} {R : gR} {u : Nat} {st st' : vV} (h : psR dom K I R u st) (e : ∀ j, j < 57 → st' j = st j) : psR dom K I R u st' := by
  obtain ⟨h1, h2, h3, h4⟩ := h
  refine ⟨h1, by rw [e 0 (by decide)]; exact h2, fun y hy => ?_, fun c hc => ?_⟩
  · rw [e (1 + y) (by omega), e (5 + y) (by omega)]; exact h3 y hy
  · obtain ⟨g1, g2, g3, g4⟩ := h4 c hc
    rw [e (41 + c) (by omega), e (9 + c) (by omega)]
    refine ⟨g1, g2, g3, ?_⟩
    rcases g4 with ⟨z1, z2⟩ | ⟨w, k, a1, a2, a3, a4, a5, a6, a7, a8⟩
    · exact Or.inl ⟨z1, by rw [e (9 + c) (by omega)]; exact z2⟩
    · exact Or.inr ⟨w, k, a1, a2, a3, a4, a5, by rw [e (9 + c) (by omega)]; exact a6, a7, by rw [e (25 + c) (by omega)]; exact a8⟩
theorem stOk.cg {st st' : vV} (h : stOk st) (e : ∀ j, j < 57 → st' j = st j) : stOk st' := by
  refine ⟨fun y hy => ?_, by rw [e 0 (by decide)]; exact h.2⟩
  rw [e (1 + y) (by omega), e (5 + y) (by omega)]
  exact h.1 y hy
theorem note2_0 (G : mG) (am k : Nat) : note2 G am 0 k = if k = 22 then nI (am + 1) else G 0 k := rfl
theorem note2_22 (G : mG) (am : Nat) : note2 G am 22 = fun j => if 57 * am ≤ j ∧ j < 57 * am + 57 then G 6 (j - 57 * am) else G 22 j := by
  unfold note2
  rw [g2_ne _ _ _ (by decide), va_up_self]
theorem note2_o (G : mG) (am : Nat) {n : Nat} (h0 : n ≠ 0) (h22 : n ≠ 22) : note2 G am n = G n := by
  unfold note2
  rw [g2_ne _ _ _ h0, va_up_ne _ _ h22]
theorem wcR.note {N : Nat} {K : gK} {I I' : mG} {R R' : gR} {G : mG} {am p : Nat} (h : wcR N K I R G true) (ham : am < 24) (h22 : G 0 22 = nI am) (hp : R 23 am = some p) (ho : pOff p I I' R R') (hps : psR (List.range N) K I' R' p (G 6)) (ht : I' p 0 = nI 1) : wcR N K (g2 I' 0 7 (nI (am + 1))) R' (note2 G am) true := by
  obtain ⟨f, hP, ⟨p1, p2, p3, p4⟩, ac, im, sh, tr, ta⟩ := h
  have h44 : 44 ≤ N := f.1
  have hiu : plc R (2 + am) = some p := by rw [plc_p ham]; exact hp
  have hpu := hP.at (by omega) hiu
  have hp44 : 44 ≤ p := (hP.1 (2 + am) p (by omega) hiu).2 (by omega)
  have hg : ∀ n, n ≠ 0 → g2 I' 0 7 (nI (am + 1)) n = I' n := fun n hn => g2_ne _ _ _ hn
  have hz : ∀ k, k ≠ 7 → g2 I' 0 7 (nI (am + 1)) 0 k = I 0 k := fun k hk => by rw [g2_s, upd_at, if_neg hk, (ho.1 0 (by omega)).1]
  have ha : agr (fun n => n = 0 ∨ (p ≤ n ∧ n < p + 6)) N K I R K (g2 I' 0 7 (nI (am + 1))) R' := fun n hn => ⟨rfl, fun hx => by
    have hn0 : n ≠ 0 := fun e => hx (Or.inl e)
    rw [hg n hn0]
    exact ho.1 n (by rcases Nat.lt_or_ge n p with z | z; exact Or.inl z; exact Or.inr (by rcases Nat.lt_or_ge n (p + 6) with y | y; exact absurd (Or.inr ⟨z, y⟩) hx; exact y))⟩
  have e0 : R' 0 = R 0 := (ho.1 0 (by omega)).2
  have e23 : R' 23 = R 23 := (ho.1 23 (by omega)).2
  have e24 : R' 24 = R 24 := (ho.1 24 (by omega)).2
  have hw : wkS N K I (g2 I' 0 7 (nI (am + 1))) := fun w k hw hk k1 k5 => by
    have hw0 : w ≠ 0 := fun e => by subst e; rw [f.2.1] at hk; omega
    rw [hg w hw0]
    exact (ho.1 w (hpu.wk hk k1 k5)).1
  have hpas : ∀ i q, i < 28 → plc R i = some q → R' q = R q := fun i q hi hq => ho.2 q (fun e => by
    have := hP.at hi hq
    by_cases e2 : q = p
    · omega
    · have := this.apart hpu e2
      omega)
  have hoff : ∀ i q j, i ≠ 2 + am → i < 28 → plc R i = some q → j < 6 → ¬ (q + j = 0 ∨ (p ≤ q + j ∧ q + j < p + 6)) := fun i q j h2 hi hq hj z => by
    have h1 := hP.ne hi (show 2 + am < 28 by omega) hq hiu h2
    have : 11 ≤ q := by
      rcases Nat.lt_or_ge i 2 with y | y
      · have : i = 0 ∨ i = 1 := by omega
        rcases this with e | e
        · subst e; cases hq; decide
        · subst e; cases hq; decide
      · have := (hP.1 i q hi hq).2 y; omega
    omega
  refine ⟨f.ag (Nat.le_refl _) ha (fun k _ => by rw [e0]) (by omega) (fun n h1 h2 => by omega), hP.ag (Nat.le_refl _) ha e23 e24 hpas, ⟨?_, ?_, ?_, ?_⟩, ?_, ?_, ?_, ?_, ?_⟩
  · rw [note2_o G am (by decide) (by decide)]
    exact p1.ag (Nat.le_refl _) (fun _ _ => rfl) (fun j hj => (ha (11 + j) (by omega)).2 (hoff 0 11 j (by omega) (by decide) rfl hj)) hw
  · rw [hg 11 (by decide), (ho.1 11 (by omega)).1]; exact p2
  · rw [note2_0, if_neg (by decide)]; exact p3
  · rw [note2_o G am (by decide) (by decide)]; exact p4
  · obtain ⟨am', a1, a2, a3, a4, a5⟩ := ac
    have eam : am' = am := (nI_eq (by omega) (by omega)).mp (a3.symm.trans h22)
    subst eam
    refine ⟨am' + 1, by omega, by rw [g2_s, upd_at, if_pos rfl], by rw [note2_0, if_pos rfl], fun _ => rfl, fun k hk => ?_⟩
    by_cases e : k = am'
    · subst e
      have ev : ∀ j, j < 57 → actV (note2 G k) k j = G 6 j := fun j hj => by
        unfold actV
        rw [note2_22]
        show (if 57 * k ≤ 57 * k + j ∧ 57 * k + j < 57 * k + 57 then G 6 (57 * k + j - 57 * k) else _) = _
        rw [if_pos (by omega)]
        congr 1
        omega
      refine ⟨p4.cg ev, p, by rw [e23]; exact hp, ?_, by rw [hg p (by omega)]; exact ht⟩
      exact (hps.ag (Nat.le_refl _) (fun _ _ => rfl) (fun j hj => ⟨hg _ (by omega), rfl⟩) (fun w k' hw' hk k1 k5 => hg w (fun e => by subst e; rw [f.2.1] at hk; omega))).cg ev
    · obtain ⟨s, q, z1, z2, z3⟩ := a5 k (by omega)
      have ev : ∀ j, j < 57 → actV (note2 G am') k j = actV G k j := fun j hj => by
        unfold actV
        rw [note2_22]
        show (if 57 * am' ≤ 57 * k + j ∧ 57 * k + j < 57 * am' + 57 then _ else G 22 (57 * k + j)) = _
        rw [if_neg (by omega)]
      have hq := fun j => hoff (2 + k) q j (by omega) (by omega) (by rw [plc_p (by omega)]; exact z1)
      have hl := (hP.at (i := 2 + k) (by omega) (by rw [plc_p (by omega)]; exact z1)).lt
      refine ⟨s.cg ev, q, by rw [e23]; exact z1, (z2.ag (Nat.le_refl _) (fun _ _ => rfl) (fun j hj => (ha (q + j) (by omega)).2 (hq j hj)) hw).cg ev, ?_⟩
      have := ((ha q (by omega)).2 (hq 0 (by omega))).1
      rw [this]
      exact z3
  · have := im.ag hP (Nat.le_refl _) ha e24 hw (fun k q j hk hq hj => hoff (26 + k) q j (by omega) (by omega) (by rw [plc_i]; exact hq) hj)
    unfold wImg imgV at this ⊢
    rw [note2_o G am (by decide) (by decide), note2_o G am (by decide) (by decide)]
    exact this
  · have := sh.ag (Nat.le_refl _) h44 ha (fun a _ q => q.ag e23 e24) (fun k hk => by omega) (fun k a hk hq => ?_)
    · unfold wShe shR at this ⊢
      rw [note2_o G am (by decide) (by decide), note2_o G am (by decide) (by decide), note2_o G am (by decide) (by decide)]
      exact this
    · rcases sh.1 k hk with ⟨z1, -⟩ | ⟨a', n, t, z1, z2, z3, z4, z5, z6, z7, z8, z9, z10⟩
      · rw [z1] at hq; cases hq
      · rw [z1] at hq; cases hq
        have := z10 (2 + am) p (by omega) hiu
        omega
  · have := tr.ag (Nat.le_refl _) h44 ha (by rw [e0]) (fun a _ q => q.ag e23 e24) (fun k hk => by omega) (fun t bb z1 z2 z3 z4 z5 z6 z7 => ?_)
    · unfold wTra at this ⊢
      rw [note2_o G am (n := 27) (by decide) (by decide), note2_0, if_neg (by decide)]
      exact this
    · have := z5 (2 + am) p (by omega) hiu
      refine ⟨fun z => ?_, fun z => by omega⟩
      rcases z with z | z
      · omega
      · have hk : (K t).1 ≠ 3 := by
          have hcases : t = p ∨ t = p + 1 ∨ t = p + 2 ∨ t = p + 3 ∨ t = p + 4 ∨ t = p + 5 := by omega
          obtain ⟨-, ⟨b0, b1, b2, b3, b4, b5⟩, -⟩ := hpu
          rcases hcases with e | e | e | e | e | e <;> subst e
          · rw [b0]; decide
          · rw [b1]; decide
          · rw [b2]; decide
          · rw [b3]; decide
          · rw [b4]; decide
          · rw [b5]; decide
        exact hk z3
  · unfold wTap at ta ⊢
    rw [hz 2 (by decide), hz 3 (by decide), hz 10 (by decide), hg 10 (by decide), (ho.1 10 (by omega)).1, note2_o G am (n := 8) (by decide) (by decide), note2_0, note2_0, note2_0, if_neg (by decide), if_neg (by decide), if_neg (by decide)]
    exact ta
theorem pass_ne {N : Nat} {K : gK} {R : gR} (h : wPas N K R) {i p : Nat} (hi : i < 28) (hp : plc R i = some p) : 11 ≤ p ∧ (p + 6 ≤ 23 ∨ 44 ≤ p) := by
  rcases Nat.lt_or_ge i 2 with y | y
  · have : i = 0 ∨ i = 1 := by omega
    rcases this with e | e
    · subst e; cases hp; decide
    · subst e; cases hp; decide
  · have := (h.1 i p hi hp).2 y; omega
/-- the acts become fewer -/
theorem wcR.acts {N : Nat} {K : gK} {I : mG} {R : gR} {G : mG} {b : Bool} {am m : Nat} (h : wcR N K I R G b) (h22 : G 0 22 = nI am) (ham : am ≤ 24) (hm : m ≤ am) : wcR N K (g2 I 0 7 (nI m)) R (g2 G 0 22 (nI m)) b := by
  obtain ⟨f, hP, ⟨p1, p2, p3, p4⟩, ac, im, sh, tr, ta⟩ := h
  have h44 : 44 ≤ N := f.1
  have hg : ∀ n, n ≠ 0 → g2 I 0 7 (nI m) n = I n := fun n hn => g2_ne _ _ _ hn
  have hgG : ∀ n, n ≠ 0 → g2 G 0 22 (nI m) n = G n := fun n hn => g2_ne _ _ _ hn
  have hz : ∀ k, k ≠ 7 → g2 I 0 7 (nI m) 0 k = I 0 k := fun k hk => by rw [g2_s, upd_at, if_neg hk]
  have hzG : ∀ k, k ≠ 22 → g2 G 0 22 (nI m) 0 k = G 0 k := fun k hk => by rw [g2_s, upd_at, if_neg hk]
  have ha : agr (fun n => n = 0) N K I R K (g2 I 0 7 (nI m)) R := fun n hn => ⟨rfl, fun hx => ⟨hg n hx, rfl⟩⟩
  have hw : wkS N K I (g2 I 0 7 (nI m)) := fun w k hw hk k1 k5 => hg w (fun e => by subst e; rw [f.2.1] at hk; omega)
  refine ⟨f.ag (Nat.le_refl _) ha (fun k _ => rfl) (by omega) (fun n h1 h2 => by omega), hP, ⟨?_, ?_, ?_, ?_⟩, ?_, ?_, ?_, ?_, ?_⟩
  · rw [hgG 6 (by decide)]; exact p1.ag (Nat.le_refl _) (fun _ _ => rfl) (fun j hj => ⟨hg _ (by omega), rfl⟩) hw
  · rw [hg 11 (by decide)]; exact p2
  · rw [hzG 4 (by decide)]; exact p3
  · rw [hgG 6 (by decide)]; exact p4
  · obtain ⟨am', a1, a2, a3, a4, a5⟩ := ac
    have eam : am' = am := (nI_eq (by omega) (by omega)).mp (a3.symm.trans h22)
    subst eam
    refine ⟨m, by omega, by rw [g2_s, upd_at, if_pos rfl], by rw [g2_s, upd_at, if_pos rfl], fun z => a4 (by omega), fun k hk => ?_⟩
    obtain ⟨s, q, z1, z2, z3⟩ := a5 k (by omega)
    have hq := pass_ne hP (i := 2 + k) (by omega) (by rw [plc_p (by omega)]; exact z1)
    unfold actV at s z2 ⊢
    rw [hgG 22 (by decide)]
    exact ⟨s, q, z1, z2.ag (Nat.le_refl _) (fun _ _ => rfl) (fun j hj => ⟨hg _ (by omega), rfl⟩) hw, by rw [hg q (by omega)]; exact z3⟩
  · have := im.ag hP (Nat.le_refl _) ha rfl hw (fun k q j hk hq hj => by have := pass_ne hP (i := 26 + k) (by omega) (by rw [plc_i]; exact hq); omega)
    unfold wImg imgV at this ⊢
    rw [hgG 25 (by decide), hgG 26 (by decide)]
    exact this
  · have := sh.ag (Nat.le_refl _) h44 ha (fun _ _ q => q) (fun k hk => by omega) (fun k a hk hq => ?_)
    · unfold wShe shR at this ⊢
      rw [hgG 1 (by decide), hgG 2 (by decide), hgG 3 (by decide)]
      exact this
    · rcases sh.1 k hk with ⟨z1, -⟩ | ⟨a', n, t, z1, z2, -⟩
      · rw [z1] at hq; cases hq
      · rw [z1] at hq; cases hq
        omega
  · have := tr.ag (Nat.le_refl _) h44 ha rfl (fun _ _ q => q) (fun k hk => by omega) (fun t bb z1 z2 z3 z4 z5 z6 z7 => ⟨by omega, by omega⟩)
    unfold wTra at this ⊢
    rw [hgG 27 (by decide), hzG 27 (by decide)]
    exact this
  · unfold wTap at ta ⊢
    rw [hz 2 (by decide), hz 3 (by decide), hz 10 (by decide), hg 10 (by decide), hgG 8 (by decide), hzG 8 (by decide), hzG 9 (by decide), hzG 3 (by decide)]
    exact ta
/-- a number of the component that the reference holds too -/
theorem wcR.scal {N : Nat} {K : gK} {I : mG} {R : gR} {G : mG} {b : Bool} (h : wcR N K I R G b) {k k' : Nat} {x : Int32} (hk : (k = 10 ∧ k' = 3) ∨ (k = 3 ∧ k' = 9) ∨ (k = 2 ∧ k' = 8 ∧ x = nI 0)) : wcR N K (g2 I 0 k x) R (g2 G 0 k' x) b := by
  obtain ⟨f, hP, ⟨p1, p2, p3, p4⟩, ac, im, sh, tr, ta⟩ := h
  have h44 : 44 ≤ N := f.1
  have hg : ∀ n, n ≠ 0 → g2 I 0 k x n = I n := fun n hn => g2_ne _ _ _ hn
  have hgG : ∀ n, n ≠ 0 → g2 G 0 k' x n = G n := fun n hn => g2_ne _ _ _ hn
  have hz : ∀ j, j ≠ k → g2 I 0 k x 0 j = I 0 j := fun j hj => by rw [g2_s, upd_at, if_neg hj]
  have hzG : ∀ j, j ≠ k' → g2 G 0 k' x 0 j = G 0 j := fun j hj => by rw [g2_s, upd_at, if_neg hj]
  have ha : agr (fun n => n = 0) N K I R K (g2 I 0 k x) R := fun n hn => ⟨rfl, fun hx => ⟨hg n hx, rfl⟩⟩
  have hw : wkS N K I (g2 I 0 k x) := fun w k hw hk k1 k5 => hg w (fun e => by subst e; rw [f.2.1] at hk; omega)
  refine ⟨f.ag (Nat.le_refl _) ha (fun k _ => rfl) (by omega) (fun n h1 h2 => by omega), hP, ⟨?_, ?_, ?_, ?_⟩, ?_, ?_, ?_, ?_, ?_⟩
  · rw [hgG 6 (by decide)]; exact p1.ag (Nat.le_refl _) (fun _ _ => rfl) (fun j hj => ⟨hg _ (by omega), rfl⟩) hw
  · rw [hg 11 (by decide)]; exact p2
  · rw [hzG 4 (by omega)]; exact p3
  · rw [hgG 6 (by decide)]; exact p4
  · have := ac.ag hP (Nat.le_refl _) ha (hz 7 (by omega)) (fun _ _ z => z) hw (fun k q j hk hq hj => by have := pass_ne hP (i := 2 + k) (by omega) (by rw [plc_p hk]; exact hq); omega)
    unfold wAct actV at this ⊢
    rw [hgG 22 (by decide), hzG 22 (by omega)]
    exact this
  · have := im.ag hP (Nat.le_refl _) ha rfl hw (fun k q j hk hq hj => by have := pass_ne hP (i := 26 + k) (by omega) (by rw [plc_i]; exact hq); omega)
    unfold wImg imgV at this ⊢
    rw [hgG 25 (by decide), hgG 26 (by decide)]
    exact this
  · have := sh.ag (Nat.le_refl _) h44 ha (fun _ _ q => q) (fun k hk => by omega) (fun k a hk hq => ?_)
    · unfold wShe shR at this ⊢
      rw [hgG 1 (by decide), hgG 2 (by decide), hgG 3 (by decide)]
      exact this
    · rcases sh.1 k hk with ⟨z1, -⟩ | ⟨a', n, t, z1, z2, -⟩
      · rw [z1] at hq; cases hq
      · rw [z1] at hq; cases hq
        omega
  · have := tr.ag (Nat.le_refl _) h44 ha rfl (fun _ _ q => q) (fun k hk => by omega) (fun t bb z1 z2 z3 z4 z5 z6 z7 => ⟨by omega, by omega⟩)
    unfold wTra at this ⊢
    rw [hgG 27 (by decide), hzG 27 (by omega)]
    exact this
  · obtain ⟨t1, t2, t3, t, t4, t5, t6⟩ := ta
    unfold wTap
    rw [hg 10 (by decide), hgG 8 (by decide)]
    rcases hk with ⟨e1, e2⟩ | ⟨e1, e2⟩ | ⟨e1, e2, e3⟩
    · subst e1; subst e2
      rw [hz 2 (by decide), hz 3 (by decide), hzG 8 (by decide), hzG 9 (by decide)]
      exact ⟨t1, t2, by rw [g2_s, g2_s, upd_at, upd_at, if_pos rfl, if_pos rfl], t, t4, t5, t6⟩
    · subst e1; subst e2
      rw [hz 2 (by decide), hz 10 (by decide), hzG 8 (by decide), hzG 3 (by decide)]
      exact ⟨t1, by rw [g2_s, g2_s, upd_at, upd_at, if_pos rfl, if_pos rfl], t3, t, t4, t5, t6⟩
    · subst e1; subst e2; subst e3
      rw [hz 3 (by decide), hz 10 (by decide), hzG 9 (by decide), hzG 3 (by decide)]
      exact ⟨by rw [g2_s, g2_s, upd_at, upd_at, if_pos rfl, if_pos rfl], t2, t3, 0, by decide, by rw [g2_s, upd_at, if_pos rfl], fun i hi => by omega⟩
/-! ===== the past is shifted ===== -/
def rotF (f : Nat → Option Nat) : Nat → Option Nat := fun k => if k < 23 then f (k + 1) else if k = 23 then f 0 else f k
def sig (i : Nat) : Nat := if 2 ≤ i ∧ i < 25 then i + 1 else if i = 25 then 2 else i
theorem plc_rot (R : gR) {i : Nat} (hi : i < 28) : plc (va_up R 23 (rotF (R 23))) i = plc R (sig i) := by
  unfold plc sig rotF
  rw [va_up_self, va_up_ne _ _ (show (24 : Nat) ≠ 23 by decide)]
  by_cases h0 : i = 0
  · subst h0; rfl
  · by_cases h1 : i = 1
    · subst h1; rfl
    · rw [if_neg h0, if_neg h1]
      by_cases h25 : i < 25
      · rw [if_pos (show 2 ≤ i ∧ i < 25 by omega), if_pos (by omega), if_pos (by omega), if_neg (by omega), if_neg (by omega), if_pos (by omega)]
        congr 1
        omega
      · by_cases e : i = 25
        · subst e
          rfl
        · rw [if_neg (show ¬ i < 26 by omega), if_neg (show ¬ (2 ≤ i ∧ i < 25) by omega), if_neg e, if_neg h0, if_neg h1, if_neg (show ¬ i < 26 by omega)]
theorem sig_lt {i : Nat} (h : i < 28) : sig i < 28 := by
  unfold sig
  split
  · omega
  · split <;> omega
theorem sig_inj {i j : Nat} (h : sig i = sig j) : i = j := by
  unfold sig at h
  split at h <;> split at h <;> (try split at h) <;> (try split at h) <;> omega
theorem note1_0 (G : mG) (k : Nat) : note1 G 0 k = if k = 22 then nI 23 else G 0 k := rfl
theorem note1_22 (G : mG) : note1 G 22 = fun j => if j < 1311 then G 22 (j + 57) else G 22 j := by
  unfold note1
  rw [g2_ne _ _ _ (by decide), va_up_self]
theorem note1_o (G : mG) {n : Nat} (h0 : n ≠ 0) (h22 : n ≠ 22) : note1 G n = G n := by
  unfold note1
  rw [g2_ne _ _ _ h0, va_up_ne _ _ h22]
theorem wcR.rot {N : Nat} {K : gK} {I : mG} {R : gR} {G : mG} {b : Bool} (h : wcR N K I R G b) (h22 : G 0 22 = nI 24) : wcR N K (g2 I 0 7 (nI 23)) (va_up R 23 (rotF (R 23))) (note1 G) b := by
  obtain ⟨f, hP, ⟨p1, p2, p3, p4⟩, ac, im, sh, tr, ta⟩ := h
  have h44 : 44 ≤ N := f.1
  have hg : ∀ n, n ≠ 0 → g2 I 0 7 (nI 23) n = I n := fun n hn => g2_ne _ _ _ hn
  have hr : ∀ n, n ≠ 23 → va_up R 23 (rotF (R 23)) n = R n := fun n hn => va_up_ne _ _ hn
  have hz : ∀ k, k ≠ 7 → g2 I 0 7 (nI 23) 0 k = I 0 k := fun k hk => by rw [g2_s, upd_at, if_neg hk]
  have ha : agr (fun n => n = 0 ∨ n = 23) N K I R K (g2 I 0 7 (nI 23)) (va_up R 23 (rotF (R 23))) := fun n hn => ⟨rfl, fun hx => ⟨hg n (fun e => hx (Or.inl e)), hr n (fun e => hx (Or.inr e))⟩⟩
  have hw : wkS N K I (g2 I 0 7 (nI 23)) := fun w k hw hk k1 k5 => hg w (fun e => by subst e; rw [f.2.1] at hk; omega)
  have hb : ∀ i p j, i < 28 → plc R i = some p → j < 6 → g2 I 0 7 (nI 23) (p + j) = I (p + j) ∧ va_up R 23 (rotF (R 23)) (p + j) = R (p + j) := fun i p j hi hp hj => by
    have := pass_ne hP hi hp
    exact ⟨hg _ (by omega), hr _ (by omega)⟩
  have hsep : ∀ a, a < N → sep R a → sep (va_up R 23 (rotF (R 23))) a := fun a _ hs i p hi hp => hs (sig i) p (sig_lt hi) (by rw [← plc_rot R hi]; exact hp)
  refine ⟨f.ag (Nat.le_refl _) ha (fun k _ => by rw [hr 0 (by decide)]) (by omega) (fun n h1 h2 => by omega), ⟨fun i p hi hp => ?_, fun i j p hi hj hp hq => ?_⟩, ⟨?_, ?_, ?_, ?_⟩, ?_, ?_, ?_, ?_, ?_⟩
  · rw [plc_rot R hi] at hp
    have h1 := hP.1 (sig i) p (sig_lt hi) hp
    have := pass_ne hP (sig_lt hi) hp
    refine ⟨h1.1.ag (Nat.le_refl _) (fun _ _ => rfl) (hr p (by omega)), fun h2 => h1.2 ?_⟩
    unfold sig
    split
    · omega
    · split <;> omega
  · rw [plc_rot R hi] at hp
    rw [plc_rot R hj] at hq
    exact sig_inj (hP.2 _ _ p (sig_lt hi) (sig_lt hj) hp hq)
  · rw [note1_o G (by decide) (by decide)]; exact p1.ag (Nat.le_refl _) (fun _ _ => rfl) (fun j hj => hb 0 11 j (by decide) rfl hj) hw
  · rw [hg 11 (by decide)]; exact p2
  · rw [note1_0, if_neg (by decide)]; exact p3
  · rw [note1_o G (by decide) (by decide)]; exact p4
  · obtain ⟨am', a1, a2, a3, a4, a5⟩ := ac
    have eam : am' = 24 := (nI_eq (by omega) (by decide)).mp (a3.symm.trans h22)
    subst eam
    refine ⟨23, by decide, by rw [g2_s, upd_at, if_pos rfl], by rw [note1_0, if_pos rfl], fun z => a4 (by decide), fun k hk => ?_⟩
    obtain ⟨s, q, z1, z2, z3⟩ := a5 (k + 1) (by omega)
    have hq := fun j => hb (2 + (k + 1)) q j (by omega) (by rw [plc_p (by omega)]; exact z1)
    have ev : ∀ j, j < 57 → actV (note1 G) k j = actV G (k + 1) j := fun j hj => by
      unfold actV
      rw [note1_22]
      show (if 57 * k + j < 1311 then G 22 (57 * k + j + 57) else _) = _
      rw [if_pos (by omega)]
      congr 1
      omega
    refine ⟨s.cg ev, q, ?_, (z2.ag (Nat.le_refl _) (fun _ _ => rfl) hq hw).cg ev, ?_⟩
    · rw [va_up_self]
      unfold rotF
      rw [if_pos hk]
      exact z1
    · have := (hq 0 (by omega)).1
      rw [Nat.add_zero] at this
      rw [this]
      exact z3
  · have := im.ag hP (Nat.le_refl _) ha (hr 24 (by decide)) hw (fun k q j hk hq hj => by have := pass_ne hP (i := 26 + k) (by omega) (by rw [plc_i]; exact hq); omega)
    unfold wImg imgV at this ⊢
    rw [note1_o G (n := 25) (by decide) (by decide), note1_o G (n := 26) (by decide) (by decide)]
    exact this
  · have := sh.ag (Nat.le_refl _) h44 ha hsep (fun k hk => by omega) (fun k a hk hq => ?_)
    · unfold wShe shR at this ⊢
      rw [note1_o G (n := 1) (by decide) (by decide), note1_o G (n := 2) (by decide) (by decide), note1_o G (n := 3) (by decide) (by decide)]
      exact this
    · rcases sh.1 k hk with ⟨z1, -⟩ | ⟨a', n, t, z1, z2, -⟩
      · rw [z1] at hq; cases hq
      · rw [z1] at hq; cases hq
        omega
  · have := tr.ag (Nat.le_refl _) h44 ha (by rw [hr 0 (by decide)]) hsep (fun k hk => by omega) (fun t bb z1 z2 z3 z4 z5 z6 z7 => ⟨by omega, by omega⟩)
    unfold wTra at this ⊢
    rw [note1_o G (n := 27) (by decide) (by decide), note1_0, if_neg (by decide)]
    exact this
  · unfold wTap at ta ⊢
    rw [hz 2 (by decide), hz 3 (by decide), hz 10 (by decide), hg 10 (by decide), note1_o G (n := 8) (by decide) (by decide), note1_0, note1_0, note1_0, if_neg (by decide), if_neg (by decide), if_neg (by decide)]
    exact ta
/-! ===== a new pass takes an empty place of the past ===== -/
theorem plc_put (R : gR) (R' : gR) {arr k i0 p : Nat} (hpl : (arr = 23 ∧ k < 24 ∧ i0 = 2 + k) ∨ (arr = 24 ∧ k < 2 ∧ i0 = 26 + k)) (ha : ∀ j, R' arr j = if j = k then some p else R arr j) (ho : ∀ n, n = 23 ∨ n = 24 → n ≠ arr → R' n = R n) (i : Nat) : plc R' i = if i = i0 then some p else plc R i := by
  unfold plc
  rcases hpl with ⟨e, hk, e0⟩ | ⟨e, hk, e0⟩
  · subst e
    rw [ha, ho 24 (Or.inr rfl) (by decide)]
    by_cases z0 : i = 0
    · rw [if_pos z0, if_pos z0, if_neg (by omega)]
    · by_cases z1 : i = 1
      · rw [if_neg z0, if_pos z1, if_neg z0, if_pos z1, if_neg (by omega)]
      · rw [if_neg z0, if_neg z1, if_neg z0, if_neg z1]
        by_cases z2 : i < 26
        · rw [if_pos z2, if_pos z2]
          by_cases z3 : i = i0
          · rw [if_pos (by omega), if_pos z3]
          · rw [if_neg (by omega), if_neg z3]
        · rw [if_neg z2, if_neg z2, if_neg (by omega)]
  · subst e
    rw [ha, ho 23 (Or.inl rfl) (by decide)]
    by_cases z0 : i = 0
    · rw [if_pos z0, if_pos z0, if_neg (by omega)]
    · by_cases z1 : i = 1
      · rw [if_neg z0, if_pos z1, if_neg z0, if_pos z1, if_neg (by omega)]
      · rw [if_neg z0, if_neg z1, if_neg z0, if_neg z1]
        by_cases z2 : i < 26
        · rw [if_pos z2, if_pos z2, if_neg (by omega)]
        · rw [if_neg z2, if_neg z2]
          by_cases z3 : i = i0
          · rw [if_pos (by omega), if_pos z3]
          · rw [if_neg (by omega), if_neg z3]
theorem wcR.place {N : Nat} {K K' : gK} {I I' : mG} {R R1 : gR} {G : mG} {b : Bool} {k : Nat} (h : wcR N K I R G b) (hk : k < 24) (hno : R 23 k = none) (hK : ∀ n, n < N → K' n = K n) (hI : ∀ n, n < N → I' n = I n ∧ R1 n = R n) (hps : isPass (List.range (N + 6)) K' R1 N) : wcR (N + 6) K' I' (r2 R1 23 k (some N)) G b := by
  obtain ⟨f, hP, ⟨p1, p2, p3, p4⟩, ac, im, sh, tr, ta⟩ := h
  have h44 : 44 ≤ N := f.1
  have hN : N ≤ N + 6 := by omega
  have hr : ∀ n, n < N → n ≠ 23 → r2 R1 23 k (some N) n = R n := fun n hn hne => by
    unfold r2
    rw [va_up_ne _ _ hne]
    exact (hI n hn).2
  have hra : ∀ j, r2 R1 23 k (some N) 23 j = if j = k then some N else R 23 j := fun j => by
    unfold r2
    rw [va_up_self, (hI 23 (by omega)).2]
    rfl
  have ha : agr (fun n => n = 23) N K I R K' I' (r2 R1 23 k (some N)) := fun n hn => ⟨hK n hn, fun hx => ⟨(hI n hn).1, hr n hn hx⟩⟩
  have hw : wkS N K I I' := fun w k hw hk k1 k5 => (hI w hw).1
  have hpc := plc_put R (r2 R1 23 k (some N)) (arr := 23) (k := k) (i0 := 2 + k) (p := N) (Or.inl ⟨rfl, hk, rfl⟩) hra (fun n hn hne => hr n (by omega) hne)
  have hsep : ∀ a, a < N → sep R a → sep (r2 R1 23 k (some N)) a := fun a haN hs i p hi hp => by
    rw [hpc] at hp
    split at hp
    · cases hp; exact Or.inl haN
    · exact hs i p hi hp
  have hpR : ∀ i p, i < 28 → plc R i = some p → r2 R1 23 k (some N) p = R p := fun i p hi hp => by
    have := pass_ne hP hi hp
    have := (hP.at hi hp).lt
    exact hr p (by omega) (by omega)
  refine ⟨f.ag hN ha (fun k _ => by rw [hr 0 (by omega) (by omega)]) (by omega) (fun n h1 h2 => by omega), ⟨fun i p hi hp => ?_, fun i j p hi hj hp hq => ?_⟩, ⟨?_, ?_, p3, p4⟩, ?_, ?_, ?_, ?_, ?_⟩
  · rw [hpc] at hp
    split at hp
    · cases hp
      refine ⟨hps.ag (Nat.le_refl _) (fun _ _ => rfl) ?_, fun _ => h44⟩
      unfold r2
      rw [va_up_ne _ _ (by omega)]
    · exact ⟨((hP.1 i p hi hp).1).ag hN hK (hpR i p hi hp), (hP.1 i p hi hp).2⟩
  · rw [hpc] at hp hq
    split at hp <;> split at hq
    · omega
    · cases hp
      have := (hP.at hj hq).lt
      omega
    · cases hq
      have := (hP.at hi hp).lt
      omega
    · exact hP.2 i j p hi hj hp hq
  · exact p1.ag hN hK (fun j hj => ⟨(hI _ (by omega)).1, hr _ (by omega) (by omega)⟩) hw
  · rw [(hI 11 (by omega)).1]; exact p2
  · refine ac.ag hP hN ha (by rw [(hI 0 (by omega)).1]) (fun k' p z => ?_) hw (fun k' q j hk hq hj => by have := pass_ne hP (i := 2 + k') (by omega) (by rw [plc_p hk]; exact hq); omega)
    rw [hra]
    by_cases z2 : k' = k
    · subst z2; rw [hno] at z; cases z
    · rw [if_neg z2]; exact z
  · exact im.ag hP hN ha (hr 24 (by omega) (by decide)) hw (fun k' q j hk hq hj => by have := pass_ne hP (i := 26 + k') (by omega) (by rw [plc_i]; exact hq); omega)
  · exact sh.ag hN h44 ha hsep (fun k hk => by omega) (fun k' a hk' hq => by
      rcases sh.1 k' hk' with ⟨z1, -⟩ | ⟨a', n, t, z1, z2, -⟩
      · rw [z1] at hq; cases hq
      · rw [z1] at hq; cases hq
        omega)
  · exact tr.ag hN h44 ha (by rw [hr 0 (by omega) (by decide)]) hsep (fun k hk => by omega) (fun t bb z1 z2 z3 z4 z5 z6 z7 => by
      refine ⟨fun z => ?_, fun z => by omega⟩
      omega)
  · unfold wTap at ta ⊢
    rw [(hI 0 (by omega)).1, (hI 10 (by omega)).1]
    exact ta
/-- the image k becomes the pass, in a pass p that lies there or is new -/
theorem wcR.img {N N' : Nat} {K K' : gK} {I I' : mG} {R R' : gR} {G : mG} {k p : Nat} (h : wcR N K I R G true) (hk : k < 2) (hp : (R 24 k = some p ∧ N' = N) ∨ (R 24 k = none ∧ p = N ∧ N' = N + 6)) (hK : ∀ n, n < N → K' n = K n) (hI : ∀ n, n < N → n < p ∨ p + 6 ≤ n → n ≠ 24 → I' n = I n ∧ R' n = R n) (hI24 : ∀ j, R' 24 j = if j = k then some p else R 24 j) (hRp : p < N → R' p = R p) (hps : psR (List.range N') K' I' R' p (G 6)) (ht : I' p 0 = nI 1) : wcR N' K' I' R' (g2 (va_up G 26 (fun j => if 57 * k ≤ j ∧ j < 57 * k + 57 then G 6 (j - 57 * k) else G 26 j)) 25 k (nI 1)) true := by
  obtain ⟨f, hP, ⟨p1, p2, p3, p4⟩, ac, im, sh, tr, ta⟩ := h
  generalize hGe : g2 (va_up G 26 (fun j => if 57 * k ≤ j ∧ j < 57 * k + 57 then G 6 (j - 57 * k) else G 26 j)) 25 k (nI 1) = G'
  have g26 : ∀ j, G' 26 j = if 57 * k ≤ j ∧ j < 57 * k + 57 then G 6 (j - 57 * k) else G 26 j := fun j => by rw [← hGe, g2_ne _ _ _ (by decide), va_up_self]
  have g25 : ∀ j, G' 25 j = if j = k then nI 1 else G 25 j := fun j => by rw [← hGe, g2_s, va_up_ne _ _ (by decide)]; rfl
  have go : ∀ n, n ≠ 25 → n ≠ 26 → G' n = G n := fun n h1 h2 => by rw [← hGe, g2_ne _ _ _ h1, va_up_ne _ _ h2]
  have h44 : 44 ≤ N := f.1
  have hN : N ≤ N' := by omega
  have hp44 : 44 ≤ p ∧ ∀ i, i < 28 → i ≠ 26 + k → ∀ q, plc R i = some q → p + 6 ≤ q ∨ q + 6 ≤ p := by
    rcases hp with ⟨e, -⟩ | ⟨-, e, -⟩
    · have e' : plc R (26 + k) = some p := by rw [plc_i]; exact e
      exact ⟨(hP.1 _ p (by omega) e').2 (by omega), fun i hi hne q hq => hP.ne (by omega) hi e' hq (Ne.symm hne)⟩
    · subst e
      exact ⟨h44, fun i hi _ q hq => Or.inr ((hP.at hi hq).lt)⟩
  obtain ⟨hp44, hpo⟩ := hp44
  have ha : agr (fun n => n = 24 ∨ (p ≤ n ∧ n < p + 6)) N K I R K' I' R' := fun n hn => ⟨hK n hn, fun hx => hI n hn (by rcases Nat.lt_or_ge n p with z | z; exact Or.inl z; exact Or.inr (by rcases Nat.lt_or_ge n (p + 6) with y | y; exact absurd (Or.inr ⟨z, y⟩) hx; exact y)) (fun e => hx (Or.inl e))⟩
  have e0 := hI 0 (by omega) (by omega) (by decide)
  have e23 : R' 23 = R 23 := (hI 23 (by omega) (by omega) (by decide)).2
  have hpu := hps.1
  have hw : wkS N K I I' := fun w k' hw hk k1 k5 => (hI w hw (hpu.wk (by rw [hK w hw]; exact hk) k1 k5) (fun e => by subst e; rw [f.2.2.2.2.1.2.2.2] at hk; simp only at hk; omega)).1
  have hpc := plc_put R R' (arr := 24) (k := k) (i0 := 26 + k) (p := p) (Or.inr ⟨rfl, hk, rfl⟩) hI24 (fun n hn hne => Or.elim hn (fun e => by rw [e]; exact e23) (fun e => absurd e hne))
  have hpR : ∀ i q, i < 28 → i ≠ 26 + k → plc R i = some q → ∀ j, j < 6 → I' (q + j) = I (q + j) ∧ R' (q + j) = R (q + j) := fun i q hi hne hq j hj => by
    have h1 := pass_ne hP hi hq
    have h2 := (hP.at hi hq).lt
    have h3 := hpo i hi hne q hq
    exact hI _ (by omega) (by omega) (by omega)
  have hsep : ∀ a, a < N → sep R a → sep R' a := fun a haN hs i q hi hq => by
    rw [hpc] at hq
    split at hq
    · cases hq
      rcases hp with ⟨e, -⟩ | ⟨-, e, -⟩
      · exact hs (26 + k) p (by omega) (by rw [plc_i]; exact e)
      · subst e; exact Or.inl haN
    · exact hs i q hi hq
  have hin : ∀ a, a < N → sep R a → ¬ (p ≤ a ∧ a < p + 6) := fun a haN hs z => by
    rcases hp with ⟨e, -⟩ | ⟨-, e, -⟩
    · have := hs (26 + k) p (by omega) (by rw [plc_i]; exact e); omega
    · omega
  refine ⟨f.ag hN ha (fun k _ => by rw [e0.2]) (by omega) (fun n h1 h2 => by omega), ⟨fun i q hi hq => ?_, fun i j q hi hj hq hq' => ?_⟩, ⟨?_, ?_, ?_, ?_⟩, ?_, ?_, ?_, ?_, ?_⟩
  · rw [hpc] at hq
    split at hq
    · cases hq; exact ⟨hpu, fun _ => hp44⟩
    · rename_i hne
      have h6 := hpR i q hi hne hq 0 (by decide)
      rw [Nat.add_zero] at h6
      exact ⟨((hP.1 i q hi hq).1).ag hN hK h6.2, (hP.1 i q hi hq).2⟩
  · rw [hpc] at hq hq'
    split at hq <;> split at hq'
    · omega
    · cases hq
      rename_i hne
      have := hpo j hj hne _ hq'
      omega
    · cases hq'
      rename_i hne _
      have := hpo i hi hne _ hq
      omega
    · exact hP.2 i j q hi hj hq hq'
  · rw [go 6 (by decide) (by decide)]; exact p1.ag hN hK (hpR 0 11 (by decide) (by omega) rfl) hw
  · rw [(hI 11 (by omega) (by omega) (by decide)).1]; exact p2
  · rw [go 0 (by decide) (by decide)]; exact p3
  · rw [go 6 (by decide) (by decide)]; exact p4
  · have := ac.ag hP hN ha (by rw [e0.1]) (fun k' q z => by rw [e23]; exact z) hw (fun k' q j hk' hq hj => by
      have h1 := pass_ne hP (i := 2 + k') (by omega) (by rw [plc_p hk']; exact hq)
      have h2 := hpo (2 + k') (by omega) (by omega) q (by rw [plc_p hk']; exact hq)
      omega)
    unfold wAct actV at this ⊢
    rw [go 0 (by decide) (by decide), go 22 (by decide) (by decide)]
    exact this
  · intro k' hk'
    rw [g25, hI24]
    by_cases e : k' = k
    · subst e
      rw [if_pos rfl, if_pos rfl]
      have ev : ∀ j, j < 57 → imgV G' k' j = G 6 j := fun j hj => by
        unfold imgV
        rw [g26, if_pos (by omega)]
        congr 1
        omega
      exact Or.inr ⟨rfl, rfl, p4.cg ev, p, rfl, hps.cg ev, ht⟩
    · rw [if_neg e, if_neg e]
      have ev : ∀ j, j < 57 → imgV G' k' j = imgV G k' j := fun j hj => by
        unfold imgV
        rw [g26, if_neg (by omega)]
      rcases im k' hk' with z | ⟨zb, z0, s, q, z1, z2, z3⟩
      · exact Or.inl z
      · have hq := hpR (26 + k') q (by omega) (by omega) (by rw [plc_i]; exact z1)
        have hq0 := (hq 0 (by decide)).1
        rw [Nat.add_zero] at hq0
        exact Or.inr ⟨zb, z0, s.cg ev, q, z1, (z2.ag hN hK hq hw).cg ev, by rw [hq0]; exact z3⟩
  · have := sh.ag hN h44 ha hsep (fun k hk => by omega) (fun k' a hk' hq => ?_)
    · unfold wShe shR at this ⊢
      rw [go 1 (by decide) (by decide), go 2 (by decide) (by decide), go 3 (by decide) (by decide)]
      exact this
    · rcases sh.1 k' hk' with ⟨z1, -⟩ | ⟨a', n, t, z1, z2, z3, z4, z5, z6, z7, z8, z9, z10⟩
      · rw [z1] at hq; cases hq
      · rw [z1] at hq; cases hq
        have := hin a z3 z10
        omega
  · obtain ⟨t, bb, m, a1, a2, a3, a4, a5, a6, a7, a8, a9, a10, a11, a12, a13, a14⟩ := id tr
    have := tr.ag hN h44 ha (by rw [e0.2]) hsep (fun k hk => by omega) (fun t' bb' z1 z2 z3 z4 z5 z6 z7 => ?_)
    · unfold wTra at this ⊢
      rw [go 27 (by decide) (by decide), go 0 (by decide) (by decide)]
      exact this
    · rw [a1] at z1; cases z1
      rw [a5] at z2; cases z2
      have := hin bb a6 a13
      refine ⟨fun z => ?_, fun z => ?_⟩
      · rcases z with z | z
        · subst z
          rw [f.2.2.2.2.1.2.2.2] at z3; exact absurd z3 (by decide)
        · have hk : (K t).1 ≠ 3 := by
            have hcases : t = p ∨ t = p + 1 ∨ t = p + 2 ∨ t = p + 3 ∨ t = p + 4 ∨ t = p + 5 := by omega
            obtain ⟨-, ⟨b0, b1, b2, b3, b4, b5⟩, -⟩ := hpu
            rw [← hK t a2]
            rcases hcases with e | e | e | e | e | e <;> subst e
            · rw [b0]; decide
            · rw [b1]; decide
            · rw [b2]; decide
            · rw [b3]; decide
            · rw [b4]; decide
            · rw [b5]; decide
          exact hk z3
      · rcases z with z | z
        · subst z
          rw [f.2.2.2.2.1.2.2.2] at z4; exact absurd z4 (by decide)
        · exact this z
  · unfold wTap at ta ⊢
    rw [e0.1, (hI 10 (by omega) (by omega) (by decide)).1, go 8 (by decide) (by decide), go 0 (by decide) (by decide)]
    exact ta
