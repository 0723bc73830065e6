/-! ===== the whole component against the reference ===== -/
theorem isPass.ag {N N' : Nat} {K K' : gK} {R R' : gR} {u : Nat} (h : isPass (List.range N) K R u) (hN : N ≤ N') (hK : ∀ n, n < N → K' n = K n) (hR : R' u = R u) : isPass (List.range N') K' R' u := by
  obtain ⟨h1, h2, h3⟩ := h
  simp only [List.mem_range] at h1
  refine ⟨by simp only [List.mem_range]; omega, ?_, by rw [hR]; exact h3⟩
  rw [hK u (by omega), hK (u + 1) (by omega), hK (u + 2) (by omega), hK (u + 3) (by omega), hK (u + 4) (by omega), hK (u + 5) (by omega)]
  exact h2
theorem isPass.lt {N : Nat} {K : gK} {R : gR} {u : Nat} (h : isPass (List.range N) K R u) : u + 6 ≤ N := by
  have := List.mem_range.mp h.1.2.2.2.2.2
  omega
/-- works are never changed -/
def wkS (N : Nat) (K : gK) (I I' : mG) : Prop := ∀ w k, w < N → (K w).1 = 3 + k → 1 ≤ k → k ≤ 5 → I' w = I w
theorem psR.ag {N N' : Nat} {K K' : gK} {I I' : mG} {R R' : gR} {u : Nat} {st : vV} (h : psR (List.range N) K I R u st) (hN : N ≤ N') (hK : ∀ n, n < N → K' n = K n) (hb : ∀ j, j < 6 → I' (u + j) = I (u + j) ∧ R' (u + j) = R (u + j)) (hw : wkS N K I I') : psR (List.range N') K' I' R' u st := by
  obtain ⟨h1, h2, h3, h4⟩ := h
  have b0 : I' u = I u ∧ R' u = R u := hb 0 (by omega)
  refine ⟨h1.ag hN hK b0.2, by rw [b0.1]; exact h2, fun y hy => ?_, fun c hc => ?_⟩
  · rw [(hb 1 (by omega)).1, (hb 2 (by omega)).1]; exact h3 y hy
  · obtain ⟨g1, g2, g3, g4⟩ := h4 c hc
    refine ⟨by rw [b0.1]; exact g1, g2, g3, ?_⟩
    rw [(hb 3 (by omega)).2]
    rcases g4 with g4 | ⟨w, k, a1, a2, a3, a4, a5, a6, a7, a8⟩
    · exact Or.inl g4
    · have hwN := List.mem_range.mp a2
      have e := hw w k hwN a5 a3 a4
      exact Or.inr ⟨w, k, a1, List.mem_range.mpr (by omega), a3, a4, by rw [hK w hwN]; exact a5, a6, by rw [e]; exact a7, by rw [e]; exact a8⟩
/-- the passes by their places: the pass, the one laid aside, those of the past, the images -/
def plc (R : gR) (i : Nat) : Option Nat := if i = 0 then some 11 else if i = 1 then some 17 else if i < 26 then R 23 (i - 2) else R 24 (i - 26)
theorem plc_p {R : gR} {k : Nat} (h : k < 24) : plc R (2 + k) = R 23 k := by
  unfold plc
  rw [if_neg (by omega), if_neg (by omega), if_pos (by omega)]
  congr 1
  omega
theorem plc_i {R : gR} {k : Nat} : plc R (26 + k) = R 24 k := by
  unfold plc
  rw [if_neg (by omega), if_neg (by omega), if_neg (by omega)]
  congr 1
  omega
theorem plc_eq {R R' : gR} (h23 : R' 23 = R 23) (h24 : R' 24 = R 24) (i : Nat) : plc R' i = plc R i := by
  unfold plc
  rw [h23, h24]
def wPas (N : Nat) (K : gK) (R : gR) : Prop := (∀ i p, i < 28 → plc R i = some p → isPass (List.range N) K R p ∧ (2 ≤ i → 44 ≤ p)) ∧ ∀ i j p, i < 28 → j < 28 → plc R i = some p → plc R j = some p → i = j
/-- a lies in no pass -/
def sep (R : gR) (a : Nat) : Prop := ∀ i p, i < 28 → plc R i = some p → a < p ∨ p + 6 ≤ a
def wFix (N : Nat) (K : gK) (I : mG) (R : gR) : Prop := 44 ≤ N ∧ (K 0).1 = 0 ∧ (R 0 4 = some 11 ∧ R 0 5 = some 17 ∧ R 0 11 = some 27) ∧ (K 27 = (32, 16) ∧ ∀ c, c < 16 → R 27 c = some (28 + c) ∧ (K (28 + c)).1 = 4 ∧ I (28 + c) 0 = nI c ∧ I (28 + c) 1 = nI 99) ∧
  (K 1 = (30, 8) ∧ K 10 = (21, 120) ∧ K 23 = (31, 24) ∧ K 24 = (31, 2)) ∧ (R 0 0 = some 1 ∧ R 0 1 = some 10 ∧ R 0 6 = some 23 ∧ R 0 8 = some 24) ∧ ∀ k, k < 8 → R 1 k = some (2 + k) ∧ (K (2 + k)).1 = 1
/-- a shelf: nothing, or a row of a lane -/
def shR (N : Nat) (K : gK) (I : mG) (R : gR) (G : mG) (k : Nat) : Prop := (R (2 + k) 0 = none ∧ G 2 k = -1) ∨ ∃ a n t, R (2 + k) 0 = some a ∧ 44 ≤ a ∧ a < N ∧ t ≤ 2 ∧ n ≤ 40 ∧ K a = (if t = 0 then 21 else if t = 1 then 22 else 20, n) ∧ G 2 k = nI n ∧ G 1 k = nI t ∧ (∀ i, i < n → I a i = G 3 (40 * k + i) ∧ asL (nI t) (I a i) = I a i) ∧ sep R a
def wShe (N : Nat) (K : gK) (I : mG) (R : gR) (G : mG) : Prop := (∀ k, k < 8 → shR N K I R G k) ∧ ∀ j k a, j < 8 → k < 8 → R (2 + j) 0 = some a → R (2 + k) 0 = some a → j = k
/-- where the trail lies -/
def wTra (N : Nat) (K : gK) (I : mG) (R : gR) (G : mG) : Prop := ∃ t b m, R 0 9 = some t ∧ t < N ∧ 25 ≤ t ∧ (K t).1 = 3 ∧ R t 0 = some b ∧ b < N ∧ 25 ≤ b ∧ K b = (20, 16) ∧ m ≤ 16 ∧ I t 1 = nI m ∧ G 0 27 = nI m ∧ (∀ i, i < m → I b i = G 27 i) ∧ sep R b ∧ ∀ k, k < 8 → R (2 + k) 0 ≠ some b
def wTap (I : mG) (G : mG) : Prop := I 0 2 = G 0 8 ∧ I 0 3 = G 0 9 ∧ I 0 10 = G 0 3 ∧ ∃ t, t ≤ 120 ∧ G 0 8 = nI t ∧ ∀ i, i < t → ∃ c, c < 256 ∧ G 8 i = nI c ∧ I 10 i = asL (nI 0) (nI c)
def actV (G : mG) (k : Nat) : vV := fun j => G 22 (57 * k + j)
def imgV (G : mG) (k : Nat) : vV := fun j => G 26 (57 * k + j)
/-- what a state that is kept may be -/
def stOk (st : vV) : Prop := gOk st ∧ ∃ h, h ≤ 999 ∧ st 0 = nI h
def wAct (N : Nat) (K : gK) (I : mG) (R : gR) (G : mG) (b : Bool) : Prop := ∃ am, am ≤ 24 ∧ I 0 7 = nI am ∧ G 0 22 = nI am ∧ (0 < am → b = true) ∧ ∀ k, k < am → stOk (actV G k) ∧ ∃ p, R 23 k = some p ∧ psR (List.range N) K I R p (actV G k) ∧ I p 0 = nI 1
def wImg (N : Nat) (K : gK) (I : mG) (R : gR) (G : mG) (b : Bool) : Prop := ∀ k, k < 2 → (R 24 k = none ∧ G 25 k = nI 0) ∨ (b = true ∧ G 25 k = nI 1 ∧ stOk (imgV G k) ∧ ∃ p, R 24 k = some p ∧ psR (List.range N) K I R p (imgV G k) ∧ I p 0 = nI 1)
/-- the component is as the reference says -/
def wcR (N : Nat) (K : gK) (I : mG) (R : gR) (G : mG) (b : Bool) : Prop := wFix N K I R ∧ wPas N K R ∧ (psR (List.range N) K I R 11 (G 6) ∧ I 11 0 = bI b ∧ G 0 4 = bI b ∧ stOk (G 6)) ∧ wAct N K I R G b ∧ wImg N K I R G b ∧ wShe N K I R G ∧ wTra N K I R G ∧ wTap I G
theorem wPas.at {N : Nat} {K : gK} {R : gR} (h : wPas N K R) {i p : Nat} (hi : i < 28) (hp : plc R i = some p) : isPass (List.range N) K R p := (h.1 i p hi hp).1
theorem wPas.ne {N : Nat} {K : gK} {R : gR} (h : wPas N K R) {i j p q : Nat} (hi : i < 28) (hj : j < 28) (hp : plc R i = some p) (hq : plc R j = some q) (hne : i ≠ j) : p + 6 ≤ q ∨ q + 6 ≤ p := by
  by_cases e : p = q
  · subst e; exact absurd (h.2 i j p hi hj hp hq) hne
  · exact (h.at hi hp).apart (h.at hj hq) e
/-- cells are added; cells of a set X of names change: what isn't in X stays -/
def agr (X : Nat → Prop) (N : Nat) (K : gK) (I : mG) (R : gR) (K' : gK) (I' : mG) (R' : gR) : Prop := ∀ n, n < N → K' n = K n ∧ (¬ X n → I' n = I n ∧ R' n = R n)
theorem agr.k {X : Nat → Prop} {N : Nat} {K K' : gK} {I I' : mG} {R R' : gR} (h : agr X N K I R K' I' R') : ∀ n, n < N → K' n = K n := fun n hn => (h n hn).1
theorem wFix.ag {X : Nat → Prop} {N N' : Nat} {K K' : gK} {I I' : mG} {R R' : gR} (h : wFix N K I R) (hN : N ≤ N') (ha : agr X N K I R K' I' R') (h0 : ∀ k, k = 0 ∨ k = 4 ∨ k = 5 ∨ k = 11 ∨ k = 1 ∨ k = 6 ∨ k = 8 → R' 0 k = R 0 k) (h1 : ¬ X 1) (h27 : ∀ n, 27 ≤ n → n < 44 → ¬ X n) : wFix N' K' I' R' := by
  obtain ⟨a1, a2, a3, ⟨a4, a5⟩, ⟨a6, a7, a8, a9⟩, a10, a11⟩ := h
  have k := ha.k
  have e27 : R' 27 = R 27 := ((ha 27 (by omega)).2 (h27 27 (by omega) (by omega))).2
  have e1 : R' 1 = R 1 := ((ha 1 (by omega)).2 h1).2
  refine ⟨by omega, by rw [k 0 (by omega)]; exact a2, by rw [h0 4 (by omega), h0 5 (by omega), h0 11 (by omega)]; exact a3, ⟨by rw [k 27 (by omega)]; exact a4, fun c hc => ?_⟩, ?_, ?_, fun j hj => ?_⟩
  · rw [e27, k (28 + c) (by omega), ((ha (28 + c) (by omega)).2 (h27 _ (by omega) (by omega))).1]; exact a5 c hc
  · rw [k 1 (by omega), k 10 (by omega), k 23 (by omega), k 24 (by omega)]; exact ⟨a6, a7, a8, a9⟩
  · rw [h0 0 (by omega), h0 1 (by omega), h0 6 (by omega), h0 8 (by omega)]; exact a10
  · rw [e1, k (2 + j) (by omega)]; exact a11 j hj
theorem wPas.ag {X : Nat → Prop} {N N' : Nat} {K K' : gK} {I I' : mG} {R R' : gR} (h : wPas N K R) (hN : N ≤ N') (ha : agr X N K I R K' I' R') (h23 : R' 23 = R 23) (h24 : R' 24 = R 24) (hR : ∀ i p, i < 28 → plc R i = some p → R' p = R p) : wPas N' K' R' := by
  refine ⟨fun i p hi hp => ?_, fun i j p hi hj hp hq => ?_⟩
  · rw [plc_eq h23 h24] at hp
    exact ⟨((h.1 i p hi hp).1).ag hN ha.k (hR i p hi hp), (h.1 i p hi hp).2⟩
  · rw [plc_eq h23 h24] at hp hq
    exact h.2 i j p hi hj hp hq
theorem sep.ag {R R' : gR} {a : Nat} (h : sep R a) (h23 : R' 23 = R 23) (h24 : R' 24 = R 24) : sep R' a := fun i p hi hp => h i p hi (by rw [← plc_eq h23 h24]; exact hp)
theorem wShe.ag {X : Nat → Prop} {N N' : Nat} {K K' : gK} {I I' : mG} {R R' : gR} {G : mG} (h : wShe N K I R G) (hN : N ≤ N') (h44 : 44 ≤ N) (ha : agr X N K I R K' I' R') (hsp : ∀ a, a < N → sep R a → sep R' a) (hs : ∀ k, k < 8 → ¬ X (2 + k)) (hX : ∀ k a, k < 8 → R (2 + k) 0 = some a → ¬ X a) : wShe N' K' I' R' G := by
  have e : ∀ k, k < 8 → R' (2 + k) = R (2 + k) := fun k hk => ((ha (2 + k) (by omega)).2 (hs k hk)).2
  refine ⟨fun k hk => ?_, fun j k a hj hk h1 h2 => ?_⟩
  · rcases h.1 k hk with ⟨z1, z2⟩ | ⟨a, n, t, z1, z2, z3, z4, z5, z6, z7, z8, z9, z10⟩
    · exact Or.inl ⟨by rw [e k hk]; exact z1, z2⟩
    · exact Or.inr ⟨a, n, t, by rw [e k hk]; exact z1, z2, by omega, z4, z5, by rw [ha.k a z3]; exact z6, z7, z8, by rw [((ha a z3).2 (hX k a hk z1)).1]; exact z9, hsp a z3 z10⟩
  · rw [e j hj] at h1
    rw [e k hk] at h2
    exact h.2 j k a hj hk h1 h2
theorem wTra.ag {X : Nat → Prop} {N N' : Nat} {K K' : gK} {I I' : mG} {R R' : gR} {G : mG} (h : wTra N K I R G) (hN : N ≤ N') (h44 : 44 ≤ N) (ha : agr X N K I R K' I' R') (h9 : R' 0 9 = R 0 9) (hsp : ∀ a, a < N → sep R a → sep R' a) (hs : ∀ k, k < 8 → ¬ X (2 + k)) (hX : ∀ t b, R 0 9 = some t → R t 0 = some b → (K t).1 = 3 → K b = (20, 16) → sep R b → 25 ≤ t → 25 ≤ b → ¬ X t ∧ ¬ X b) : wTra N' K' I' R' G := by
  obtain ⟨t, b, m, a1, a2, a3, a4, a5, a6, a7, a8, a9, a10, a11, a12, a13, a14⟩ := h
  obtain ⟨xt, xb⟩ := hX t b a1 a5 a4 a8 a13 a3 a7
  have et := (ha t a2).2 xt
  have eb := (ha b a6).2 xb
  refine ⟨t, b, m, by rw [h9]; exact a1, by omega, a3, by rw [ha.k t a2]; exact a4, by rw [et.2]; exact a5, by omega, a7, by rw [ha.k b a6]; exact a8, a9, by rw [et.1]; exact a10, a11, by rw [eb.1]; exact a12, hsp b a6 a13, fun k hk => ?_⟩
  rw [((ha (2 + k) (by omega)).2 (hs k hk)).2]
  exact a14 k hk
theorem wAct.ag {X : Nat → Prop} {N N' : Nat} {K K' : gK} {I I' : mG} {R R' : gR} {G : mG} {b : Bool} (h : wAct N K I R G b) (hp : wPas N K R) (hN : N ≤ N') (ha : agr X N K I R K' I' R') (h7 : I' 0 7 = I 0 7) (h23 : ∀ k p, R 23 k = some p → R' 23 k = some p) (hw : wkS N K I I') (hX : ∀ k p j, k < 24 → R 23 k = some p → j < 6 → ¬ X (p + j)) : wAct N' K' I' R' G b := by
  obtain ⟨am, a1, a2, a3, a4, a5⟩ := h
  refine ⟨am, a1, by rw [h7]; exact a2, a3, a4, fun k hk => ?_⟩
  obtain ⟨s, p, z1, z2, z3⟩ := a5 k hk
  have hl := (hp.at (i := 2 + k) (by omega) (by rw [plc_p (by omega)]; exact z1)).lt
  have e : ∀ j, j < 6 → I' (p + j) = I (p + j) ∧ R' (p + j) = R (p + j) := fun j hj => (ha (p + j) (by omega)).2 (hX k p j (by omega) z1 hj)
  exact ⟨s, p, h23 k p z1, z2.ag hN ha.k e hw, by have e0 := (e 0 (by omega)).1; rw [Nat.add_zero] at e0; rw [e0]; exact z3⟩
theorem wImg.ag {X : Nat → Prop} {N N' : Nat} {K K' : gK} {I I' : mG} {R R' : gR} {G : mG} {b : Bool} (h : wImg N K I R G b) (hp : wPas N K R) (hN : N ≤ N') (ha : agr X N K I R K' I' R') (h24 : R' 24 = R 24) (hw : wkS N K I I') (hX : ∀ k p j, k < 2 → R 24 k = some p → j < 6 → ¬ X (p + j)) : wImg N' K' I' R' G b := by
  intro k hk
  rcases h k hk with ⟨z1, z2⟩ | ⟨zb, z0, s, p, z1, z2, z3⟩
  · exact Or.inl ⟨by rw [h24]; exact z1, z2⟩
  · have hl := (hp.at (i := 26 + k) (by omega) (by rw [plc_i]; exact z1)).lt
    have e : ∀ j, j < 6 → I' (p + j) = I (p + j) ∧ R' (p + j) = R (p + j) := fun j hj => (ha (p + j) (by omega)).2 (hX k p j hk z1 hj)
    exact Or.inr ⟨zb, z0, s, p, by rw [h24]; exact z1, z2.ag hN ha.k e hw, by have e0 := (e 0 (by omega)).1; rw [Nat.add_zero] at e0; rw [e0]; exact z3⟩
/-- what the questions lean on -/
theorem wcR.wb {N : Nat} {K : gK} {I : mG} {R : gR} {G : mG} {b : Bool} (h : wcR N K I R G b) : wB N K I R (G 6) b := by
  obtain ⟨⟨f1, f2, f3, f4, -⟩, hp, ⟨p1, p2, -, p4⟩, -⟩ := h
  exact ⟨f1, f2, f3, f4, p1, hp.at (i := 1) (by decide) rfl, p2, p4.2⟩
/-- a pass u of a place i changes, cells are added: all but the pass stays -/
theorem wcR.step {N N' : Nat} {K K' : gK} {I I' : mG} {R R' : gR} {G G' : mG} {b : Bool} {u : Nat} (h : wcR N K I R G b) (hu : u = 11 ∨ u = 17) (hN : N ≤ N') (hK : ∀ n, n < N → K' n = K n) (ho : ∀ n, n < N → n < u ∨ u + 6 ≤ n → I' n = I n ∧ R' n = R n) (hR : R' u = R u) (h11 : psR (List.range N') K' I' R' 11 (G' 6) ∧ I' 11 0 = bI b ∧ stOk (G' 6)) (hG : ∀ n, n ≠ 6 → n ≠ 0 → n ≠ 19 → n ≠ 24 → G' n = G n) (hG0 : ∀ k, k ≠ 19 → k ≠ 20 → G' 0 k = G 0 k) : wcR N' K' I' R' G' b := by
  obtain ⟨f, hp, ⟨p1, p2, p3, p4⟩, ac, im, sh, tr, ta⟩ := h
  have h44 : 44 ≤ N := f.1
  have ha : agr (fun n => u ≤ n ∧ n < u + 6) N K I R K' I' R' := fun n hn => ⟨hK n hn, fun hx => ho n hn (by rcases Nat.lt_or_ge n u with z | z; exact Or.inl z; exact Or.inr (by rcases Nat.lt_or_ge n (u + 6) with y | y; exact absurd ⟨z, y⟩ hx; exact y))⟩
  have e0 : I' 0 = I 0 ∧ R' 0 = R 0 := ho 0 (by omega) (by omega)
  have e23 : R' 23 = R 23 := (ho 23 (by omega) (by omega)).2
  have e24 : R' 24 = R 24 := (ho 24 (by omega) (by omega)).2
  have hiu : ∃ i, i < 2 ∧ plc R i = some u := by
    rcases hu with e | e
    · subst e; exact ⟨0, by decide, rfl⟩
    · subst e; exact ⟨1, by decide, rfl⟩
  obtain ⟨iu, hi2, hiu⟩ := hiu
  have hpu := hp.at (by omega) hiu
  have hw : wkS N K I I' := fun w k hw hk k1 k5 => (ho w hw (hpu.wk hk k1 k5)).1
  have hpas : ∀ i p, i < 28 → plc R i = some p → R' p = R p := fun i p hi hpp => by
    by_cases e : p = u
    · subst e; exact hR
    · have := (hp.at hi hpp).lt
      have := (hp.at hi hpp).apart hpu e
      exact (ho p (by omega) (by omega)).2
  have hoff : ∀ i p j, 2 ≤ i → i < 28 → plc R i = some p → j < 6 → ¬ (u ≤ p + j ∧ p + j < u + 6) := fun i p j h2 hi hpp hj q => by
    have := hp.ne hi (by omega) hpp hiu (by omega)
    omega
  refine ⟨f.ag hN ha (fun k _ => by rw [e0.2]) (by omega) (fun n h1 h2 => by omega), hp.ag hN ha e23 e24 hpas, ⟨h11.1, h11.2.1, by rw [hG0 4 (by decide) (by decide)]; exact p3, h11.2.2⟩, ?_, ?_, ?_, ?_, ?_⟩
  · have := ac.ag hp hN ha (by rw [e0.1]) (fun k p z => by rw [e23]; exact z) hw (fun k p j hk hpp hj => hoff (2 + k) p j (by omega) (by omega) (by rw [plc_p hk]; exact hpp) hj)
    unfold wAct actV at this ⊢
    rw [hG0 22 (by decide) (by decide), hG 22 (by decide) (by decide) (by decide) (by decide)]
    exact this
  · have := im.ag hp hN ha e24 hw (fun k p j hk hpp hj => hoff (26 + k) p j (by omega) (by omega) (by rw [plc_i]; exact hpp) hj)
    unfold wImg imgV at this ⊢
    rw [hG 25 (by decide) (by decide) (by decide) (by decide), hG 26 (by decide) (by decide) (by decide) (by decide)]
    exact this
  · have := sh.ag hN h44 ha (fun a _ q => q.ag e23 e24) (fun k hk => by omega) (fun k a hk hpp => ?_)
    · unfold wShe shR at this ⊢
      rw [hG 1 (by decide) (by decide) (by decide) (by decide), hG 2 (by decide) (by decide) (by decide) (by decide), hG 3 (by decide) (by decide) (by decide) (by decide)]
      exact this
    · rcases sh.1 k hk with ⟨z1, -⟩ | ⟨a', n, t, z1, z2, z3, z4, z5, z6, z7, z8, z9, z10⟩
      · rw [z1] at hpp; cases hpp
      · rw [z1] at hpp; cases hpp
        have := z10 iu u (by omega) hiu
        omega
  · have := tr.ag hN h44 ha (by rw [e0.2]) (fun a _ q => q.ag e23 e24) (fun k hk => by omega) (fun t bb z1 z2 z3 z4 z5 z6 z7 => ?_)
    · unfold wTra at this ⊢
      rw [hG 27 (by decide) (by decide) (by decide) (by decide), hG0 27 (by decide) (by decide)]
      exact this
    · have := z5 iu u (by omega) hiu
      omega
  · unfold wTap at ta ⊢
    rw [e0.1, (ho 10 (by omega) (by omega)).1, hG 8 (by decide) (by decide) (by decide) (by decide), hG0 8 (by decide) (by decide), hG0 9 (by decide) (by decide), hG0 3 (by decide) (by decide)]
    exact ta
/-- a question leaves all but the pass that is laid aside; of the reference its scratch -/
theorem wcR.ask {N : Nat} {K : gK} {I I' : mG} {R R' : gR} {G G' : mG} {b : Bool} (h : wcR N K I R G b) (ho : pOff 17 I I' R R') (h6 : G' 6 = G 6) (hG : ∀ n, n ≠ 6 → n ≠ 0 → n ≠ 19 → n ≠ 24 → G' n = G n) (hG0 : ∀ k, k ≠ 19 → k ≠ 20 → G' 0 k = G 0 k) : wcR N K I' R' G' b := by
  have hb := h.wb
  refine h.step (u := 17) (Or.inr rfl) (Nat.le_refl _) (fun _ _ => rfl) (fun n _ hn => ho.1 n (by omega)) (ho.2 17 (by decide)) ⟨?_, ?_, ?_⟩ hG hG0
  · rw [h6]; exact (hb.off ho).ps
  · exact (hb.off ho).told
  · rw [h6]; exact h.2.2.1.2.2.2
