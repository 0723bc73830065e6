/-! ===== acts, plainly ===== -/
theorem noteG_o (G : mG) {n : Nat} (h0 : n ≠ 0) (h22 : n ≠ 22) : noteG G n = G n := by
  unfold noteG
  split
  · rw [note2_o _ _ h0 h22, note1_o _ h0 h22]
  · rw [note2_o _ _ h0 h22]
theorem psR.turn {dom : List Nat} {K : gK} {I : mG} {R : gR} {u a : Nat} {st : vV} (h : psR dom K I R u st) (ha : a < 16) (hk : ¬ st (9 + a) = nI 0) : psR dom K (g2 I u 5 (I u 5 ^^^ (nI 1 <<< (nI a &&& 31)))) R u (upd st (41 + a) (nI 1 - st (41 + a))) := by
  obtain ⟨p1, p2, p3, p4⟩ := h
  have e : ∀ j, j ≠ 41 + a → upd st (41 + a) (nI 1 - st (41 + a)) j = st j := fun j hj => by rw [upd_at, if_neg hj]
  refine ⟨p1, ?_, fun y hy => ?_, fun c hc => ?_⟩
  · rw [g2_s, upd_at, if_neg (by decide), e _ (by omega)]; exact p2
  · rw [g2_ne _ _ _ (by omega), g2_ne _ _ _ (by omega), e _ (by omega), e _ (by omega)]; exact p3 y hy
  · obtain ⟨g1, g2', g3, g4⟩ := p4 c hc
    have hw4 : wkC dom K (g2 I u 5 (I u 5 ^^^ (nI 1 <<< (nI a &&& 31)))) (R (u + 3) c) (upd st (41 + a) (nI 1 - st (41 + a))) c := by
      rcases g4 with ⟨z1, z2⟩ | ⟨w, k, z1, z2, z3, z4, z5, z6, z7, z8⟩
      · exact Or.inl ⟨z1, by rw [e _ (by omega)]; exact z2⟩
      · have hw := p1.wk z5 z3 z4
        exact Or.inr ⟨w, k, z1, z2, z3, z4, z5, by rw [e _ (by omega)]; exact z6, by rw [g2_ne _ _ _ (by omega)]; exact z7, by rw [g2_ne _ _ _ (by omega), e _ (by omega)]; exact z8⟩
    rw [g2_s, upd_at, if_pos rfl, has_xor (by omega) (by omega), g1, e (9 + c) (by omega)]
    by_cases hca : c = a
    · subst hca
      rw [upd_at, if_pos rfl]
      refine ⟨?_, ?_, fun q => absurd q hk, hw4⟩
      · rw [decide_eq_true (show c = c from rfl)]
        rcases g2' with z | z
        · rw [z]; decide
        · rw [z]; decide
      · rcases g2' with z | z
        · right; rw [z]; decide
        · left; rw [z]; decide
    · rw [e (41 + c) (by omega)]
      exact ⟨by simp [hca], g2', g3, hw4⟩
theorem psR.gust {dom : List Nat} {K : gK} {I : mG} {R : gR} {u y : Nat} {st : vV} (h : psR dom K I R u st) (hy : y < 4) (v : Int32) : psR dom K (g2 I (u + 1) y v) R u (upd st (1 + y) v) := by
  obtain ⟨p1, p2, p3, p4⟩ := h
  have e : ∀ j, j ≠ 1 + y → upd st (1 + y) v j = st j := fun j hj => by rw [upd_at, if_neg hj]
  refine ⟨p1, ?_, fun y' hy' => ?_, fun c hc => ?_⟩
  · rw [g2_ne _ _ _ (by omega), e _ (by omega)]; exact p2
  · rw [g2_s, g2_ne _ _ _ (by omega), e (5 + y') (by omega)]
    refine ⟨?_, (p3 y' hy').2⟩
    rw [upd_at, upd_at]
    by_cases z : y' = y
    · rw [if_pos z, if_pos (by omega)]
    · rw [if_neg z, if_neg (by omega)]; exact (p3 y' hy').1
  · obtain ⟨g1, g2', g3, g4⟩ := p4 c hc
    rw [g2_ne _ _ _ (by omega), e (41 + c) (by omega), e (9 + c) (by omega)]
    refine ⟨g1, g2', g3, ?_⟩
    rcases g4 with ⟨z1, z2⟩ | ⟨w, k, z1, z2, z3, z4, z5, z6, z7, z8⟩
    · exact Or.inl ⟨z1, by rw [e _ (by omega)]; exact z2⟩
    · have hw := p1.wk z5 z3 z4
      exact Or.inr ⟨w, k, z1, z2, z3, z4, z5, by rw [e _ (by omega)]; exact z6, by rw [g2_ne _ _ _ (by omega)]; exact z7, by rw [g2_ne _ _ _ (by omega), e _ (by omega)]; exact z8⟩
theorem pOff_g2 (u j i : Nat) (I : mG) (R : gR) (x : Int32) (hj : j < 6) : pOff u I (g2 I (u + j) i x) R R := ⟨fun n hn => ⟨g2_ne _ _ _ (by omega), rfl⟩, fun _ _ => rfl⟩
theorem gust_ok {st : vV} (h : stOk st) {y v : Nat} (hy : y < 4) (hv : v ≤ 31) : stOk (upd st (1 + y) (nI v)) := by
  refine ⟨fun y' hy' => ⟨?_, ?_⟩, ?_⟩
  · rw [upd_at]
    by_cases z : 1 + y' = 1 + y
    · rw [if_pos z]; exact ⟨v, by omega, rfl⟩
    · rw [if_neg z]; exact (h.1 y' hy').1
  · rw [upd_at, if_neg (by omega)]; exact (h.1 y' hy').2
  · rw [upd_at, if_neg (by omega)]; exact h.2
theorem high_ok {st : vV} (h : stOk st) {j : Nat} (hj : 9 ≤ j) (v : Int32) : stOk (upd st j v) := by
  refine ⟨fun y hy => ?_, ?_⟩
  · rw [upd_at, if_neg (by omega), upd_at, if_neg (by omega)]; exact h.1 y hy
  · rw [upd_at, if_neg (by omega)]; exact h.2
theorem rsF_5 (X : vV) : ∀ n, n ≤ 4 → ∀ j, 5 ≤ j → rsF X n j = X j := fun n hn j hj => rsF_o X n j (by omega)
theorem rsF_g (X : vV) : ∀ n, n ≤ 4 → ∀ y, y < 4 → rsF X n (1 + y) = if y < n then irem (X (1 + y) + X (5 + y)) (nI 32) else X (1 + y)
  | 0, _, y, _ => by rw [if_neg (by omega)]; rfl
  | n + 1, hn, y, hy => by
    have ih := rsF_g X n (by omega) y hy
    show upd (rsF X n) (1 + n) (irem (rsF X n (1 + n) + rsF X n (5 + n)) (nI 32)) (1 + y) = _
    rw [upd_at]
    by_cases z : y = n
    · subst z
      rw [if_pos rfl, if_pos (by omega), ih, if_neg (by omega), rsF_5 X y (by omega) _ (by omega)]
    · rw [if_neg (by omega), ih]
      by_cases z2 : y < n
      · rw [if_pos z2, if_pos (by omega)]
      · rw [if_neg z2, if_neg (by omega)]
theorem hour_ok {st : vV} (h : stOk st) {hh : Nat} (e : st 0 = nI hh) (hl : hh + 1 ≤ 999) : stOk (hourS st) := by
  have ch := (hbF_char st (bl st).1 16 (Nat.le_refl _)).2
  have hX : ∀ j, j ≠ 0 → j < 9 → hS0 st j = st j := fun j hj h9 => by
    show upd _ 0 _ j = _
    rw [upd_at, if_neg hj]
    exact ch j h9
  refine ⟨fun y hy => ?_, ?_⟩
  · obtain ⟨⟨g, hg, eg⟩, r, hr, er⟩ := h.1 y hy
    rw [hourS_eq, rsF_g _ 4 (Nat.le_refl _) y hy, if_pos hy, rsF_5 _ 4 (Nat.le_refl _) _ (by omega), hX _ (by omega) (by omega), hX _ (by omega) (by omega), eg, er, nI_add]
    refine ⟨⟨(g + r) % 32, Nat.mod_lt _ (by decide), pk_rem (by omega) (by decide) (by decide)⟩, r, hr, rfl⟩
  · refine ⟨hh + 1, hl, ?_⟩
    rw [hourS_eq, rsF_o _ _ _ (Or.inl rfl)]
    show upd _ 0 _ 0 = _
    rw [upd_at, if_pos rfl, ch 0 (by decide), e, nI_add]
/-- a letter is fed -/
theorem wcR.feed {N : Nat} {K : gK} {I : mG} {R : gR} {G : mG} {b : Bool} {t c : Nat} (h : wcR N K I R G b) (ht : t < 120) (hc : c < 256) (h8 : G 0 8 = nI t) {x : Int32} (hx : x = asL (nI 0) (nI c)) : wcR N K (g2 (g2 I 0 2 (nI (t + 1))) 10 t x) R (g2 (g2 G 8 t (nI c)) 0 8 (nI (t + 1))) b := by
  obtain ⟨f, hP, ⟨p1, p2, p3, p4⟩, ac, im, sh, tr, ta⟩ := h
  have h44 : 44 ≤ N := f.1
  have hg : ∀ n, n ≠ 0 → n ≠ 10 → g2 (g2 I 0 2 (nI (t + 1))) 10 t x n = I n := fun n h0 h10 => by rw [g2_ne _ _ _ h10, g2_ne _ _ _ h0]
  have hgG : ∀ n, n ≠ 0 → n ≠ 8 → g2 (g2 G 8 t (nI c)) 0 8 (nI (t + 1)) n = G n := fun n h0 h8 => by rw [g2_ne _ _ _ h0, g2_ne _ _ _ h8]
  have hz : ∀ j, j ≠ 2 → g2 (g2 I 0 2 (nI (t + 1))) 10 t x 0 j = I 0 j := fun j hj => by rw [g2_ne _ _ _ (by decide), g2_s, upd_at, if_neg hj]
  have hzG : ∀ j, j ≠ 8 → g2 (g2 G 8 t (nI c)) 0 8 (nI (t + 1)) 0 j = G 0 j := fun j hj => by rw [g2_s, upd_at, if_neg hj, g2_ne _ _ _ (by decide)]
  have ha : agr (fun n => n = 0 ∨ n = 10) N K I R K (g2 (g2 I 0 2 (nI (t + 1))) 10 t x) R := fun n hn => ⟨rfl, fun hx => ⟨hg n (fun e => hx (Or.inl e)) (fun e => hx (Or.inr e)), rfl⟩⟩
  have hw : wkS N K I (g2 (g2 I 0 2 (nI (t + 1))) 10 t x) := fun w k hw hk k1 k5 => hg w (fun e => by subst e; rw [f.2.1] at hk; omega) (fun e => by subst e; rw [f.2.2.2.2.1.2.1] at hk; simp only at hk; omega)
  refine ⟨f.ag (Nat.le_refl _) ha (fun k _ => rfl) (by omega) (fun n h1 h2 => by omega), hP, ⟨?_, ?_, ?_, ?_⟩, ?_, ?_, ?_, ?_, ?_⟩
  · rw [hgG 6 (by decide) (by decide)]; exact p1.ag (Nat.le_refl _) (fun _ _ => rfl) (fun j hj => ⟨hg _ (by omega) (by omega), rfl⟩) hw
  · rw [hg 11 (by decide) (by decide)]; exact p2
  · rw [hzG 4 (by omega)]; exact p3
  · rw [hgG 6 (by decide) (by decide)]; exact p4
  · have := ac.ag hP (Nat.le_refl _) ha (hz 7 (by omega)) (fun _ _ z => z) hw (fun k q j hk hq hj => by have := pass_ne hP (i := 2 + k) (by omega) (by rw [plc_p hk]; exact hq); omega)
    unfold wAct actV at this ⊢
    rw [hgG 22 (by decide) (by decide), hzG 22 (by omega)]
    exact this
  · have := im.ag hP (Nat.le_refl _) ha rfl hw (fun k q j hk hq hj => by have := pass_ne hP (i := 26 + k) (by omega) (by rw [plc_i]; exact hq); omega)
    unfold wImg imgV at this ⊢
    rw [hgG 25 (by decide) (by decide), hgG 26 (by decide) (by decide)]
    exact this
  · have := sh.ag (Nat.le_refl _) h44 ha (fun _ _ q => q) (fun k hk => by omega) (fun k a hk hq => ?_)
    · unfold wShe shR at this ⊢
      rw [hgG 1 (by decide) (by decide), hgG 2 (by decide) (by decide), hgG 3 (by decide) (by decide)]
      exact this
    · rcases sh.1 k hk with ⟨z1, -⟩ | ⟨a', n, t, z1, z2, -⟩
      · rw [z1] at hq; cases hq
      · rw [z1] at hq; cases hq
        omega
  · have := tr.ag (Nat.le_refl _) h44 ha rfl (fun _ _ q => q) (fun k hk => by omega) (fun t bb z1 z2 z3 z4 z5 z6 z7 => ⟨by omega, by omega⟩)
    unfold wTra at this ⊢
    rw [hgG 27 (by decide) (by decide), hzG 27 (by omega)]
    exact this
  · obtain ⟨t1, t2, t3, t', t4, t5, t6⟩ := ta
    have et : t' = t := (nI_eq (by omega) (by omega)).mp (t5.symm.trans h8)
    subst et
    refine ⟨?_, by rw [hz 3 (by decide), hzG 9 (by decide)]; exact t2, by rw [hz 10 (by decide), hzG 3 (by decide)]; exact t3, t' + 1, by omega, by rw [g2_s, upd_at, if_pos rfl], fun i hi => ?_⟩
    · rw [g2_ne _ _ _ (by decide), g2_s, upd_at, if_pos rfl, g2_s, upd_at, if_pos rfl]
    · have e1 : g2 (g2 G 8 t' (nI c)) 0 8 (nI (t' + 1)) 8 i = if i = t' then nI c else G 8 i := by rw [g2_ne _ _ _ (by decide), g2_s]; rfl
      have e2 : g2 (g2 I 0 2 (nI (t' + 1))) 10 t' x 10 i = if i = t' then x else I 10 i := by rw [g2_s, g2_ne _ _ _ (by decide)]; rfl
      rw [e1, e2]
      by_cases z : i = t'
      · rw [if_pos z, if_pos z]; exact ⟨c, hc, rfl, hx⟩
      · rw [if_neg z, if_neg z]; exact t6 i (by omega)
/-! ===== bytes and shorts ===== -/
theorem asl_8 (x : Int32) : x.toInt8.toInt32 = asL (nI 0) x := by
  unfold asL
  rw [if_pos nI_0]
  apply Int32.toBitVec_inj.mp
  show (x.toBitVec.signExtend 8).signExtend 32 = ((x.toBitVec <<< ((nI 24 &&& 31).toBitVec.smod 32).toNat).sshiftRight ((nI 24 &&& 31).toBitVec.smod 32).toNat)
  rw [b_s32 24 (by decide)]
  apply BitVec.eq_of_getLsbD_eq
  intro i hi
  rw [BitVec.getLsbD_signExtend, BitVec.getLsbD_sshiftRight]
  by_cases h : i < 8
  · have h2 : 24 + i < 32 := by omega
    have h3 : ¬ 32 ≤ i := by omega
    rw [BitVec.getLsbD_signExtend, BitVec.getLsbD_shiftLeft]
    simp [hi, h, h2, h3]
  · have h2 : ¬ 24 + i < 32 := by omega
    have h3 : ¬ 32 ≤ i := by omega
    simp only [hi, h, h2, h3, decide_true, decide_false, if_false, Bool.true_and, Bool.not_false, ↓reduceIte]
    simp [BitVec.msb_eq_getLsbD_last, BitVec.getLsbD_signExtend, BitVec.getLsbD_shiftLeft, BitVec.getElem_signExtend]
theorem asl_16 (x : Int32) : x.toInt16.toInt32 = asL (nI 1) x := by
  unfold asL
  rw [if_neg (by decide), if_pos rfl]
  apply Int32.toBitVec_inj.mp
  show (x.toBitVec.signExtend 16).signExtend 32 = ((x.toBitVec <<< ((nI 16 &&& 31).toBitVec.smod 32).toNat).sshiftRight ((nI 16 &&& 31).toBitVec.smod 32).toNat)
  rw [b_s32 16 (by decide)]
  apply BitVec.eq_of_getLsbD_eq
  intro i hi
  rw [BitVec.getLsbD_signExtend, BitVec.getLsbD_sshiftRight]
  by_cases h : i < 16
  · have h2 : 16 + i < 32 := by omega
    have h3 : ¬ 32 ≤ i := by omega
    rw [BitVec.getLsbD_signExtend, BitVec.getLsbD_shiftLeft]
    simp [hi, h, h2, h3]
  · have h2 : ¬ 16 + i < 32 := by omega
    have h3 : ¬ 32 ≤ i := by omega
    simp only [hi, h, h2, h3, decide_true, decide_false, if_false, Bool.true_and, Bool.not_false, ↓reduceIte]
    simp [BitVec.msb_eq_getLsbD_last, BitVec.getLsbD_signExtend, BitVec.getLsbD_shiftLeft, BitVec.getElem_signExtend]
