/-! ===== the reader's state against the reference's parser ===== -/
theorem psR.rise {dom : List Nat} {K : gK} {I : mG} {R : gR} {u y : Nat} {st : vV} (h : psR dom K I R u st) (hy : y < 4) (v : Int32) : psR dom K (g2 I (u + 2) y v) R u (upd st (5 + y) v) := by
  obtain ⟨p1, p2, p3, p4⟩ := h
  have e : ∀ j, j ≠ 5 + y → upd st (5 + y) v j = st j := fun j hj => by rw [upd_at, if_neg hj]
  refine ⟨p1, ?_, fun y' hy' => ?_, fun c hc => ?_⟩
  · rw [g2_ne _ _ _ (by omega), e _ (by omega)]; exact p2
  · rw [g2_s, g2_ne _ _ _ (by omega), e (1 + y') (by omega)]
    refine ⟨(p3 y' hy').1, ?_⟩
    rw [upd_at, upd_at]
    by_cases z : y' = y
    · rw [if_pos z, if_pos (by omega)]
    · rw [if_neg z, if_neg (by omega)]; exact (p3 y' hy').2
  · obtain ⟨g1, g2', g3, g4⟩ := p4 c hc
    rw [g2_ne _ _ _ (by omega), e (41 + c) (by omega), e (9 + c) (by omega)]
    refine ⟨g1, g2', g3, ?_⟩
    rcases g4 with ⟨z1, z2⟩ | ⟨w, k, z1, z2, z3, z4, z5, z6, z7, z8⟩
    · exact Or.inl ⟨z1, by rw [e _ (by omega)]; exact z2⟩
    · have hw := p1.wk z5 z3 z4
      exact Or.inr ⟨w, k, z1, z2, z3, z4, z5, by rw [e _ (by omega)]; exact z6, by rw [g2_ne _ _ _ (by omega)]; exact z7, by rw [g2_ne _ _ _ (by omega), e _ (by omega)]; exact z8⟩
theorem rise_ok {st : vV} (h : stOk st) {y v : Nat} (hy : y < 4) (hv : v ≤ 31) : stOk (upd st (5 + y) (nI v)) := by
  refine ⟨fun y' hy' => ⟨?_, ?_⟩, ?_⟩
  · rw [upd_at, if_neg (by omega)]; exact (h.1 y' hy').1
  · rw [upd_at]
    by_cases z : 5 + y' = 5 + y
    · rw [if_pos z]; exact ⟨v, by omega, rfl⟩
    · rw [if_neg z]; exact (h.1 y' hy').2
  · rw [upd_at, if_neg (by omega)]; exact h.2
/-- the token at b has been read -/
def rdT (I : mG) (rd : Nat) (T : vV) (n b : Nat) : Prop := b ≤ n ∧ I rd 4 = nI b ∧ I rd 2 = nI (ntT T n b).1 ∧ tkR (I rd 3) (I rd 5) (ntT T n b)
def rdP (N : Nat) (K : gK) (I : mG) (R : gR) (rd wk : Nat) (rv : vV) : Prop := psR (List.range N) K I R (rd + 1) rv ∧ (wkN (R (rd + 4)) 16 = wk ∧ wk ≤ 6) ∧ stOk rv
def rdS (N : Nat) (K : gK) (I : mG) (R : gR) (rd : Nat) (T : vV) (n b wk : Nat) (rv : vV) : Prop := rdB N K I R rd T n ∧ rdT I rd T n b ∧ rdP N K I R rd wk rv
def rOff (rd : Nat) (I I' : mG) (R R' : gR) : Prop := ∀ m, m < rd → I' m = I m ∧ R' m = R m
theorem rOff.rf {rd : Nat} {I : mG} {R : gR} : rOff rd I I R R := fun _ _ => ⟨rfl, rfl⟩
theorem rOff.tr {rd : Nat} {I I' I2 : mG} {R R' R2 : gR} (h : rOff rd I I' R R') (h2 : rOff rd I' I2 R' R2) : rOff rd I I2 R R2 := fun m hm => ⟨((h2 m hm).1).trans (h m hm).1, ((h2 m hm).2).trans (h m hm).2⟩
theorem rOff.rd {rd : Nat} {I : mG} {R : gR} {a t f v : Int32} : rOff rd I (rdI I rd a t f v) R R := fun _ hm => ⟨rdI_ne (by omega), rfl⟩
theorem rOff.g2 {rd : Nat} {I : mG} {R : gR} {q i : Nat} {x : Int32} (h : rd ≤ q) : rOff rd I (g2 I q i x) R R := fun _ hm => ⟨g2_ne _ _ _ (by omega), rfl⟩
theorem rdT.nx {I : mG} {rd : Nat} {T : vV} {n b : Nat} {t v : Int32} (hb : b ≤ n) (h : tkR t v (ntT T n b)) : rdT (rdI I rd (nI (ntT T n b).1) t (nI b) v) rd T n b := by
  refine ⟨hb, rdI_4 _ _ _ _ _ _, rdI_2 _ _ _ _ _ _, ?_⟩
  rw [rdI_3, rdI_5]
  exact h
theorem rdP.rdI {N : Nat} {K : gK} {I : mG} {R : gR} {rd wk : Nat} {rv : vV} (h : rdP N K I R rd wk rv) (hk : (K rd).1 = 10) (a t f v : Int32) : rdP N K (rdI I rd a t f v) R rd wk rv := by
  refine ⟨h.1.ag (Nat.le_refl _) (fun _ _ => rfl) (fun j hj => ⟨rdI_ne (by omega), rfl⟩) ?_, h.2⟩
  intro w k hw e1 e2 e3
  refine rdI_ne ?_
  rintro rfl
  rw [hk] at e1
  omega
theorem rdS.nx {N : Nat} {K : gK} {I : mG} {R : gR} {rd : Nat} {T : vV} {n b wk : Nat} {rv : vV} (h : rdS N K I R rd T n b wk rv) {t v : Int32} {b' : Nat} (hb : b' ≤ n) (ht : tkR t v (ntT T n b')) : rdS N K (rdI I rd (nI (ntT T n b').1) t (nI b') v) R rd T n b' wk rv :=
  ⟨h.1.rdI _ _ _ _, rdT.nx hb ht, h.2.2.rdI h.1.1.2.2.1 _ _ _ _⟩
/-- which row, and where the reference keeps it -/
def rwR (rd at_ q : Nat) : Prop := (at_ = 1 ∧ q = rd + 2) ∨ (at_ = 5 ∧ q = rd + 3)
theorem rdS.row {N : Nat} {K : gK} {I : mG} {R : gR} {rd : Nat} {T : vV} {n b wk : Nat} {rv : vV} (h : rdS N K I R rd T n b wk rv) {at_ q y v : Nat} (hq : rwR rd at_ q) (hy : y < 4) (hv : v ≤ 31) : rdS N K (g2 I q y (nI v)) R rd T n b wk (upd rv (at_ + y) (nI v)) := by
  obtain ⟨⟨h1, ⟨h2, h3, h4⟩, h5, h6⟩, ⟨t1, t2, t3, t4⟩, p1, p2, p3⟩ := h
  have hne : rd ≠ q := by rcases hq with ⟨-, e⟩ | ⟨-, e⟩ <;> omega
  have hne2 : 10 ≠ q := by rcases hq with ⟨-, e⟩ | ⟨-, e⟩ <;> omega
  refine ⟨⟨h1, ⟨h2, h3, by rw [g2_ne _ _ _ hne]; exact h4⟩, h5, fun i hi => by rw [g2_ne _ _ _ hne2]; exact h6 i hi⟩, ⟨t1, by rw [g2_ne _ _ _ hne]; exact t2, by rw [g2_ne _ _ _ hne]; exact t3, by rw [g2_ne _ _ _ hne]; exact t4⟩, ?_, p2, ?_⟩
  · rcases hq with ⟨rfl, rfl⟩ | ⟨rfl, rfl⟩
    · exact p1.gust hy _
    · exact p1.rise hy _
  · rcases hq with ⟨rfl, rfl⟩ | ⟨rfl, rfl⟩
    · exact gust_ok p3 hy hv
    · exact rise_ok p3 hy hv
/-- a fault left the reader -/
def rTh (rd : Nat) (w : Int32) (b : Nat) (I : mG) (R : gR) (x : Addr) (S : gS) : Prop := isFl w (nI b) x S ∧ rOff rd I S.2.2.2.1 R S.2.2.2.2
theorem rTh.of {N rd b : Nat} {ad : Nat → Nat} {K : gK} {I I1 : mG} {R R1 : gR} {w : Int32} {x : Addr} (ho : rOff rd I I1 R R1) (hrd : rd < N) (hb : I1 rd 4 = nI b) : rTh rd w b I R x (N + 1, va_up ad N x, va_up K N (11, 0), va_up I1 N (fun i => if i = 0 then w else I1 rd 4), va_up R1 N (fun _ => none)) := by
  refine ⟨⟨N, Nat.lt_succ_self N, va_up_self _ _ _, ?_, ?_, ?_⟩, fun m hm => ?_⟩
  · show (va_up K N (11, 0) N).1 = 11
    rw [va_up_self]
  · show va_up I1 N _ N 0 = w
    rw [va_up_self]
    rfl
  · show va_up I1 N _ N 1 = nI b
    rw [va_up_self]
    exact hb
  · show va_up I1 N _ m = I m ∧ va_up R1 N _ m = R m
    rw [va_up_ne _ _ (by omega), va_up_ne _ _ (by omega)]
    exact ho m hm
theorem rTh.tr {rd : Nat} {w : Int32} {b : Nat} {I I1 : mG} {R R1 : gR} {x : Addr} {S : gS} (ho : rOff rd I I1 R R1) (h : rTh rd w b I1 R1 x S) : rTh rd w b I R x S := ⟨h.1, ho.tr h.2⟩
/-- a figure between lo and hi: why not -/
def fgE (T : vV) (n b : Nat) (lo hi w : Int32) : Prop := (¬ (ntT T n b).2.1 = nI 2 ∧ w = nI 1) ∨ ((ntT T n b).2.1 = nI 2 ∧ inB (ntT T n b).2.2 lo hi = false ∧ w = nI 2)
theorem fg_not {T : vV} {n b : Nat} {lo hi : Int32} (h : ¬ ((ntT T n b).2.1 = nI 2 ∧ inB (ntT T n b).2.2 lo hi = true)) : ∃ w, fgE T n b lo hi w := by
  by_cases h1 : (ntT T n b).2.1 = nI 2
  · refine ⟨nI 2, Or.inr ⟨h1, ?_, rfl⟩⟩
    cases h2 : inB (ntT T n b).2.2 lo hi with
    | false => rfl
    | true => exact absurd ⟨h1, h2⟩ h
  · exact ⟨nI 1, Or.inl ⟨h1, rfl⟩⟩
theorem pNum_fg {T : vV} {n b wk a : Nat} {lo hi sg w : Int32} {rd : vV} (h : fgE T n b lo hi w) : pNum T n lo hi a sg b wk rd = .error (w, b) := by
  unfold pNum
  rcases h with ⟨h1, rfl⟩ | ⟨h1, h2, rfl⟩
  · rw [if_neg h1]
  · rw [if_pos h1, if_neg (by rw [h2]; decide)]
theorem pNum_in {T : vV} {n b wk a : Nat} {lo hi sg : Int32} {rd : vV} (h1 : (ntT T n b).2.1 = nI 2) (h2 : inB (ntT T n b).2.2 lo hi = true) : pNum T n lo hi a sg b wk rd = pTake T n sg (ntT T n b).1 wk (upd rd a (ntT T n b).2.2) := by
  unfold pNum
  rw [if_pos h1, if_pos h2]
theorem pTake_t {T : vV} {n b wk : Nat} {c : Int32} {rd : vV} (h : isL T n b c = true) : pTake T n c b wk rd = .ok ((ntT T n b).1, wk, rd) := if_pos h
theorem pTake_f {T : vV} {n b wk : Nat} {c : Int32} {rd : vV} (h : isL T n b c = false) : pTake T n c b wk rd = .error (nI 1, b) := if_neg (by rw [h]; decide)
theorem ok_no {e : Int32 × Nat} {s : Nat × Nat × vV} (h : (Except.error e : PE) = .ok s) : False := by cases h
theorem no_ok {e : Int32 × Nat} {s : Nat × Nat × vV} (h : (Except.ok s : PE) = .error e) : False := by cases h
theorem pF4_end {T : vV} {n a y b wk b1 wk1 : Nat} {rv rv1 : vV} (h : pF4 T n a (4 - y) y b wk rv = .ok (b1, wk1, rv1)) (hy : 4 ≤ y) : b1 = b ∧ wk1 = wk ∧ rv1 = rv := by
  rw [pF4_4 hy] at h
  injection h with h
  injection h with h1 h
  injection h with h2 h3
  exact ⟨h1.symm, h2.symm, h3.symm⟩
def sgY (y : Nat) : Nat := if y = 3 then 59 else 44
theorem sgY_e (y : Nat) : (if y = 3 then nI 59 else nI 44) = nI (sgY y) := by
  unfold sgY
  split <;> rfl
theorem sgY_c (y : Nat) : sgY y = 44 ∨ sgY y = 59 := by
  unfold sgY
  split
  · exact Or.inr rfl
  · exact Or.inl rfl
/-- one figure of a row: what can be -/
theorem pF4_step {T : vV} {n a y b wk : Nat} {rv : vV} (hy : y < 4) :
    (∃ w, fgE T n b 0 (nI 31) w ∧ pF4 T n a (4 - y) y b wk rv = .error (w, b)) ∨
    ((ntT T n b).2.1 = nI 2 ∧ (∃ j, j ≤ 31 ∧ (ntT T n b).2.2 = nI j) ∧ inB (ntT T n b).2.2 0 (nI 31) = true ∧
      ((isL T n (ntT T n b).1 (nI (sgY y)) = false ∧ pF4 T n a (4 - y) y b wk rv = .error (nI 1, (ntT T n b).1)) ∨
       (isL T n (ntT T n b).1 (nI (sgY y)) = true ∧ pF4 T n a (4 - y) y b wk rv = pF4 T n a (4 - (y + 1)) (y + 1) (ntT T n (ntT T n b).1).1 wk (upd rv (a + y) (ntT T n b).2.2)))) := by
  by_cases h : (ntT T n b).2.1 = nI 2 ∧ inB (ntT T n b).2.2 0 (nI 31) = true
  · refine Or.inr ⟨h.1, inB_nat (by decide) h.2, h.2, ?_⟩
    have e := pNum_in (wk := wk) (a := a + y) (sg := nI (sgY y)) (rd := rv) h.1 h.2
    cases hL : isL T n (ntT T n b).1 (nI (sgY y)) with
    | false =>
      rw [pTake_f hL] at e
      exact Or.inl ⟨rfl, pF4_er hy (sgY_e y) e⟩
    | true =>
      rw [pTake_t hL] at e
      exact Or.inr ⟨rfl, pF4_ok hy (sgY_e y) e⟩
  · obtain ⟨w, hw⟩ := fg_not h
    exact Or.inl ⟨w, hw, pF4_er hy (sgY_e y) (pNum_fg hw)⟩
theorem rdS.rk {N : Nat} {K : gK} {I : mG} {R : gR} {rd : Nat} {T : vV} {n b wk : Nat} {rv : vV} (h : rdS N K I R rd T n b wk rv) {at_ q : Nat} (hq : rwR rd at_ q) : q < N ∧ K q = (20, 4) := by
  have hb := h.1.1.2.1
  have hp := h.2.2.1.1.2.1
  rcases hq with ⟨-, rfl⟩ | ⟨-, rfl⟩
  · exact ⟨by omega, hp.2.1⟩
  · exact ⟨by omega, hp.2.2.1⟩
theorem er_inj {a b : Int32 × Nat} (h : (Except.error a : PE) = .error b) : a = b := by
  injection h
