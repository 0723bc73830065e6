/-! ===== Reader.<init>; what pass() needs in plain ===== -/
theorem in_Xf : ∀ w ∈ u_ws RX8 TXf 2, w ∈ lw_all := by
  intro w hw
  have h : u_ws RX8 TXf 2 = [Cond.laysFinal RX8 RX8 "kind" "I", Cond.laysFinal RX8 RX8 "place" "I"] := rfl
  rw [h] at hw
  rcases List.mem_cons.mp hw with rfl | hw
  · exact q534
  · rw [List.mem_singleton.mp hw]; exact q536
theorem tyXf_ok : ∀ k, k < 2 → parseFieldDescriptor (TXf k).2.2.1 = some FieldType.int := by decide +kernel
theorem cnt_wkN {f : Nat → Option Nat} {st : vV} : ∀ m, (∀ c, c < m → isWk st c = (f c).isSome) → wkN f m = cntW st m
  | 0, _ => rfl
  | m + 1, h => by
    show wkN f m + (if (f m).isSome = true then 1 else 0) = cntW st m + (if isWk st m = true then 1 else 0)
    rw [cnt_wkN m (fun c hc => h c (by omega)), h m (by omega)]
theorem psR.many {dom : List Nat} {K : gK} {I : mG} {R : gR} {u : Nat} {st : vV} (h : psR dom K I R u st) : wkN (R (u + 3)) 16 = cntW st 16 := cnt_wkN 16 (fun _ hc => h.wk hc)
theorem wcR.up {N : Nat} {K : gK} {I : mG} {R : gR} {G : mG} {b : Bool} (h : wcR N K I R G b) : wcR N K (g2 I 11 0 (nI 1)) R (g2 G 0 4 (nI 1)) true := by
  obtain ⟨f, hP, ⟨p1, p2, p3, p4⟩, ac, im, sh, tr, ta⟩ := h
  have h44 : 44 ≤ N := f.1
  have hg : ∀ n, n ≠ 11 → g2 I 11 0 (nI 1) n = I n := fun n hn => g2_ne _ _ _ hn
  have hgG : ∀ n, n ≠ 0 → g2 G 0 4 (nI 1) n = G n := fun n hn => g2_ne _ _ _ hn
  have hzG : ∀ k, k ≠ 4 → g2 G 0 4 (nI 1) 0 k = G 0 k := fun k hk => by rw [g2_s, upd_at, if_neg hk]
  have ha : agr (fun n => n = 11) N K I R K (g2 I 11 0 (nI 1)) R := fun n hn => ⟨rfl, fun hx => ⟨hg n hx, rfl⟩⟩
  have hw : wkS N K I (g2 I 11 0 (nI 1)) := fun w k hw hk k1 k5 => hg w (fun e => by have := p1.1.wk hk k1 k5; omega)
  refine ⟨f.ag (Nat.le_refl _) ha (fun k _ => rfl) (by omega) (fun n h1 h2 => by omega), hP, ⟨?_, g2_at _ _ _ _, ?_, ?_⟩, ?_, ?_, ?_, ?_, ?_⟩
  · rw [hgG 6 (by decide)]; exact p1.told _
  · rw [g2_s, upd_at, if_pos rfl]; rfl
  · rw [hgG 6 (by decide)]; exact p4
  · have := ac.ag hP (Nat.le_refl _) ha (by rw [hg 0 (by decide)]) (fun k p z => z) hw (fun k p j hk hpp hj => by have := (hP.1 (2 + k) p (by omega) (by rw [plc_p hk]; exact hpp)).2 (by omega); omega)
    obtain ⟨am, a1, a2, a3, a4, a5⟩ := this
    unfold wAct actV at *
    rw [hzG 22 (by decide), hgG 22 (by decide)]
    exact ⟨am, a1, a2, a3, fun _ => rfl, a5⟩
  · have := im.ag hP (Nat.le_refl _) ha rfl hw (fun k p j hk hpp hj => by have := (hP.1 (26 + k) p (by omega) (by rw [plc_i]; exact hpp)).2 (by omega); omega)
    unfold wImg imgV at this ⊢
    rw [hgG 25 (by decide), hgG 26 (by decide)]
    intro k hk
    rcases this k hk with z | ⟨-, z⟩
    · exact Or.inl z
    · exact Or.inr ⟨rfl, z⟩
  · have := sh.ag (Nat.le_refl _) h44 ha (fun _ _ q => q) (fun k hk => by omega) (fun k a hk hq => ?_)
    · unfold wShe shR at this ⊢
      rw [hgG 1 (by decide), hgG 2 (by decide), hgG 3 (by decide)]
      exact this
    · rcases sh.1 k hk with ⟨z1, -⟩ | ⟨a', n, t, z1, z2, -⟩
      · rw [z1] at hq; cases hq
      · rw [z1] at hq; cases hq
        omega
  · have := tr.ag (Nat.le_refl _) h44 ha rfl (fun _ _ q => q) (fun k hk => by omega) (fun t bb z1 z2 z3 z4 z5 z6 z7 => ⟨by omega, by omega⟩)
    unfold wTra at this ⊢
    rw [hgG 27 (by decide), hzG 27 (by decide)]
    exact this
  · unfold wTap at ta ⊢
    rw [hg 0 (by decide), hg 10 (by decide), hgG 8 (by decide), hzG 8 (by decide), hzG 9 (by decide), hzG 3 (by decide)]
    exact ta
theorem g2_cm0 (G : mG) (a : Nat) {i j : Nat} (h : i ≠ j) (x y : Int32) : g2 (g2 G a i x) a j y = g2 (g2 G a j y) a i x := by
  funext n m
  rw [g2_ap, g2_ap, g2_ap, g2_ap]
  by_cases h1 : n = a ∧ m = j
  · rw [if_pos h1, if_neg (fun z => h (z.2.symm.trans h1.2)), if_pos h1]
  · rw [if_neg h1]
    by_cases h2 : n = a ∧ m = i
    · rw [if_pos h2, if_pos h2]
    · rw [if_neg h2, if_neg h2, if_neg h1]
theorem up_g2 (G : mG) {a u : Nat} (h : a ≠ u) (i : Nat) (x : Int32) (f : vV) : va_up (g2 G a i x) u f = g2 (va_up G u f) a i x := by
  funext n m
  by_cases e : n = u
  · subst e; rw [va_up_self, g2_ne _ _ _ (Ne.symm h), va_up_self]
  · rw [va_up_ne _ _ e, g2_ap, g2_ap, va_up_ne _ _ e]
/-- a pass is told -/
theorem wcR.tell {N : Nat} {K : gK} {I I' : mG} {R R' : gR} {G : mG} {b : Bool} {rv : vV} (h : wcR N K I R G b) (ho : pOff 11 I I' R R') (hps : psR (List.range N) K I' R' 11 rv) (ht : I' 11 0 = nI 1) (hs : stOk rv) : wcR N K (g2 I' 0 7 (nI 0)) R' (g2 (g2 (va_up G 6 rv) 0 4 (nI 1)) 0 22 (nI 0)) true := by
  have h1 := h.up
  have h2 : wcR N K I' R' (va_up (g2 G 0 4 (nI 1)) 6 rv) true := by
    refine h1.step (u := 11) (Or.inl rfl) (Nat.le_refl _) (fun _ _ => rfl) (fun n _ hn => ?_) (ho.2 11 (by decide)) ⟨by rw [va_up_self]; exact hps, ht, by rw [va_up_self]; exact hs⟩ (fun n h6 _ _ _ => va_up_ne _ _ h6) (fun k _ _ => by rw [va_up_ne _ _ (by decide)])
    rw [g2_ne _ _ _ (by omega)]
    exact ho.1 n hn
  obtain ⟨am, a1, a2, a3, -⟩ := h2.2.2.2.1
  have h3 := h2.acts a3 a1 (Nat.zero_le am)
  rw [up_g2 _ (by decide)] at h3
  exact h3
theorem pass_er {N : Nat} {K : gK} {I : mG} {R : gR} {G : mG} {b : Bool} {w : Int32} (h : wcR N K I R G b) : wcR N K (g2 (g2 I 0 3 w) 0 2 (nI 0)) R (g2 (g2 G 0 8 (nI 0)) 0 9 w) b := by
  have h1 := (h.scal (k := 3) (k' := 9) (x := w) (Or.inr (Or.inl ⟨rfl, rfl⟩))).scal (k := 2) (k' := 8) (x := nI 0) (Or.inr (Or.inr ⟨rfl, rfl, rfl⟩))
  rw [g2_cm0 G 0 (by decide)] at h1
  exact h1
set_option maxHeartbeats 800000 in
theorem tX7_init (l : Launch) (N : Nat) (ad : Nat → Nat) (K : gK) (I : mG) (R : gR) (rd tp n : Nat) (h0 : N = rd + 1) (h1 : (K rd).1 = 10) (h2 : I rd = fun _ => nI 0) (h3 : R rd = fun _ => none) (h4 : tp < rd) : gM l yX7_init (ws_ yX7_init cX7_init 3 none) ({ frames := 2, cells := 6, slots := 53, locals := 60 } : Room) [.ref (ad rd), .ref (ad tp), .int (nI n)] N ad K I R (fun v S => v = none ∧ S.1 = N + 6 ∧ psR (List.range (N + 6)) S.2.2.1 S.2.2.2.1 S.2.2.2.2 (rd + 1) zst ∧ (∀ k, S.2.2.2.1 rd k = if k = 1 then nI n else nI 0) ∧ S.2.2.2.2 rd 0 = some tp ∧ S.2.2.2.2 rd 6 = some (rd + 1) ∧ rOff rd I S.2.2.2.1 R S.2.2.2.2) := by
  subst h0
  refine gM.of (by decide) (Nat.le_of_ble_eq_true rfl) ?_
  intro D dA p e s m args below meth cd ls hC hlk hr hin hK hX hl hw
  have hl : lv_has ls 3 [(0, .ref (ad rd)), (1, .ref (ad tp)), (2, .int (nI n))] := hl
  refine lv_aload_n hC.1 hC.2.1 dX7_init_0 rfl (lv_at hl 0 rfl) ?_
  refine W.objInit hC.1 hC.2.1 hC.2.2.2.1 (hC.2.2.2.2 _ q456) (hC.2.2.2.2 _ q97) (hC.2.2.2.2 _ q98) rfl (hl.1.trans hC.2.2.1.symm) rfl dX7_init_1 (Nat.le_of_ble_eq_true rfl) (Nat.le_of_ble_eq_true rfl) ?_
  refine lv_aload_n hC.1 hC.2.1 dX7_init_4 rfl (lv_at hl 0 rfl) ?_
  refine M_new hC hK hw 2 (by decide) rfl in_X2 tyX2 tyX2_ok q457 q115 q62 (df_of (by decide +kernel)) (by simp only [gN]; omega) (by simp only [gN]; omega) dX7_init_5 (fun ad5 H h5 hw => ?_)
  have g5 : gGo (rd + 1) ad K (rd + 1 + 1, ad5, va_up K (rd + 1) (2, 0), va_up I (rd + 1) (fun _ => nI 0), va_up R (rd + 1) (fun _ => none)) := gGo_new (I1 := I) (R1 := R) gGo.rf h5
  have e1 : ad rd = ad5 rd := (h5 rd (by omega)).symm
  have e2 : ad tp = ad5 tp := (h5 tp (by omega)).symm
  rw [e1, e2] at hl
  rw [e1]
  refine lv_dup hC.1 hC.2.1 dX7_init_8 rfl ?_
  refine M_IN (n := 0) hC hl.1 hK hX hw (tX2_init l (rd + 1 + 1) ad5 _ _ _ (rd + 1) rfl (by rw [va_up_self]) (va_up_self _ _ _) (va_up_self _ _ _)) q458 q117 q62 q118 rfl (by decide +kernel) ⟨by decide, by decide⟩ rfl rfl (Nat.le_of_ble_eq_true rfl) dX7_init_9 ⟨by simp only [gN]; omega, by simp only [gN]; omega⟩ ?_
  rintro _ N2 ad2 K2 I2 R2 H locs ⟨rfl, eN, ps, -, of⟩ hg hw
  dsimp only at eN ps of
  subst eN
  have e3 : ad5 rd = ad2 rd := (hg.2 rd (by omega)).1.symm
  have e4 : ad5 tp = ad2 tp := (hg.2 tp (by omega)).1.symm
  have e5 : ad5 (rd + 1) = ad2 (rd + 1) := (hg.2 (rd + 1) (by omega)).1.symm
  rw [e3, e4] at hl
  rw [e3, e5]
  have gg := gGo.tr g5 hg
  have kr : (K2 rd).1 = 10 := by
    have z : K2 rd = K rd := (gg.2 rd (by omega)).2
    rw [z]; exact h1
  refine g_putrF (ci := 10) (C := RX7) (T := TX7) (ref := RX7) (y := some (rd + 1)) hC hK hw (List.mem_range.mpr (by omega)) kr (by decide) rfl in_X7 tyX7 tyX7_ok nmX7 6 (by decide) rfl q465 (fun x h => h) rfl hin rfl (fun j h => by cases h; exact List.mem_range.mpr (by omega)) rfl rfl rfl rfl dX7_init_12 (fun H locs hw => ?_)
  refine lv_aload_n hC.1 hC.2.1 dX7_init_15 rfl (lv_at hl 0 rfl) ?_
  refine lv_aload_n hC.1 hC.2.1 dX7_init_16 rfl (lv_at hl 1 rfl) ?_
  refine g_putrF (ci := 10) (C := RX7) (T := TX7) (ref := RX7) (y := some tp) hC hK hw (List.mem_range.mpr (by omega)) kr (by decide) rfl in_X7 tyX7 tyX7_ok nmX7 0 (by decide) rfl q459 (fun x h => h) rfl hin rfl (fun j h => by cases h; exact List.mem_range.mpr (by omega)) rfl rfl rfl rfl dX7_init_17 (fun H locs hw => ?_)
  refine lv_aload_n hC.1 hC.2.1 dX7_init_20 rfl (lv_at hl 0 rfl) ?_
  refine lv_iload_n hC.1 hC.2.1 dX7_init_21 rfl (lv_at hl 2 rfl) ?_
  refine g_putiF (ci := 10) (C := RX7) (T := TX7) (ref := RX7) hC hK hw (List.mem_range.mpr (by omega)) kr (by decide) rfl in_X7 tyX7 tyX7_ok nmX7 1 (by decide) rfl q460 (fun x h => h) rfl hin rfl rfl rfl rfl dX7_init_22 (fun H locs hw => ?_)
  have oR : ∀ m, m ≠ rd → r2 (r2 R2 rd 6 (some (rd + 1))) rd 0 (some tp) m = R2 m := fun m hm => (va_up_ne _ _ hm).trans (va_up_ne _ _ hm)
  refine M_vret hC hlk hw gg.to ⟨by simp only [gN]; omega, by simp only [gN]; omega⟩ hr ⟨rfl, rfl, ?_, ?_, ?_, ?_, ?_⟩ dX7_init_25
  · refine ps.ag (Nat.le_refl _) (fun _ _ => rfl) (fun j hj => ⟨g2_ne _ _ _ (by omega), oR _ (by omega)⟩) ?_
    intro w k hw' hk k1 k5
    refine g2_ne _ _ _ ?_
    rintro rfl
    rw [kr] at hk
    omega
  · intro k
    show g2 I2 rd 1 (nI n) rd k = _
    rw [g2_ap, (of rd (by omega)).1, va_up_ne _ _ (by omega), h2]
    by_cases e : k = 1
    · rw [if_pos ⟨rfl, e⟩, if_pos e]
    · rw [if_neg (fun z => e z.2), if_neg e]
  · show r2 (r2 R2 rd 6 (some (rd + 1))) rd 0 (some tp) rd 0 = _
    rw [r2_ap, if_pos ⟨rfl, rfl⟩]
  · show r2 (r2 R2 rd 6 (some (rd + 1))) rd 0 (some tp) rd 6 = _
    rw [r2_ap, if_neg (fun z => absurd z.2 (by decide)), r2_ap, if_pos ⟨rfl, rfl⟩]
  · intro m hm
    show g2 I2 rd 1 (nI n) m = I m ∧ r2 (r2 R2 rd 6 (some (rd + 1))) rd 0 (some tp) m = R m
    rw [g2_ne _ _ _ (by omega), oR m (by omega), (of m (by omega)).1, (of m (by omega)).2, va_up_ne _ _ (by omega), va_up_ne _ _ (by omega)]
    exact ⟨rfl, rfl⟩
