/-! ===== WindCarver: image, hours (by gen/w59.py) ===== -/
set_option maxHeartbeats 800000 in
theorem tX0_image (l : Launch) (N : Nat) (ad : Nat → Nat) (K : gK) (I : mG) (R : gR) (k_ : Int32) (G : mG) (b : Bool) (h0 : wcR N K I R G b) : gM l yX0_image (ws_ yX0_image cX0_image 2 (some FieldType.int)) ({ frames := 2, cells := 6, slots := 53, locals := 81 } : Room) [.ref (ad 0), .int k_] N ad K I R (fun v S => v = some (.int (mX6_image G k_).1) ∧ wcR S.1 S.2.2.1 S.2.2.2.1 S.2.2.2.2 (mX6_image G k_).2 b) := by
  refine gM.of (by decide) (Nat.le_of_ble_eq_true rfl) ?_
  intro D dA p e s m args below meth cd ls hC hlk hr hin hK hX hl hw
  have hl : lv_has ls 2 [(0, .ref (ad 0)), (1, .int k_)] := hl
  have hge := h0.ge
  refine lv_iload_n hC.1 hC.2.1 dX0_image_0 rfl (lv_at hl 1 rfl) ?_
  refine lv_i2l hC.1 hC.2.1 dX0_image_1 rfl ?_
  refine lv_lconst (v := 0) hC.1 hC.2.1 dX0_image_2 (by decide) ?_
  refine lv_lconst (v := 1) hC.1 hC.2.1 dX0_image_3 (by decide) ?_
  refine pS_call (n := 3) hC hl.1 (tX0_isInI l k_ 0 (nI 1)) (lw_S q333 q334 q60 q335) rfl rfl (by decide +kernel) ⟨by decide, by decide⟩ rfl rfl (Nat.le_of_ble_eq_true rfl) dX0_image_4 ⟨Nat.zero_le _, Nat.zero_le _⟩ ?_
  refine k_bne (tgt := 13) hC dX0_image_7 (by decide) (fun c7 => ?_) (fun c7 => ?_)
  · obtain ⟨k, hk, rfl⟩ := inB_nat (n := 1) (by decide) c7
    refine lv_aload_n hC.1 hC.2.1 dX0_image_13 rfl (lv_at hl 0 rfl) ?_
    refine x_ga hC hK hw (by omega) h0.k0 4 11 h0.r4 (by decide) rfl q206 rfl dX0_image_14 ?_
    refine p_gi hC hK hw h0.ps.1 0 (by decide) rfl q124 rfl (v := (bI b)) (h0.told) dX0_image_17 ?_
    refine k_bne (tgt := 26) hC dX0_image_20 (by decide) (fun c20 => ?_) (fun c20 => ?_)
    · subst c20
      rcases hx : R 24 k with _ | q
      · refine lv_aload_n hC.1 hC.2.1 dX0_image_26 rfl (lv_at hl 0 rfl) ?_
        refine x_ga hC hK hw (by omega) h0.k0 8 24 h0.r8 (by decide) rfl q210 rfl dX0_image_27 ?_
        refine lv_iload_n hC.1 hC.2.1 dX0_image_30 rfl (lv_at hl 1 rfl) ?_
        refine g_ldr (t := 1) (v := .null) hC hK hw (List.mem_range.mpr (by omega)) h0.k24 rfl (by omega) (by omega) (by rw [hx]; rfl) dX0_image_31 ?_
        refine lv_ifnonnullN hC.1 hC.2.1 dX0_image_32 ?_
        refine lv_aload_n hC.1 hC.2.1 dX0_image_35 rfl (lv_at hl 0 rfl) ?_
        refine x_ga hC hK hw (by omega) h0.k0 8 24 h0.r8 (by decide) rfl q210 rfl dX0_image_36 ?_
        refine lv_iload_n hC.1 hC.2.1 dX0_image_39 rfl (lv_at hl 1 rfl) ?_
        refine M_new hC hK hw 2 (by decide) rfl in_X2 tyX2 tyX2_ok q114 q115 q62 (df_of (by decide +kernel)) (by simp only [gN]; omega) (by simp only [gN]; omega) dX0_image_40 (fun ad40_1 H h40_1 hw => ?_)
        have e40_1 : ad 0 = ad40_1 0 := (h40_1 0 (by omega)).symm
        rw [e40_1] at hl
        have e40_1 : ad 24 = ad40_1 24 := (h40_1 24 (by omega)).symm
        rw [e40_1]
        have g40_1 : gGo N ad K (N + 1, ad40_1, va_up K N (2, 0), va_up I N (fun _ => nI 0), va_up R N (fun _ => none)) := gGo_new (I1 := I) (R1 := R) gGo.rf h40_1
        refine lv_dup hC.1 hC.2.1 dX0_image_43 rfl ?_
        refine M_IN (n := 0) hC hl.1 hK hX hw (tX2_init l (N + 1) ad40_1 (va_up K N (2, 0)) (va_up I N (fun _ => nI 0)) (va_up R N (fun _ => none)) N (rfl) (by rw [va_up_self]) (va_up_self _ _ _) (va_up_self _ _ _)) q116 q117 q62 q118 rfl (by decide +kernel) ⟨by decide, by decide⟩ rfl rfl (Nat.le_of_ble_eq_true rfl) dX0_image_44 ⟨by simp only [gN]; omega, by simp only [gN]; omega⟩ ?_
        rintro _ N2 ad2 K2 I2 R2 H locs ⟨rfl, eN, bP, tP, oP⟩ hg2 hw
        dsimp only at eN bP tP oP
        subst eN
        have e_ad2 : ad40_1 0 = ad2 0 := (hg2.2 0 (by omega)).1.symm
        rw [e_ad2] at hl
        have e_ad2 : ad40_1 N = ad2 N := (hg2.2 N (by omega)).1.symm
        rw [e_ad2]
        have e_ad2 : ad40_1 24 = ad2 24 := (hg2.2 24 (by omega)).1.symm
        rw [e_ad2]
        have g86 : gGo N ad K (N + 1 + 5, ad2, K2, I2, R2) := gGo.tr g40_1 hg2
        have kA : ∀ n, n < N → K2 n = K n := fun n hn => ((hg2.2 n (by omega)).2).trans (va_up_ne _ _ (by omega))
        have iA : ∀ n, n < N → I2 n = I n ∧ R2 n = R n := fun n hn => ⟨by rw [(oP n hn).1]; exact va_up_ne _ _ (by omega), by rw [(oP n hn).2]; exact va_up_ne _ _ (by omega)⟩
        refine g_str (t := 1) hC hK hw (List.mem_range.mpr (by omega)) (by rw [kA 24 (by omega)]; exact h0.k24) rfl (by omega) (by omega) (List.mem_range.mpr (by omega)) (g_anyP hK hw RX2 (ci := 2) rfl (by decide) (List.mem_range.mpr (by omega)) bP.1.2.1.1) dX0_image_47 (fun H locs hw => ?_)
        have hx2 : r2 R2 24 k (some N) 24 k = some N := by unfold r2; rw [va_up_self, va_up_self]
        have rA : ∀ n, n < N → n ≠ 24 → r2 R2 24 k (some N) n = R n := fun n hn hne => by rw [r2_ne _ _ _ _ hne]; exact (iA n hn).2
        have hpN := bP.1.r2 (v := 24) (i := k) (x := some N) (by omega)
        have pA := h0.ps.ag (N' := N + 1 + 5) (K' := K2) (I' := I2) (R' := r2 R2 24 k (some N)) (by omega) kA (fun j hj => ⟨(iA _ (by omega)).1, rA _ (by omega) (by omega)⟩) (fun w _ hw _ _ _ => (iA w hw).1)
        refine lv_aload_n hC.1 hC.2.1 dX0_image_48 rfl (lv_at hl 0 rfl) ?_
        refine x_ga hC hK hw (by omega) (by rw [kA 0 (by omega)]; exact h0.k0) 8 24 (by rw [rA 0 (by omega) (by decide)]; exact h0.r8) (by decide) rfl q210 rfl dX0_image_49 ?_
        refine lv_iload_n hC.1 hC.2.1 dX0_image_52 rfl (lv_at hl 1 rfl) ?_
        refine g_ldr (t := 1) (v := .ref (ad2 N)) hC hK hw (List.mem_range.mpr (by omega)) (by rw [kA 24 (by omega)]; exact h0.k24) rfl (by omega) (by omega) (by rw [hx2]; rfl) dX0_image_53 ?_
        refine lv_aload_n hC.1 hC.2.1 dX0_image_54 rfl (lv_at hl 0 rfl) ?_
        refine x_ga hC hK hw (by omega) (by rw [kA 0 (by omega)]; exact h0.k0) 4 11 (by rw [rA 0 (by omega) (by decide)]; exact h0.r4) (by decide) rfl q206 rfl dX0_image_55 ?_
        refine g_callv (n := 1) (C := RX2) (T := TX2) hC hl.1 hK hX hw (hpN).1.1 (hpN).2.1.1 (by decide) rfl (tX2_become l (List.range (N + 1 + 5)) ad2 K2 I2 (r2 R2 24 k (some N)) N 11 (G 6) true (hpN) (pA) (by omega) (by rw [(iA 11 (by omega)).1]; exact h0.told)) (lw_V q689 q690 q691 q62 q692) rfl rfl (by decide +kernel) ⟨by decide, by decide⟩ rfl rfl (Nat.le_of_ble_eq_true rfl) dX0_image_58 ⟨by simp only [gN]; omega, by simp only [gN]; omega⟩ ?_
        rintro I5 R5 H locs ⟨b5, o5, t5⟩ hw
        dsimp only at b5 o5 t5
        have h2 := h0.img (k := k) (p := N) (N' := N + 1 + 5) (K' := K2) (I' := I5) (R' := R5) (by omega) (Or.inr ⟨hx, rfl, rfl⟩) kA (fun n hn ho hne => ⟨by rw [(o5.1 n (by omega)).1]; exact (iA n hn).1, by rw [(o5.1 n (by omega)).2]; exact rA n hn hne⟩) (fun j => by rw [(o5.1 24 (by omega)).2]; unfold r2; rw [va_up_self, (iA 24 (by omega)).2]; rfl) (fun z => absurd z (by omega)) b5 (by rw [t5, (iA 11 (by omega)).1]; exact h0.told)
        refine lv_iconst (v := (nI 1)) hC.1 hC.2.1 dX0_image_61 (by decide) ?_
        exact M_iret hC hlk hw g86.to ⟨by simp only [gN]; omega, by simp only [gN]; omega⟩ hr rfl (by have eq : mX6_image G (nI k) = ((nI 1), g2 (va_up G 26 (fun j => if 57 * k ≤ j ∧ j < 57 * k + 57 then G 6 (j - 57 * k) else G 26 j)) 25 k (nI 1)) := (by simp [mX6_image, h0.g4, bI_t0, bI_f0, inc01, inc11, inc03, inc13, inc23, inc10, inc20, inc21, c7, ix_nI (show k < 2147483648 by omega)]); rw [eq]; exact ⟨rfl, h2⟩) dX0_image_62
      · have hql := (h0.2.1.at (i := 26 + k) (by omega) (by rw [plc_i]; exact hx))
        have hq44 := (h0.2.1.1 (26 + k) q (by omega) (by rw [plc_i]; exact hx)).2 (by omega)
        refine lv_aload_n hC.1 hC.2.1 dX0_image_26 rfl (lv_at hl 0 rfl) ?_
        refine x_ga hC hK hw (by omega) h0.k0 8 24 h0.r8 (by decide) rfl q210 rfl dX0_image_27 ?_
        refine lv_iload_n hC.1 hC.2.1 dX0_image_30 rfl (lv_at hl 1 rfl) ?_
        refine g_ldr (t := 1) (v := .ref (ad q)) hC hK hw (List.mem_range.mpr (by omega)) h0.k24 rfl (by omega) (by omega) (by rw [hx]; rfl) dX0_image_31 ?_
        refine lv_ifnonnull (tgt := 48) hC.1 hC.2.1 dX0_image_32 (by decide) ?_
        refine lv_aload_n hC.1 hC.2.1 dX0_image_48 rfl (lv_at hl 0 rfl) ?_
        refine x_ga hC hK hw (by omega) h0.k0 8 24 h0.r8 (by decide) rfl q210 rfl dX0_image_49 ?_
        refine lv_iload_n hC.1 hC.2.1 dX0_image_52 rfl (lv_at hl 1 rfl) ?_
        refine g_ldr (t := 1) (v := .ref (ad q)) hC hK hw (List.mem_range.mpr (by omega)) h0.k24 rfl (by omega) (by omega) (by rw [hx]; rfl) dX0_image_53 ?_
        refine lv_aload_n hC.1 hC.2.1 dX0_image_54 rfl (lv_at hl 0 rfl) ?_
        refine x_ga hC hK hw (by omega) h0.k0 4 11 h0.r4 (by decide) rfl q206 rfl dX0_image_55 ?_
        refine g_callv (n := 1) (C := RX2) (T := TX2) hC hl.1 hK hX hw (hql).1.1 (hql).2.1.1 (by decide) rfl (tX2_become l (List.range N) ad K I R q 11 (G 6) true (hql) (h0.ps) (by omega) (h0.told)) (lw_V q689 q690 q691 q62 q692) rfl rfl (by decide +kernel) ⟨by decide, by decide⟩ rfl rfl (Nat.le_of_ble_eq_true rfl) dX0_image_58 ⟨Nat.zero_le _, Nat.zero_le _⟩ ?_
        rintro I5 R5 H locs ⟨b5, o5, t5⟩ hw
        dsimp only at b5 o5 t5
        have h2 := h0.img (k := k) (p := q) (N' := N) (K' := K) (I' := I5) (R' := R5) (by omega) (Or.inl ⟨hx, rfl⟩) (fun _ _ => rfl) (fun n hn ho hne => o5.1 n ho) (fun j => by rw [(o5.1 24 (by omega)).2]; split; (rename_i e; rw [e]; exact hx); rfl) (fun _ => o5.2 q (by omega)) b5 (by rw [t5]; exact h0.told)
        refine lv_iconst (v := (nI 1)) hC.1 hC.2.1 dX0_image_61 (by decide) ?_
        exact M_iret hC hlk hw gGo.rf ⟨by simp only [gN]; omega, by simp only [gN]; omega⟩ hr rfl (by have eq : mX6_image G (nI k) = ((nI 1), g2 (va_up G 26 (fun j => if 57 * k ≤ j ∧ j < 57 * k + 57 then G 6 (j - 57 * k) else G 26 j)) 25 k (nI 1)) := (by simp [mX6_image, h0.g4, bI_t0, bI_f0, inc01, inc11, inc03, inc13, inc23, inc10, inc20, inc21, c7, ix_nI (show k < 2147483648 by omega)]); rw [eq]; exact ⟨rfl, h2⟩) dX0_image_62
    · refine lv_ldc hC.1 hC.2.1 hC.2.2.2.1 (hC.2.2.2.2 _ q703) dX0_image_23 ?_
      exact M_iret hC hlk hw gGo.rf ⟨by simp only [gN]; omega, by simp only [gN]; omega⟩ hr rfl (by have eq : mX6_image G (nI k) = ((-1000002 : Int32), G) := (by simp [mX6_image, h0.g4, bI_t0, bI_f0, inc01, inc11, inc03, inc13, inc23, inc10, inc20, inc21, c7, c20, ix_nI (show k < 2147483648 by omega)]); rw [eq]; exact ⟨rfl, h0⟩) dX0_image_25
  · refine lv_ldc hC.1 hC.2.1 hC.2.2.2.1 (hC.2.2.2.2 _ q337) dX0_image_10 ?_
    exact M_iret hC hlk hw gGo.rf ⟨by simp only [gN]; omega, by simp only [gN]; omega⟩ hr rfl (by have eq : mX6_image G k_ = ((-1000001 : Int32), G) := (by simp [mX6_image, h0.g4, bI_t0, bI_f0, inc01, inc11, inc03, inc13, inc23, inc10, inc20, inc21, c7]); rw [eq]; exact ⟨rfl, h0⟩) dX0_image_12

theorem hrs_6 (G : mG) : ∀ n, hrsG G n 6 = stN (G 6) n
  | 0 => rfl
  | n + 1 => by
    show hourG (noteG (hrsG G n)) 6 = hourS (stN (G 6) n)
    rw [← hrs_6 G n]
    show va_up _ 6 (hourS (noteG (hrsG G n) 6)) 6 = _
    rw [va_up_self, noteG_o _ (by decide) (by decide)]
theorem hourG_o (G : mG) {n : Nat} (h6 : n ≠ 6) (h0 : n ≠ 0) (h19 : n ≠ 19) : hourG G n = G n := by
  unfold hourG
  rw [va_up_ne _ _ h6, va_up_ne _ _ h19, va_up_ne _ _ h0]
theorem hourG_0 (G : mG) {k : Nat} (h19 : k ≠ 19) (h20 : k ≠ 20) : hourG G 0 k = G 0 k := by
  unfold hourG
  rw [va_up_ne _ _ (by decide), va_up_ne _ _ (by decide), va_up_self, upd_at, if_neg h20, upd_at, if_neg h19]
theorem hourG_6 (G : mG) : hourG G 6 = hourS (G 6) := by
  unfold hourG
  rw [va_up_self]
theorem wcR.hour {N : Nat} {K : gK} {I I' : mG} {R R' : gR} {G : mG} {b : Bool} {hh : Nat} (h : wcR N K I R G b) (eh : G 6 0 = nI hh) (hl : hh + 1 ≤ 999) (hp : psR (List.range N) K I' R' 11 (hourS (G 6))) (ho : pOff 11 I I' R R') (ht : I' 11 0 = I 11 0) : wcR N K I' R' (hourG G) b :=
  h.step (u := 11) (Or.inl rfl) (Nat.le_refl _) (fun _ _ => rfl) (fun n _ hn => ho.1 n (by omega)) (ho.2 11 (by decide)) ⟨by rw [hourG_6]; exact hp, by rw [ht]; exact h.told, by rw [hourG_6]; exact hour_ok h.st eh hl⟩ (fun n h6 h0 h19 h24 => hourG_o G h6 h0 h19) (fun k h19 h20 => hourG_0 G h19 h20)

set_option maxHeartbeats 800000 in
theorem tX0_hours (l : Launch) (N : Nat) (ad : Nat → Nat) (K : gK) (I : mG) (R : gR) (n_ : Int32) (G : mG) (b : Bool) (h0 : wcR N K I R G b) : gM l yX0_hours (ws_ yX0_hours cX0_hours 3 (some FieldType.int)) ({ frames := 5, cells := 120, slots := 1060, locals := 113 } : Room) [.ref (ad 0), .int n_] N ad K I R (fun v S => v = some (.int (mX6_hours G n_).1) ∧ wcR S.1 S.2.2.1 S.2.2.2.1 S.2.2.2.2 (mX6_hours G n_).2 b) := by
  refine gM.of (by decide) (Nat.le_of_ble_eq_true rfl) ?_
  intro D dA p e s m args below meth cd ls hC hlk hr hin hK hX hl hw
  have hl : lv_has ls 3 [(0, .ref (ad 0)), (1, .int n_)] := hl
  have hge := h0.ge
  obtain ⟨hh, hh9, eh⟩ := h0.st.2
  refine lv_aload_n hC.1 hC.2.1 dX0_hours_0 rfl (lv_at hl 0 rfl) ?_
  refine x_ga hC hK hw (by omega) h0.k0 4 11 h0.r4 (by decide) rfl q206 rfl dX0_hours_1 ?_
  refine p_gi hC hK hw h0.ps.1 0 (by decide) rfl q124 rfl (v := (bI b)) (h0.told) dX0_hours_4 ?_
  refine k_bne (tgt := 13) hC dX0_hours_7 (by decide) (fun c7 => ?_) (fun c7 => ?_)
  · subst c7
    refine lv_iload_n hC.1 hC.2.1 dX0_hours_13 rfl (lv_at hl 1 rfl) ?_
    refine lv_i2l hC.1 hC.2.1 dX0_hours_14 rfl ?_
    refine lv_lconst (v := 1) hC.1 hC.2.1 dX0_hours_15 (by decide) ?_
    refine lv_ldc2 hC.1 hC.2.1 hC.2.2.2.1 (hC.2.2.2.2 _ q762) dX0_hours_16 ?_
    refine pS_call (n := 3) hC hl.1 (tX0_isInI l n_ (nI 1) (nI 20)) (lw_S q333 q334 q60 q335) rfl rfl (by decide +kernel) ⟨by decide, by decide⟩ rfl rfl (Nat.le_of_ble_eq_true rfl) dX0_hours_19 ⟨Nat.zero_le _, Nat.zero_le _⟩ ?_
    refine k_bne (tgt := 28) hC dX0_hours_22 (by decide) (fun c22 => ?_) (fun c22 => ?_)
    · obtain ⟨n, hn0, hn, rfl⟩ := inB_nat1 (a := 1) (n := 20) (by decide) (by decide) c22
      refine lv_aload_n hC.1 hC.2.1 dX0_hours_28 rfl (lv_at hl 0 rfl) ?_
      refine x_ga hC hK hw (by omega) h0.k0 4 11 h0.r4 (by decide) rfl q206 rfl dX0_hours_29 ?_
      refine p_gi hC hK hw h0.ps.1 1 (by decide) rfl q126 rfl (v := (nI hh)) (by rw [h0.ps.2.1]; exact eh) dX0_hours_32 ?_
      refine lv_iload_n hC.1 hC.2.1 dX0_hours_35 rfl (lv_at hl 1 rfl) ?_
      refine k_add hC dX0_hours_36 ?_
      refine lv_sipush (v := (nI 999)) hC.1 hC.2.1 dX0_hours_37 (by decide) ?_
      refine k_le (tgt := 46) hC (by omega) (by omega) dX0_hours_40 (by decide) (fun c40 => ?_) (fun c40 => ?_)
      · have hcm : nI (hh + n) ≤ nI 999 := nI_le c40 (by decide)
        refine lv_iconst (v := (nI 0)) hC.1 hC.2.1 dX0_hours_46 (by decide) ?_
        refine lv_istore_n (lv' := [(2, .int (nI 0)), (0, .ref (ad 0)), (1, .int (nI n))]) hC.1 hC.2.1 dX0_hours_47 rfl hl (by decide) rfl (fun ls hl => ?_)
        refine W.loopC (fun ls i H locs => ∃ Nx adx Kx Ix Rx, lv_has ls 3 [(0, .ref (adx 0)), (1, .int (nI n)), (2, .int (nI i))] ∧ gw D dA (nA (List.range N) ad s.heap.size) s.heap (List.range Nx) adx Kx Ix Rx H locs ∧ (gGo N ad K (Nx, adx, Kx, Ix, Rx)) ∧ (wcR Nx Kx Ix Rx (hrsG G i) true) ∧ (i ≤ n)) 48 (fun _ => []) (fun i => n - i) (fun i => 6 * i) (fun i => 53 * i) ?_ 0 ⟨_, _, _, _, _, hl.sub' [1, 2, 0] (by rfl), hw, gGo.rf, h0, Nat.zero_le _⟩
        rintro ls i H locs ⟨Nx, adx, Kx, Ix, Rx, hl, hw, gx, hx, hi⟩ ih48
        have gex := hx.ge
        have e0x : hrsG G i 6 0 = nI (hh + i) := by rw [hrs_6]; exact stN_hr eh i
        refine lv_iload_n hC.1 hC.2.1 dX0_hours_48 rfl (lv_at hl 2 rfl) ?_
        refine lv_iload_n hC.1 hC.2.1 dX0_hours_49 rfl (lv_at hl 1 rfl) ?_
        refine k_ge (tgt := 71) hC (by omega) (by omega) dX0_hours_50 (by decide) (fun c50 => ?_) (fun c50 => ?_)
        · have eN : n = i := by omega
          subst eN
          refine lv_aload_n hC.1 hC.2.1 dX0_hours_71 rfl (lv_at hl 0 rfl) ?_
          refine x_ga hC hK hw (by omega) hx.k0 4 11 hx.r4 (by decide) rfl q206 rfl dX0_hours_72 ?_
          refine g_calli (n := 0) (C := RX2) (T := TX2) hC hl.1 hK hX hw (hx.ps.1).1.1 (hx.ps.1).2.1.1 (by decide) rfl (tX2_many l (List.range Nx) adx Kx Ix Rx 11 (hx.ps.1)) (lw_V q694 q640 q641 q62 q642) rfl rfl (by decide +kernel) ⟨by decide, by decide⟩ rfl rfl (Nat.le_of_ble_eq_true rfl) dX0_hours_75 ⟨by simp only [gN]; omega, by simp only [gN]; omega⟩ ?_
          rintro r_2 I2 R2 H locs ⟨hr2, hS2⟩ hw
          rw [hr2]
          replace hw := hw.eq (Prod.mk.inj hS2).1 (Prod.mk.inj hS2).2
          clear hS2
          rw [wk_cnt hx.ps 16 (Nat.le_refl _)]
          exact M_iret hC hlk hw gx ⟨by simp only [gN]; omega, by simp only [gN]; omega⟩ hr rfl (by have eq : mX6_hours G (nI n) = ((nI (cntW (hrsG G n 6) 16)), hrsG G n) := (by simp [mX6_hours, h0.g4, bI_t0, bI_f0, inc01, inc11, inc03, inc13, inc23, inc10, inc20, inc21, c22, c40, c50, ix_nI (show n < 2147483648 by omega), eh, nI_add, hcm]); rw [eq]; exact ⟨rfl, hx⟩) dX0_hours_78
        · refine lv_aload_n hC.1 hC.2.1 dX0_hours_53 rfl (lv_at hl 0 rfl) ?_
          refine M_V (n := 0) (C := RX0) (T := TX0) hC hl.1 hK hX hw (by omega) hx.k0 (by decide) rfl (tX0_keep l Nx adx Kx Ix Rx (hrsG G i) (hx)) (lw_V q714 q716 qs15 q60 q717) (by decide +kernel) ⟨by decide, by decide⟩ rfl rfl (Nat.le_of_ble_eq_true rfl) dX0_hours_54 ⟨by simp only [gN]; omega, by simp only [gN]; omega⟩ ?_
          rintro _ Nk adk Kk Ik Rk H locs ⟨rfl, hk⟩ hgk hw
          dsimp only at hk
          have gek := hk.ge
          have e_adk : adx 0 = adk 0 := (hgk.2 0 (by omega)).1.symm
          rw [e_adk] at hl
          have gk2 := gGo.tr gx hgk
          have e6 : noteG (hrsG G i) 6 0 = nI (hh + i) := by rw [noteG_o _ (by decide) (by decide)]; exact e0x
          refine lv_aload_n hC.1 hC.2.1 dX0_hours_57 rfl (lv_at hl 0 rfl) ?_
          refine x_ga hC hK hw (by omega) hk.k0 4 11 hk.r4 (by decide) rfl q206 rfl dX0_hours_58 ?_
          refine g_calli (n := 0) (C := RX2) (T := TX2) hC hl.1 hK hX hw (hk.ps.1).1.1 (hk.ps.1).2.1.1 (by decide) rfl (tX2_goOn l (List.range Nk) adk Kk Ik Rk 11 (noteG (hrsG G i) 6) (hh + i) (hk.ps) (e6) (by omega)) (lw_V q763 q764 q765 q62 q766) rfl rfl (by decide +kernel) ⟨by decide, by decide⟩ rfl rfl (Nat.le_of_ble_eq_true rfl) dX0_hours_61 ⟨by simp only [gN]; omega, by simp only [gN]; omega⟩ ?_
          rintro r61 I6 R6 H locs ⟨e61, b61, o61, t61⟩ hw
          dsimp only at b61 o61 t61
          have h6 := hk.hour e6 (by omega) b61 o61 t61
          refine lv_pop hC.1 hC.2.1 dX0_hours_64 rfl ?_
          refine k_iinc (k := 2) (d := 1) (lv' := [(2, .int (nI (i + 1))), (0, .ref (adk 0)), (1, .int (nI n))]) hC dX0_hours_65 hl rfl (by decide) (by decide) rfl (fun ls hl => ?_)
          refine lv_goto (tgt := 48) hC.1 hC.2.1 dX0_hours_68 (by decide) ?_
          exact ih48 ls (i + 1) H locs ⟨_, _, _, _, _, hl.sub' [1, 2, 0] (by rfl), hw, gk2.to, h6, by omega⟩ (by omega)
      · have hcm : ¬ nI (hh + n) ≤ nI 999 := nI_ge c40 (by omega)
        refine lv_ldc hC.1 hC.2.1 hC.2.2.2.1 (hC.2.2.2.2 _ q445) dX0_hours_43 ?_
        exact M_iret hC hlk hw gGo.rf ⟨by simp only [gN]; omega, by simp only [gN]; omega⟩ hr rfl (by have eq : mX6_hours G (nI n) = ((-1000003 : Int32), G) := (by simp [mX6_hours, h0.g4, bI_t0, bI_f0, inc01, inc11, inc03, inc13, inc23, inc10, inc20, inc21, c22, c40, ix_nI (show n < 2147483648 by omega), eh, nI_add, hcm]); rw [eq]; exact ⟨rfl, h0⟩) dX0_hours_45
    · refine lv_ldc hC.1 hC.2.1 hC.2.2.2.1 (hC.2.2.2.2 _ q337) dX0_hours_25 ?_
      exact M_iret hC hlk hw gGo.rf ⟨by simp only [gN]; omega, by simp only [gN]; omega⟩ hr rfl (by have eq : mX6_hours G n_ = ((-1000001 : Int32), G) := (by simp [mX6_hours, h0.g4, bI_t0, bI_f0, inc01, inc11, inc03, inc13, inc23, inc10, inc20, inc21, c22]); rw [eq]; exact ⟨rfl, h0⟩) dX0_hours_27
  · refine lv_ldc hC.1 hC.2.1 hC.2.2.2.1 (hC.2.2.2.2 _ q703) dX0_hours_10 ?_
    exact M_iret hC hlk hw gGo.rf ⟨by simp only [gN]; omega, by simp only [gN]; omega⟩ hr rfl (by have eq : mX6_hours G n_ = ((-1000002 : Int32), G) := (by simp [mX6_hours, h0.g4, bI_t0, bI_f0, inc01, inc11, inc03, inc13, inc23, inc10, inc20, inc21, c7]); rw [eq]; exact ⟨rfl, h0⟩) dX0_hours_12
