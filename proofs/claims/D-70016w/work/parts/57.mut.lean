/-! ===== WindCarver: acts (by gen/w57.py) ===== -/
set_option maxHeartbeats 800000 in
theorem tX0_take (l : Launch) (N : Nat) (ad : Nat → Nat) (K : gK) (I : mG) (R : gR) (cell : Int32) (G : mG) (b : Bool) (h0 : wcR N K I R G b) : gM l yX0_take (ws_ yX0_take cX0_take 2 (some FieldType.int)) ({ frames := 3, cells := 6, slots := 53, locals := 103 } : Room) [.ref (ad 0), .int cell] N ad K I R (fun v S => v = some (.int (mX6_take G cell).1) ∧ wcR S.1 S.2.2.1 S.2.2.2.1 S.2.2.2.2 (mX6_take G cell).2 b) := by
  refine gM.of (by decide) (Nat.le_of_ble_eq_true rfl) ?_
  intro D dA p e s m args below meth cd ls hC hlk hr hin hK hX hl hw
  have hl : lv_has ls 2 [(0, .ref (ad 0)), (1, .int cell)] := hl
  have hge := h0.ge
  refine lv_aload_n hC.1 hC.2.1 dX0_take_0 rfl (lv_at hl 0 rfl) ?_
  refine x_ga hC hK hw (by omega) h0.k0 4 11 h0.r4 (by decide) rfl q206 rfl dX0_take_1 ?_
  refine p_gi hC hK hw h0.ps.1 0 (by decide) rfl q124 rfl (v := (bI b)) (h0.told) dX0_take_4 ?_
  refine k_bne (tgt := 13) hC dX0_take_7 (by decide) (fun c7 => ?_) (fun c7 => ?_)
  · subst c7
    refine lv_iload_n hC.1 hC.2.1 dX0_take_13 rfl (lv_at hl 1 rfl) ?_
    refine pS_call (n := 1) hC hl.1 (tX0_isCell l cell ) (lw_S q704 q705 q60 q706) rfl rfl (by decide +kernel) ⟨by decide, by decide⟩ rfl rfl (Nat.le_of_ble_eq_true rfl) dX0_take_14 ⟨Nat.zero_le _, Nat.zero_le _⟩ ?_
    refine k_bne (tgt := 23) hC dX0_take_17 (by decide) (fun c17 => ?_) (fun c17 => ?_)
    · obtain ⟨k, hk, rfl⟩ := inB_nat (n := 15) (by decide) c17
      have gwk := h0.ps.wk (c := k) (by omega)
      rcases (h0.ps.2.2.2 k (by omega)).2.2.2 with ⟨z1, z2⟩ | ⟨w, kk, z1, z2, z3, z4, z5, z6, z7, z8⟩
      · refine lv_aload_n hC.1 hC.2.1 dX0_take_23 rfl (lv_at hl 0 rfl) ?_
        refine x_ga hC hK hw (by omega) h0.k0 4 11 h0.r4 (by decide) rfl q206 rfl dX0_take_24 ?_
        refine lv_iload_n hC.1 hC.2.1 dX0_take_27 rfl (lv_at hl 1 rfl) ?_
        refine g_calli (n := 1) (C := RX2) (T := TX2) hC hl.1 hK hX hw (h0.ps.1).1.1 (h0.ps.1).2.1.1 (by decide) rfl (tX2_has l (List.range N) ad K I R 11 k (h0.ps.1) (by omega)) (lw_V q713 q644 q645 q62 q646) rfl rfl (by decide +kernel) ⟨by decide, by decide⟩ rfl rfl (Nat.le_of_ble_eq_true rfl) dX0_take_28 ⟨Nat.zero_le _, Nat.zero_le _⟩ ?_
        rintro r_2 I2 R2 H locs ⟨hr2, hS2⟩ hw
        rw [hr2]
        replace hw := hw.eq (Prod.mk.inj hS2).1 (Prod.mk.inj hS2).2
        clear hS2
        refine k_bne (tgt := 37) hC dX0_take_31 (by decide) (fun c31 => ?_) (fun c31 => ?_)
        · exact absurd c31 (by rw [z1]; simp)
        · refine lv_ldc hC.1 hC.2.1 hC.2.2.2.1 (hC.2.2.2.2 _ q703) dX0_take_34 ?_
          exact M_iret hC hlk hw gGo.rf ⟨by simp only [gN]; omega, by simp only [gN]; omega⟩ hr rfl (by have eq : mX6_take G (nI k) = ((-1000002 : Int32), G) := (by simp [mX6_take, h0.g4, bI_t0, bI_f0, inc01, inc11, inc03, inc13, inc23, inc10, inc20, inc21, c17, c31, ix_nI (show k < 2147483648 by omega), gwk, z1]); rw [eq]; exact ⟨rfl, h0⟩) dX0_take_36
      · refine lv_aload_n hC.1 hC.2.1 dX0_take_23 rfl (lv_at hl 0 rfl) ?_
        refine x_ga hC hK hw (by omega) h0.k0 4 11 h0.r4 (by decide) rfl q206 rfl dX0_take_24 ?_
        refine lv_iload_n hC.1 hC.2.1 dX0_take_27 rfl (lv_at hl 1 rfl) ?_
        refine g_calli (n := 1) (C := RX2) (T := TX2) hC hl.1 hK hX hw (h0.ps.1).1.1 (h0.ps.1).2.1.1 (by decide) rfl (tX2_has l (List.range N) ad K I R 11 k (h0.ps.1) (by omega)) (lw_V q713 q644 q645 q62 q646) rfl rfl (by decide +kernel) ⟨by decide, by decide⟩ rfl rfl (Nat.le_of_ble_eq_true rfl) dX0_take_28 ⟨Nat.zero_le _, Nat.zero_le _⟩ ?_
        rintro r_2 I2 R2 H locs ⟨hr2, hS2⟩ hw
        rw [hr2]
        replace hw := hw.eq (Prod.mk.inj hS2).1 (Prod.mk.inj hS2).2
        clear hS2
        refine k_bne (tgt := 37) hC dX0_take_31 (by decide) (fun c31 => ?_) (fun c31 => ?_)
        · refine lv_aload_n hC.1 hC.2.1 dX0_take_37 rfl (lv_at hl 0 rfl) ?_
          refine M_V (n := 0) (C := RX0) (T := TX0) hC hl.1 hK hX hw (by omega) h0.k0 (by decide) rfl (tX0_keep l N ad K I R G (h0)) (lw_V q714 q716 qs15 q60 q717) (by decide +kernel) ⟨by decide, by decide⟩ rfl rfl (Nat.le_of_ble_eq_true rfl) dX0_take_38 ⟨by simp only [gN]; omega, by simp only [gN]; omega⟩ ?_
          rintro _ Nk adk Kk Ik Rk H locs ⟨rfl, hk⟩ hgk hw
          dsimp only at hk
          have gek := hk.ge
          have e_adk : ad 0 = adk 0 := (hgk.2 0 (by omega)).1.symm
          rw [e_adk] at hl
          refine lv_aload_n hC.1 hC.2.1 dX0_take_41 rfl (lv_at hl 0 rfl) ?_
          refine x_ga hC hK hw (by omega) hk.k0 4 11 hk.r4 (by decide) rfl q206 rfl dX0_take_42 ?_
          refine lv_iload_n hC.1 hC.2.1 dX0_take_45 rfl (lv_at hl 1 rfl) ?_
          refine g_callv (n := 1) (C := RX2) (T := TX2) hC hl.1 hK hX hw (hk.ps.1).1.1 (hk.ps.1).2.1.1 (by decide) rfl (tX2_clear l (List.range Nk) adk Kk Ik Rk 11 k (hk.ps.1) (by omega)) (lw_V q723 q724 q725 q62 q726) rfl rfl (by decide +kernel) ⟨by decide, by decide⟩ rfl rfl (Nat.le_of_ble_eq_true rfl) dX0_take_46 ⟨by simp only [gN]; omega, by simp only [gN]; omega⟩ ?_
          rintro I2 R2 H locs hS2 hw
          replace hw := hw.eq (Prod.mk.inj hS2).1 (Prod.mk.inj hS2).2
          have b46 := hk.ps.cleared (a := k) (by omega)
          have o46 := pOff_clr 11 k Ik Rk (opC (Ik 11 5) k)
          have e6 : noteG G 6 = G 6 := noteG_o G (by decide) (by decide)
          have hk2 : wcR Nk Kk (g2 Ik 11 5 (opC (Ik 11 5) k)) (r2 Rk (11 + 3) k none) (va_up (noteG G) 6 (clr (noteG G 6) k)) true := hk.step (u := 11) (Or.inl rfl) (Nat.le_refl _) (fun _ _ => rfl) (fun n _ hn => o46.1 n (by omega)) (o46.2 11 (by decide)) ⟨by rw [va_up_self]; exact b46, by rw [g2_s, upd_at, if_neg (by decide)]; exact hk.told, by rw [va_up_self]; exact (high_ok (high_ok (high_ok hk.st (by omega) _) (by omega) _) (by omega) _)⟩ (fun n h6 h0 h19 h24 => va_up_ne _ _ h6) (fun j _ _ => by rw [va_up_ne _ _ (by decide)])
          refine lv_aload_n hC.1 hC.2.1 dX0_take_49 rfl (lv_at hl 0 rfl) ?_
          refine x_ga hC hK hw (by omega) hk2.k0 4 11 hk2.r4 (by decide) rfl q206 rfl dX0_take_50 ?_
          refine g_calli (n := 0) (C := RX2) (T := TX2) hC hl.1 hK hX hw (hk2.ps.1).1.1 (hk2.ps.1).2.1.1 (by decide) rfl (tX2_many l (List.range Nk) adk Kk (g2 Ik 11 5 (opC (Ik 11 5) k)) (r2 Rk (11 + 3) k none) 11 (hk2.ps.1)) (lw_V q694 q640 q641 q62 q642) rfl rfl (by decide +kernel) ⟨by decide, by decide⟩ rfl rfl (Nat.le_of_ble_eq_true rfl) dX0_take_53 ⟨by simp only [gN]; omega, by simp only [gN]; omega⟩ ?_
          rintro r_2 I2 R2 H locs ⟨hr2, hS2⟩ hw
          rw [hr2]
          replace hw := hw.eq (Prod.mk.inj hS2).1 (Prod.mk.inj hS2).2
          clear hS2
          rw [wk_cnt hk2.ps 16 (Nat.le_refl _)]
          exact M_iret hC hlk hw hgk ⟨by simp only [gN]; omega, by simp only [gN]; omega⟩ hr rfl (by have eq : mX6_take G (nI k) = ((nI (cntW ((va_up (noteG G) 6 (clr (noteG G 6) k)) 6) 16)), va_up (noteG G) 6 (clr (noteG G 6) k)) := (by simp [mX6_take, h0.g4, bI_t0, bI_f0, inc01, inc11, inc03, inc13, inc23, inc10, inc20, inc21, c17, c31, ix_nI (show k < 2147483648 by omega), gwk, z1, z6]); rw [eq]; exact ⟨rfl, hk2⟩) dX0_take_56
        · exact absurd c31 (by rw [z1]; simp)
    · refine lv_ldc hC.1 hC.2.1 hC.2.2.2.1 (hC.2.2.2.2 _ q337) dX0_take_20 ?_
      exact M_iret hC hlk hw gGo.rf ⟨by simp only [gN]; omega, by simp only [gN]; omega⟩ hr rfl (by have eq : mX6_take G cell = ((-1000001 : Int32), G) := (by simp [mX6_take, h0.g4, bI_t0, bI_f0, inc01, inc11, inc03, inc13, inc23, inc10, inc20, inc21, c17]); rw [eq]; exact ⟨rfl, h0⟩) dX0_take_22
  · refine lv_ldc hC.1 hC.2.1 hC.2.2.2.1 (hC.2.2.2.2 _ q703) dX0_take_10 ?_
    exact M_iret hC hlk hw gGo.rf ⟨by simp only [gN]; omega, by simp only [gN]; omega⟩ hr rfl (by have eq : mX6_take G cell = ((-1000002 : Int32), G) := (by simp [mX6_take, h0.g4, bI_t0, bI_f0, inc01, inc11, inc03, inc13, inc23, inc10, inc20, inc21, c7]); rw [eq]; exact ⟨rfl, h0⟩) dX0_take_12

theorem wcR.up6 {N N' : Nat} {K K' : gK} {I I' : mG} {R R' : gR} {G : mG} {b : Bool} {st : vV} (h : wcR N K I R G b) (hN : N ≤ N') (hK : ∀ n, n < N → K' n = K n) (ho : ∀ n, n < N → n < 11 ∨ 17 ≤ n → I' n = I n ∧ R' n = R n) (hR : R' 11 = R 11) (hp : psR (List.range N') K' I' R' 11 st) (ht : I' 11 0 = I 11 0) (hs : stOk st) : wcR N' K' I' R' (va_up G 6 st) b :=
  h.step (u := 11) (Or.inl rfl) hN hK ho hR ⟨by rw [va_up_self]; exact hp, by rw [ht]; exact h.told, by rw [va_up_self]; exact hs⟩ (fun n h6 h0 h19 h24 => va_up_ne _ _ h6) (fun j _ _ => by rw [va_up_ne _ _ (by decide)])
theorem r2_ne (R : gR) (a i : Nat) (x : Option Nat) {n : Nat} (h : n ≠ a) : r2 R a i x n = R n := va_up_ne _ _ h
theorem g2_6 (G : mG) (i : Nat) (x : Int32) : g2 G 6 i x = va_up G 6 (upd (G 6) i x) := rfl

theorem kd03 : ¬ nI 0 = nI 3 := by decide

set_option maxHeartbeats 800000 in
theorem tX0_turn (l : Launch) (N : Nat) (ad : Nat → Nat) (K : gK) (I : mG) (R : gR) (cell : Int32) (G : mG) (b : Bool) (h0 : wcR N K I R G b) : gM l yX0_turn (ws_ yX0_turn cX0_turn 2 (some FieldType.int)) ({ frames := 3, cells := 6, slots := 53, locals := 103 } : Room) [.ref (ad 0), .int cell] N ad K I R (fun v S => v = some (.int (mX6_turn G cell).1) ∧ wcR S.1 S.2.2.1 S.2.2.2.1 S.2.2.2.2 (mX6_turn G cell).2 b) := by
  refine gM.of (by decide) (Nat.le_of_ble_eq_true rfl) ?_
  intro D dA p e s m args below meth cd ls hC hlk hr hin hK hX hl hw
  have hl : lv_has ls 2 [(0, .ref (ad 0)), (1, .int cell)] := hl
  have hge := h0.ge
  refine lv_aload_n hC.1 hC.2.1 dX0_turn_0 rfl (lv_at hl 0 rfl) ?_
  refine x_ga hC hK hw (by omega) h0.k0 4 11 h0.r4 (by decide) rfl q206 rfl dX0_turn_1 ?_
  refine p_gi hC hK hw h0.ps.1 0 (by decide) rfl q124 rfl (v := (bI b)) (h0.told) dX0_turn_4 ?_
  refine k_bne (tgt := 13) hC dX0_turn_7 (by decide) (fun c7 => ?_) (fun c7 => ?_)
  · subst c7
    refine lv_iload_n hC.1 hC.2.1 dX0_turn_13 rfl (lv_at hl 1 rfl) ?_
    refine pS_call (n := 1) hC hl.1 (tX0_isCell l cell ) (lw_S q704 q705 q60 q706) rfl rfl (by decide +kernel) ⟨by decide, by decide⟩ rfl rfl (Nat.le_of_ble_eq_true rfl) dX0_turn_14 ⟨Nat.zero_le _, Nat.zero_le _⟩ ?_
    refine k_bne (tgt := 23) hC dX0_turn_17 (by decide) (fun c17 => ?_) (fun c17 => ?_)
    · obtain ⟨k, hk, rfl⟩ := inB_nat (n := 15) (by decide) c17
      have gwk := h0.ps.wk (c := k) (by omega)
      rcases (h0.ps.2.2.2 k (by omega)).2.2.2 with ⟨z1, z2⟩ | ⟨w, kk, z1, z2, z3, z4, z5, z6, z7, z8⟩
      · refine lv_aload_n hC.1 hC.2.1 dX0_turn_23 rfl (lv_at hl 0 rfl) ?_
        refine x_ga hC hK hw (by omega) h0.k0 4 11 h0.r4 (by decide) rfl q206 rfl dX0_turn_24 ?_
        refine lv_iload_n hC.1 hC.2.1 dX0_turn_27 rfl (lv_at hl 1 rfl) ?_
        refine g_calli (n := 1) (C := RX2) (T := TX2) hC hl.1 hK hX hw (h0.ps.1).1.1 (h0.ps.1).2.1.1 (by decide) rfl (tX2_has l (List.range N) ad K I R 11 k (h0.ps.1) (by omega)) (lw_V q713 q644 q645 q62 q646) rfl rfl (by decide +kernel) ⟨by decide, by decide⟩ rfl rfl (Nat.le_of_ble_eq_true rfl) dX0_turn_28 ⟨Nat.zero_le _, Nat.zero_le _⟩ ?_
        rintro r_2 I2 R2 H locs ⟨hr2, hS2⟩ hw
        rw [hr2]
        replace hw := hw.eq (Prod.mk.inj hS2).1 (Prod.mk.inj hS2).2
        clear hS2
        refine k_beq (tgt := 50) hC dX0_turn_31 (by decide) (fun c31 => ?_) (fun c31 => ?_)
        · refine lv_ldc hC.1 hC.2.1 hC.2.2.2.1 (hC.2.2.2.2 _ q703) dX0_turn_50 ?_
          exact M_iret hC hlk hw gGo.rf ⟨by simp only [gN]; omega, by simp only [gN]; omega⟩ hr rfl (by have eq : mX6_turn G (nI k) = ((-1000002 : Int32), G) := (by simp [mX6_turn, h0.g4, bI_t0, bI_f0, inc01, inc11, inc03, inc13, inc23, inc10, inc20, inc21, c17, ix_nI (show k < 2147483648 by omega), z2, kd03]); rw [eq]; exact ⟨rfl, h0⟩) dX0_turn_52
        · exact absurd c31 (by rw [z1]; simp)
      · refine lv_aload_n hC.1 hC.2.1 dX0_turn_23 rfl (lv_at hl 0 rfl) ?_
        refine x_ga hC hK hw (by omega) h0.k0 4 11 h0.r4 (by decide) rfl q206 rfl dX0_turn_24 ?_
        refine lv_iload_n hC.1 hC.2.1 dX0_turn_27 rfl (lv_at hl 1 rfl) ?_
        refine g_calli (n := 1) (C := RX2) (T := TX2) hC hl.1 hK hX hw (h0.ps.1).1.1 (h0.ps.1).2.1.1 (by decide) rfl (tX2_has l (List.range N) ad K I R 11 k (h0.ps.1) (by omega)) (lw_V q713 q644 q645 q62 q646) rfl rfl (by decide +kernel) ⟨by decide, by decide⟩ rfl rfl (Nat.le_of_ble_eq_true rfl) dX0_turn_28 ⟨Nat.zero_le _, Nat.zero_le _⟩ ?_
        rintro r_2 I2 R2 H locs ⟨hr2, hS2⟩ hw
        rw [hr2]
        replace hw := hw.eq (Prod.mk.inj hS2).1 (Prod.mk.inj hS2).2
        clear hS2
        refine k_beq (tgt := 50) hC dX0_turn_31 (by decide) (fun c31 => ?_) (fun c31 => ?_)
        · exact absurd c31 (by rw [z1]; simp)
        · refine lv_aload_n hC.1 hC.2.1 dX0_turn_34 rfl (lv_at hl 0 rfl) ?_
          refine x_ga hC hK hw (by omega) h0.k0 4 11 h0.r4 (by decide) rfl q206 rfl dX0_turn_35 ?_
          refine p_ga hC hK hw h0.ps.1 4 3 h0.ps.1.2.2.2.2.1 (by decide) rfl q135 rfl dX0_turn_38 ?_
          refine lv_iload_n hC.1 hC.2.1 dX0_turn_41 rfl (lv_at hl 1 rfl) ?_
          refine g_ldr (t := 2) (v := .ref (ad w)) hC hK hw h0.ps.1.1.2.2.2.1 h0.ps.1.2.1.2.2.2.1 rfl (by omega) (by omega) (by rw [z1]; rfl) dX0_turn_42 ?_
          refine w_kind hC hl.1 hK hX hw z2 z5 ⟨z3, z4⟩ ⟨by decide, by decide⟩ (Nat.le_of_ble_eq_true rfl) dX0_turn_43 ⟨Nat.zero_le _, Nat.zero_le _⟩ (fun H locs hw => ?_)
          refine lv_iconst (v := (nI 3)) hC.1 hC.2.1 dX0_turn_46 (by decide) ?_
          refine k_eq (tgt := 53) hC (by omega) (by omega) dX0_turn_47 (by decide) (fun c47 => ?_) (fun c47 => ?_)
          · have z6x : G 6 (9 + k) = nI 3 := by rw [z6, c47]
            refine lv_aload_n hC.1 hC.2.1 dX0_turn_53 rfl (lv_at hl 0 rfl) ?_
            refine M_V (n := 0) (C := RX0) (T := TX0) hC hl.1 hK hX hw (by omega) h0.k0 (by decide) rfl (tX0_keep l N ad K I R G (h0)) (lw_V q714 q716 qs15 q60 q717) (by decide +kernel) ⟨by decide, by decide⟩ rfl rfl (Nat.le_of_ble_eq_true rfl) dX0_turn_54 ⟨by simp only [gN]; omega, by simp only [gN]; omega⟩ ?_
            rintro _ Nk adk Kk Ik Rk H locs ⟨rfl, hk⟩ hgk hw
            dsimp only at hk
            have gek := hk.ge
            have e_adk : ad 0 = adk 0 := (hgk.2 0 (by omega)).1.symm
            rw [e_adk] at hl
            refine lv_aload_n hC.1 hC.2.1 dX0_turn_57 rfl (lv_at hl 0 rfl) ?_
            refine x_ga hC hK hw (by omega) hk.k0 4 11 hk.r4 (by decide) rfl q206 rfl dX0_turn_58 ?_
            refine lv_dup hC.1 hC.2.1 dX0_turn_61 rfl ?_
            refine p_gi hC hK hw hk.ps.1 5 (by decide) rfl q137 rfl (v := (Ik 11 5)) (rfl) dX0_turn_62 ?_
            refine lv_iconst (v := (nI 1)) hC.1 hC.2.1 dX0_turn_65 (by decide) ?_
            refine lv_iload_n hC.1 hC.2.1 dX0_turn_66 rfl (lv_at hl 1 rfl) ?_
            refine lv_ishl hC.1 hC.2.1 dX0_turn_67 ?_
            refine lv_ixor hC.1 hC.2.1 dX0_turn_68 ?_
            refine p_pi hC hK hw hk.ps.1 5 (by decide) rfl q137 rfl rfl rfl rfl rfl dX0_turn_69 (fun H locs hw => ?_)
            have e6 : noteG G 6 = G 6 := noteG_o G (by decide) (by decide)
            have b69 := hk.ps.turn (a := k) (by omega) (by rw [e6, z6]; exact fun q => absurd ((nI_eq (by omega) (by decide)).mp q) (by omega))
            have hk2 := hk.up6 (Nat.le_refl _) (fun _ _ => rfl) (fun n _ hn => (pOff_g2 11 0 5 Ik Rk (Ik 11 5 ^^^ (nI 1 <<< (nI k &&& 31))) (by decide)).1 n (by omega)) rfl b69 (by rw [g2_s, upd_at, if_neg (by decide)]) (high_ok hk.st (by omega) _)
            refine lv_aload_n hC.1 hC.2.1 dX0_turn_72 rfl (lv_at hl 0 rfl) ?_
            refine x_ga hC hK hw (by omega) hk2.k0 4 11 hk2.r4 (by decide) rfl q206 rfl dX0_turn_73 ?_
            refine p_gi hC hK hw hk2.ps.1 5 (by decide) rfl q137 rfl (v := ((g2 Ik 11 5 (Ik 11 5 ^^^ (nI 1 <<< (nI k &&& 31)))) 11 5)) (rfl) dX0_turn_76 ?_
            refine lv_iload_n hC.1 hC.2.1 dX0_turn_79 rfl (lv_at hl 1 rfl) ?_
            refine lv_ishr hC.1 hC.2.1 dX0_turn_80 ?_
            refine lv_iconst (v := (nI 1)) hC.1 hC.2.1 dX0_turn_81 (by decide) ?_
            refine lv_iand hC.1 hC.2.1 dX0_turn_82 ?_
            rw [hk2.ps.opn (c := k) (by omega)]
            exact M_iret hC hlk hw hgk ⟨by simp only [gN]; omega, by simp only [gN]; omega⟩ hr rfl (by have eq : mX6_turn G (nI k) = (((va_up (noteG G) 6 (upd (noteG G 6) (41 + k) (nI 1 - noteG G 6 (41 + k)))) 6 (41 + k)), va_up (noteG G) 6 (upd (noteG G 6) (41 + k) (nI 1 - noteG G 6 (41 + k)))) := (by simp [mX6_turn, h0.g4, bI_t0, bI_f0, inc01, inc11, inc03, inc13, inc23, inc10, inc20, inc21, c17, ix_nI (show k < 2147483648 by omega), z6x, g2_6]); rw [eq]; exact ⟨rfl, hk2⟩) dX0_turn_83
          · have zno : ¬ G 6 (9 + k) = nI 3 := by rw [z6]; exact fun q => c47 ((nI_eq (by omega) (by decide)).mp q)
            refine lv_ldc hC.1 hC.2.1 hC.2.2.2.1 (hC.2.2.2.2 _ q703) dX0_turn_50 ?_
            exact M_iret hC hlk hw gGo.rf ⟨by simp only [gN]; omega, by simp only [gN]; omega⟩ hr rfl (by have eq : mX6_turn G (nI k) = ((-1000002 : Int32), G) := (by simp [mX6_turn, h0.g4, bI_t0, bI_f0, inc01, inc11, inc03, inc13, inc23, inc10, inc20, inc21, c17, ix_nI (show k < 2147483648 by omega), zno]); rw [eq]; exact ⟨rfl, h0⟩) dX0_turn_52
    · refine lv_ldc hC.1 hC.2.1 hC.2.2.2.1 (hC.2.2.2.2 _ q337) dX0_turn_20 ?_
      exact M_iret hC hlk hw gGo.rf ⟨by simp only [gN]; omega, by simp only [gN]; omega⟩ hr rfl (by have eq : mX6_turn G cell = ((-1000001 : Int32), G) := (by simp [mX6_turn, h0.g4, bI_t0, bI_f0, inc01, inc11, inc03, inc13, inc23, inc10, inc20, inc21, c17]); rw [eq]; exact ⟨rfl, h0⟩) dX0_turn_22
  · refine lv_ldc hC.1 hC.2.1 hC.2.2.2.1 (hC.2.2.2.2 _ q703) dX0_turn_10 ?_
    exact M_iret hC hlk hw gGo.rf ⟨by simp only [gN]; omega, by simp only [gN]; omega⟩ hr rfl (by have eq : mX6_turn G cell = ((-1000002 : Int32), G) := (by simp [mX6_turn, h0.g4, bI_t0, bI_f0, inc01, inc11, inc03, inc13, inc23, inc10, inc20, inc21, c7]); rw [eq]; exact ⟨rfl, h0⟩) dX0_turn_12

set_option maxHeartbeats 800000 in
theorem tX0_gust (l : Launch) (N : Nat) (ad : Nat → Nat) (K : gK) (I : mG) (R : gR) (y : Int32) (v : Int32) (G : mG) (b : Bool) (h0 : wcR N K I R G b) : gM l yX0_gust (ws_ yX0_gust cX0_gust 4 (some FieldType.int)) ({ frames := 3, cells := 6, slots := 53, locals := 103 } : Room) [.ref (ad 0), .int y, .int v] N ad K I R (fun rv S => rv = some (.int (mX6_gust G y v).1) ∧ wcR S.1 S.2.2.1 S.2.2.2.1 S.2.2.2.2 (mX6_gust G y v).2 b) := by
  refine gM.of (by decide) (Nat.le_of_ble_eq_true rfl) ?_
  intro D dA p e s m args below meth cd ls hC hlk hr hin hK hX hl hw
  have hl : lv_has ls 4 [(0, .ref (ad 0)), (1, .int y), (2, .int v)] := hl
  have hge := h0.ge
  refine lv_aload_n hC.1 hC.2.1 dX0_gust_0 rfl (lv_at hl 0 rfl) ?_
  refine x_ga hC hK hw (by omega) h0.k0 4 11 h0.r4 (by decide) rfl q206 rfl dX0_gust_1 ?_
  refine p_gi hC hK hw h0.ps.1 0 (by decide) rfl q124 rfl (v := (bI b)) (h0.told) dX0_gust_4 ?_
  refine k_bne (tgt := 13) hC dX0_gust_7 (by decide) (fun c7 => ?_) (fun c7 => ?_)
  · subst c7
    refine lv_iload_n hC.1 hC.2.1 dX0_gust_13 rfl (lv_at hl 1 rfl) ?_
    refine pS_call (n := 1) hC hl.1 (tX0_isSide l y ) (lw_S q753 q754 q60 q755) rfl rfl (by decide +kernel) ⟨by decide, by decide⟩ rfl rfl (Nat.le_of_ble_eq_true rfl) dX0_gust_14 ⟨Nat.zero_le _, Nat.zero_le _⟩ ?_
    refine k_beq (tgt := 32) hC dX0_gust_17 (by decide) (fun c17 => ?_) (fun c17 => ?_)
    · refine lv_ldc hC.1 hC.2.1 hC.2.2.2.1 (hC.2.2.2.2 _ q337) dX0_gust_32 ?_
      exact M_iret hC hlk hw gGo.rf ⟨by simp only [gN]; omega, by simp only [gN]; omega⟩ hr rfl (by have eq : mX6_gust G y v = ((-1000001 : Int32), G) := (by simp [mX6_gust, h0.g4, bI_t0, bI_f0, inc01, inc11, inc03, inc13, inc23, inc10, inc20, inc21, c17, g2_6]); rw [eq]; exact ⟨rfl, h0⟩) dX0_gust_34
    · obtain ⟨k, hk, rfl⟩ := inB_nat (n := 3) (by decide) c17
      refine lv_iload_n hC.1 hC.2.1 dX0_gust_20 rfl (lv_at hl 2 rfl) ?_
      refine lv_i2l hC.1 hC.2.1 dX0_gust_21 rfl ?_
      refine lv_lconst (v := 0) hC.1 hC.2.1 dX0_gust_22 (by decide) ?_
      refine lv_ldc2 hC.1 hC.2.1 hC.2.2.2.1 (hC.2.2.2.2 _ q757) dX0_gust_23 ?_
      refine pS_call (n := 3) hC hl.1 (tX0_isInI l v 0 (nI 31)) (lw_S q333 q334 q60 q335) rfl rfl (by decide +kernel) ⟨by decide, by decide⟩ rfl rfl (Nat.le_of_ble_eq_true rfl) dX0_gust_26 ⟨Nat.zero_le _, Nat.zero_le _⟩ ?_
      refine k_bne (tgt := 35) hC dX0_gust_29 (by decide) (fun c29 => ?_) (fun c29 => ?_)
      · obtain ⟨z, hz, rfl⟩ := inB_nat (n := 31) (by decide) c29
        refine lv_aload_n hC.1 hC.2.1 dX0_gust_35 rfl (lv_at hl 0 rfl) ?_
        refine M_V (n := 0) (C := RX0) (T := TX0) hC hl.1 hK hX hw (by omega) h0.k0 (by decide) rfl (tX0_keep l N ad K I R G (h0)) (lw_V q714 q716 qs15 q60 q717) (by decide +kernel) ⟨by decide, by decide⟩ rfl rfl (Nat.le_of_ble_eq_true rfl) dX0_gust_36 ⟨by simp only [gN]; omega, by simp only [gN]; omega⟩ ?_
        rintro _ Nk adk Kk Ik Rk H locs ⟨rfl, hk⟩ hgk hw
        dsimp only at hk
        have gek := hk.ge
        have e_adk : ad 0 = adk 0 := (hgk.2 0 (by omega)).1.symm
        rw [e_adk] at hl
        refine lv_aload_n hC.1 hC.2.1 dX0_gust_39 rfl (lv_at hl 0 rfl) ?_
        refine x_ga hC hK hw (by omega) hk.k0 4 11 hk.r4 (by decide) rfl q206 rfl dX0_gust_40 ?_
        refine p_ga hC hK hw hk.ps.1 2 1 hk.ps.1.2.2.1 (by decide) rfl q129 rfl dX0_gust_43 ?_
        refine lv_iload_n hC.1 hC.2.1 dX0_gust_46 rfl (lv_at hl 1 rfl) ?_
        refine g_ldi hC hK hw hk.ps.1.1.2.1 hk.ps.1.2.1.2.1 (by omega) (by omega) (v := (noteG G 6 (1 + k))) ((hk.ps.2.2.1 k (by omega)).1) dX0_gust_47 ?_
        refine lv_istore_n (lv' := [(3, .int (noteG G 6 (1 + k))), (0, .ref (adk 0)), (1, .int (nI k)), (2, .int (nI z))]) hC.1 hC.2.1 dX0_gust_48 rfl hl (by decide) rfl (fun ls hl => ?_)
        refine lv_aload_n hC.1 hC.2.1 dX0_gust_49 rfl (lv_at hl 1 rfl) ?_
        refine x_ga hC hK hw (by omega) hk.k0 4 11 hk.r4 (by decide) rfl q206 rfl dX0_gust_50 ?_
        refine p_ga hC hK hw hk.ps.1 2 1 hk.ps.1.2.2.1 (by decide) rfl q129 rfl dX0_gust_53 ?_
        refine lv_iload_n hC.1 hC.2.1 dX0_gust_56 rfl (lv_at hl 2 rfl) ?_
        refine lv_iload_n hC.1 hC.2.1 dX0_gust_57 rfl (lv_at hl 3 rfl) ?_
        refine g_sti hC hK hw hk.ps.1.1.2.1 hk.ps.1.2.1.2.1 (by omega) (by omega) dX0_gust_58 (fun H locs hw => ?_)
        have b58 := hk.ps.gust (y := k) (by omega) (nI z)
        have hk2 := hk.up6 (Nat.le_refl _) (fun _ _ => rfl) (fun n _ hn => (pOff_g2 11 1 k Ik Rk (nI z) (by decide)).1 n (by omega)) rfl b58 (by rw [g2_ne _ _ _ (by decide)]) (gust_ok hk.st (by omega) hz)
        refine lv_iload_n hC.1 hC.2.1 dX0_gust_59 rfl (lv_at hl 0 rfl) ?_
        exact M_iret hC hlk hw hgk ⟨by simp only [gN]; omega, by simp only [gN]; omega⟩ hr rfl (by have eq : mX6_gust G (nI k) (nI z) = ((noteG G 6 (1 + k)), va_up (noteG G) 6 (upd (noteG G 6) (1 + k) (nI z))) := (by simp [mX6_gust, h0.g4, bI_t0, bI_f0, inc01, inc11, inc03, inc13, inc23, inc10, inc20, inc21, c17, c29, ix_nI (show k < 2147483648 by omega), ix_nI (show z < 2147483648 by omega), g2_6]); rw [eq]; exact ⟨rfl, hk2⟩) dX0_gust_60
      · refine lv_ldc hC.1 hC.2.1 hC.2.2.2.1 (hC.2.2.2.2 _ q337) dX0_gust_32 ?_
        exact M_iret hC hlk hw gGo.rf ⟨by simp only [gN]; omega, by simp only [gN]; omega⟩ hr rfl (by have eq : mX6_gust G (nI k) v = ((-1000001 : Int32), G) := (by simp [mX6_gust, h0.g4, bI_t0, bI_f0, inc01, inc11, inc03, inc13, inc23, inc10, inc20, inc21, c17, c29, ix_nI (show k < 2147483648 by omega), g2_6]); rw [eq]; exact ⟨rfl, h0⟩) dX0_gust_34
  · refine lv_ldc hC.1 hC.2.1 hC.2.2.2.1 (hC.2.2.2.2 _ q703) dX0_gust_10 ?_
    exact M_iret hC hlk hw gGo.rf ⟨by simp only [gN]; omega, by simp only [gN]; omega⟩ hr rfl (by have eq : mX6_gust G y v = ((-1000002 : Int32), G) := (by simp [mX6_gust, h0.g4, bI_t0, bI_f0, inc01, inc11, inc03, inc13, inc23, inc10, inc20, inc21, c7, g2_6]); rw [eq]; exact ⟨rfl, h0⟩) dX0_gust_12

theorem g2_63 (G : mG) (i j k : Nat) (x y z : Int32) : g2 (g2 (g2 G 6 i x) 6 j y) 6 k z = va_up G 6 (upd (upd (upd (G 6) i x) j y) k z) := by
  rw [g2_6 G, g2_up, g2_up]

set_option maxHeartbeats 800000 in
theorem tX0_setUp (l : Launch) (N : Nat) (ad : Nat → Nat) (K : gK) (I : mG) (R : gR) (cell : Int32) (kind : Int32) (holds : Int32) (G : mG) (b : Bool) (h0 : wcR N K I R G b) : gM l yX0_setUp (ws_ yX0_setUp cX0_setUp 4 (some FieldType.int)) ({ frames := 5, cells := 7, slots := 55, locals := 128 } : Room) [.ref (ad 0), .int cell, .int kind, .int holds] N ad K I R (fun v S => v = some (.int (mX6_setUp G cell kind holds).1) ∧ wcR S.1 S.2.2.1 S.2.2.2.1 S.2.2.2.2 (mX6_setUp G cell kind holds).2 b) := by
  refine gM.of (by decide) (Nat.le_of_ble_eq_true rfl) ?_
  intro D dA p e s m args below meth cd ls hC hlk hr hin hK hX hl hw
  have hl : lv_has ls 4 [(0, .ref (ad 0)), (1, .int cell), (2, .int kind), (3, .int holds)] := hl
  have hge := h0.ge
  refine lv_aload_n hC.1 hC.2.1 dX0_setUp_0 rfl (lv_at hl 0 rfl) ?_
  refine x_ga hC hK hw (by omega) h0.k0 4 11 h0.r4 (by decide) rfl q206 rfl dX0_setUp_1 ?_
  refine p_gi hC hK hw h0.ps.1 0 (by decide) rfl q124 rfl (v := (bI b)) (h0.told) dX0_setUp_4 ?_
  refine k_bne (tgt := 13) hC dX0_setUp_7 (by decide) (fun c7 => ?_) (fun c7 => ?_)
  · subst c7
    refine lv_iload_n hC.1 hC.2.1 dX0_setUp_13 rfl (lv_at hl 1 rfl) ?_
    refine pS_call (n := 1) hC hl.1 (tX0_isCell l cell ) (lw_S q704 q705 q60 q706) rfl rfl (by decide +kernel) ⟨by decide, by decide⟩ rfl rfl (Nat.le_of_ble_eq_true rfl) dX0_setUp_14 ⟨Nat.zero_le _, Nat.zero_le _⟩ ?_
    refine k_beq (tgt := 39) hC dX0_setUp_17 (by decide) (fun c17 => ?_) (fun c17 => ?_)
    · refine lv_ldc hC.1 hC.2.1 hC.2.2.2.1 (hC.2.2.2.2 _ q337) dX0_setUp_39 ?_
      exact M_iret hC hlk hw gGo.rf ⟨by simp only [gN]; omega, by simp only [gN]; omega⟩ hr rfl (by have eq : mX6_setUp G cell kind holds = ((-1000001 : Int32), G) := (by simp [mX6_setUp, h0.g4, bI_t0, bI_f0, inc01, inc11, inc03, inc13, inc23, inc10, inc20, inc21, c17, g2_63]); rw [eq]; exact ⟨rfl, h0⟩) dX0_setUp_41
    · obtain ⟨k, hk, rfl⟩ := inB_nat (n := 15) (by decide) c17
      refine lv_iload_n hC.1 hC.2.1 dX0_setUp_20 rfl (lv_at hl 2 rfl) ?_
      refine pS_call (n := 1) hC hl.1 (tX0_isKind l kind ) (lw_S q708 q709 q60 q710) rfl rfl (by decide +kernel) ⟨by decide, by decide⟩ rfl rfl (Nat.le_of_ble_eq_true rfl) dX0_setUp_21 ⟨Nat.zero_le _, Nat.zero_le _⟩ ?_
      refine k_beq (tgt := 39) hC dX0_setUp_24 (by decide) (fun c24 => ?_) (fun c24 => ?_)
      · refine lv_ldc hC.1 hC.2.1 hC.2.2.2.1 (hC.2.2.2.2 _ q337) dX0_setUp_39 ?_
        exact M_iret hC hlk hw gGo.rf ⟨by simp only [gN]; omega, by simp only [gN]; omega⟩ hr rfl (by have eq : mX6_setUp G (nI k) kind holds = ((-1000001 : Int32), G) := (by simp [mX6_setUp, h0.g4, bI_t0, bI_f0, inc01, inc11, inc03, inc13, inc23, inc10, inc20, inc21, c17, c24, ix_nI (show k < 2147483648 by omega), g2_63]); rw [eq]; exact ⟨rfl, h0⟩) dX0_setUp_41
      · obtain ⟨z, hz0, hz, rfl⟩ := inB_nat1 (a := 1) (n := 5) (by decide) (by decide) c24
        refine lv_iload_n hC.1 hC.2.1 dX0_setUp_27 rfl (lv_at hl 3 rfl) ?_
        refine lv_i2l hC.1 hC.2.1 dX0_setUp_28 rfl ?_
        refine lv_lconst (v := 0) hC.1 hC.2.1 dX0_setUp_29 (by decide) ?_
        refine lv_ldc2 hC.1 hC.2.1 hC.2.2.2.1 (hC.2.2.2.2 _ q712) dX0_setUp_30 ?_
        refine pS_call (n := 3) hC hl.1 (tX0_isInI l holds 0 (nI 99)) (lw_S q333 q334 q60 q335) rfl rfl (by decide +kernel) ⟨by decide, by decide⟩ rfl rfl (Nat.le_of_ble_eq_true rfl) dX0_setUp_33 ⟨Nat.zero_le _, Nat.zero_le _⟩ ?_
        refine k_bne (tgt := 42) hC dX0_setUp_36 (by decide) (fun c36 => ?_) (fun c36 => ?_)
        · obtain ⟨t, ht, rfl⟩ := inB_nat (n := 99) (by decide) c36
          have gwk := h0.ps.wk (c := k) (by omega)
          rcases (h0.ps.2.2.2 k (by omega)).2.2.2 with ⟨z1, z2⟩ | ⟨w, kk, z1, z2, z3, z4, z5, z6, z7, z8⟩
          · refine lv_aload_n hC.1 hC.2.1 dX0_setUp_42 rfl (lv_at hl 0 rfl) ?_
            refine x_ga hC hK hw (by omega) h0.k0 4 11 h0.r4 (by decide) rfl q206 rfl dX0_setUp_43 ?_
            refine lv_iload_n hC.1 hC.2.1 dX0_setUp_46 rfl (lv_at hl 1 rfl) ?_
            refine g_calli (n := 1) (C := RX2) (T := TX2) hC hl.1 hK hX hw (h0.ps.1).1.1 (h0.ps.1).2.1.1 (by decide) rfl (tX2_has l (List.range N) ad K I R 11 k (h0.ps.1) (by omega)) (lw_V q713 q644 q645 q62 q646) rfl rfl (by decide +kernel) ⟨by decide, by decide⟩ rfl rfl (Nat.le_of_ble_eq_true rfl) dX0_setUp_47 ⟨Nat.zero_le _, Nat.zero_le _⟩ ?_
            rintro r_2 I2 R2 H locs ⟨hr2, hS2⟩ hw
            rw [hr2]
            replace hw := hw.eq (Prod.mk.inj hS2).1 (Prod.mk.inj hS2).2
            clear hS2
            refine k_beq (tgt := 56) hC dX0_setUp_50 (by decide) (fun c50 => ?_) (fun c50 => ?_)
            · refine lv_aload_n hC.1 hC.2.1 dX0_setUp_56 rfl (lv_at hl 0 rfl) ?_
              refine x_ga hC hK hw (by omega) h0.k0 4 11 h0.r4 (by decide) rfl q206 rfl dX0_setUp_57 ?_
              refine g_calli (n := 0) (C := RX2) (T := TX2) hC hl.1 hK hX hw (h0.ps.1).1.1 (h0.ps.1).2.1.1 (by decide) rfl (tX2_many l (List.range N) ad K I R 11 (h0.ps.1)) (lw_V q694 q640 q641 q62 q642) rfl rfl (by decide +kernel) ⟨by decide, by decide⟩ rfl rfl (Nat.le_of_ble_eq_true rfl) dX0_setUp_60 ⟨Nat.zero_le _, Nat.zero_le _⟩ ?_
              rintro r_2 I2 R2 H locs ⟨hr2, hS2⟩ hw
              rw [hr2]
              replace hw := hw.eq (Prod.mk.inj hS2).1 (Prod.mk.inj hS2).2
              clear hS2
              rw [wk_cnt h0.ps 16 (Nat.le_refl _)]
              have hcn := cntW_le (G 6) 16
              refine lv_bipush (v := (nI 6)) hC.1 hC.2.1 dX0_setUp_63 (by decide) ?_
              refine k_ne (tgt := 71) hC (by omega) (by omega) dX0_setUp_65 (by decide) (fun c65 => ?_) (fun c65 => ?_)
              · refine lv_aload_n hC.1 hC.2.1 dX0_setUp_71 rfl (lv_at hl 0 rfl) ?_
                refine M_V (n := 0) (C := RX0) (T := TX0) hC hl.1 hK hX hw (by omega) h0.k0 (by decide) rfl (tX0_keep l N ad K I R G (h0)) (lw_V q714 q716 qs15 q60 q717) (by decide +kernel) ⟨by decide, by decide⟩ rfl rfl (Nat.le_of_ble_eq_true rfl) dX0_setUp_72 ⟨by simp only [gN]; omega, by simp only [gN]; omega⟩ ?_
                rintro _ Nk adk Kk Ik Rk H locs ⟨rfl, hk⟩ hgk hw
                dsimp only at hk
                have gek := hk.ge
                have e_adk : ad 0 = adk 0 := (hgk.2 0 (by omega)).1.symm
                rw [e_adk] at hl
                refine lv_aload_n hC.1 hC.2.1 dX0_setUp_75 rfl (lv_at hl 0 rfl) ?_
                refine x_ga hC hK hw (by omega) hk.k0 4 11 hk.r4 (by decide) rfl q206 rfl dX0_setUp_76 ?_
                refine p_ga hC hK hw hk.ps.1 4 3 hk.ps.1.2.2.2.2.1 (by decide) rfl q135 rfl dX0_setUp_79 ?_
                refine lv_iload_n hC.1 hC.2.1 dX0_setUp_82 rfl (lv_at hl 1 rfl) ?_
                refine lv_iload_n hC.1 hC.2.1 dX0_setUp_83 rfl (lv_at hl 2 rfl) ?_
                refine lv_iload_n hC.1 hC.2.1 dX0_setUp_84 rfl (lv_at hl 1 rfl) ?_
                refine lv_iload_n hC.1 hC.2.1 dX0_setUp_85 rfl (lv_at hl 3 rfl) ?_
                refine M_S (n := 3) hC hl.1 hK hX hw (tX0_workBy l Nk adk Kk Ik Rk z k (nI t) (⟨hz0, hz⟩)) (lw_S q718 q650 q60 q651) (by decide +kernel) ⟨by decide, by decide⟩ rfl rfl (Nat.le_of_ble_eq_true rfl) dX0_setUp_86 ⟨by simp only [gN]; omega, by simp only [gN]; omega⟩ ?_
                rintro _ Nw adw Kw Iw Rw H locs ⟨rfl, eN, wk1, wk2, wk3, wk4⟩ hgw hw
                dsimp only at eN wk1 wk2 wk3 wk4
                subst eN
                have e_adw : adk 0 = adw 0 := (hgw.2 0 (by omega)).1.symm
                rw [e_adw] at hl
                have e_adw : adk (11 + 3) = adw (11 + 3) := (hgw.2 (11 + 3) (by omega)).1.symm
                rw [e_adw]
                have gw2 := gGo.tr hgk hgw
                have kA : ∀ n, n < Nk → Kw n = Kk n := fun n hn => (hgw.2 n hn).2
                have pA := hk.ps.ag (N' := Nk + 1) (by omega) kA (fun j hj => wk4 _ (by have := hk.ps.1.lt; omega)) (fun w _ hw _ _ _ => (wk4 w hw).1)
                refine g_str (t := 2) hC hK hw pA.1.1.2.2.2.1 pA.1.2.1.2.2.2.1 rfl (by omega) (by omega) (List.mem_range.mpr (by omega)) (g_any (k := z) hK hX hw (List.mem_range.mpr (by omega)) (by rw [wk1]) ⟨hz0, hz⟩) dX0_setUp_89 (fun H locs hw => ?_)
                have e6 : noteG G 6 = G 6 := noteG_o G (by decide) (by decide)
                have b89 := pA.put (a := k) (w := Nk) (k := z) (x := nI t) (by omega) (List.mem_range.mpr (by omega)) (by rw [wk1]) hz0 hz wk2 wk3
                have e41 : noteG G 6 (41 + k) = nI 0 := (hk.ps.2.2.2 k (by omega)).2.2.1 (by rw [e6]; exact z2)
                have b89 := b89.cg (st' := upd (upd (upd (noteG G 6) (9 + k) (nI z)) (25 + k) (nI t)) (41 + k) (nI 0)) (fun j _ => by rw [upd_at]; split; (rename_i e; rw [e, upd_at, if_neg (by omega), upd_at, if_neg (by omega), e41]); rfl)
                have hk2 := hk.up6 (N' := Nk + 1) (by omega) kA (fun n hn ho => ⟨(wk4 n hn).1, by rw [r2_ne _ _ _ _ (by omega)]; exact (wk4 n hn).2⟩) (by rw [r2_ne _ _ _ _ (by decide)]; exact (wk4 11 (by omega)).2) b89 (by rw [(wk4 11 (by omega)).1]) (high_ok (high_ok (high_ok hk.st (by omega) _) (by omega) _) (by omega) _)
                refine lv_aload_n hC.1 hC.2.1 dX0_setUp_90 rfl (lv_at hl 0 rfl) ?_
                refine x_ga hC hK hw (by omega) hk2.k0 4 11 hk2.r4 (by decide) rfl q206 rfl dX0_setUp_91 ?_
                refine g_calli (n := 0) (C := RX2) (T := TX2) hC hl.1 hK hX hw (hk2.ps.1).1.1 (hk2.ps.1).2.1.1 (by decide) rfl (tX2_many l (List.range (Nk + 1)) adw Kw Iw (r2 Rw (11 + 3) k (some Nk)) 11 (hk2.ps.1)) (lw_V q694 q640 q641 q62 q642) rfl rfl (by decide +kernel) ⟨by decide, by decide⟩ rfl rfl (Nat.le_of_ble_eq_true rfl) dX0_setUp_94 ⟨by simp only [gN]; omega, by simp only [gN]; omega⟩ ?_
                rintro r_2 I2 R2 H locs ⟨hr2, hS2⟩ hw
                rw [hr2]
                replace hw := hw.eq (Prod.mk.inj hS2).1 (Prod.mk.inj hS2).2
                clear hS2
                rw [wk_cnt hk2.ps 16 (Nat.le_refl _)]
                exact M_iret hC hlk hw gw2.to ⟨by simp only [gN]; omega, by simp only [gN]; omega⟩ hr rfl (by have eq : mX6_setUp G (nI k) (nI z) (nI t) = ((nI (cntW ((va_up (noteG G) 6 (upd (upd (upd (noteG G 6) (9 + k) (nI z)) (25 + k) (nI t)) (41 + k) (nI 0))) 6) 16)), va_up (noteG G) 6 (upd (upd (upd (noteG G 6) (9 + k) (nI z)) (25 + k) (nI t)) (41 + k) (nI 0))) := (by simp [mX6_setUp, h0.g4, bI_t0, bI_f0, inc01, inc11, inc03, inc13, inc23, inc10, inc20, inc21, c17, c24, c36, c50, c65, ix_nI (show k < 2147483648 by omega), ix_nI (show z < 2147483648 by omega), ix_nI (show t < 2147483648 by omega), gwk, z1, g2_63]); rw [eq]; exact ⟨rfl, hk2⟩) dX0_setUp_97
              · refine lv_ldc hC.1 hC.2.1 hC.2.2.2.1 (hC.2.2.2.2 _ q445) dX0_setUp_68 ?_
                exact M_iret hC hlk hw gGo.rf ⟨by simp only [gN]; omega, by simp only [gN]; omega⟩ hr rfl (by have eq : mX6_setUp G (nI k) (nI z) (nI t) = ((-1000003 : Int32), G) := (by simp [mX6_setUp, h0.g4, bI_t0, bI_f0, inc01, inc11, inc03, inc13, inc23, inc10, inc20, inc21, c17, c24, c36, c50, c65, ix_nI (show k < 2147483648 by omega), ix_nI (show z < 2147483648 by omega), ix_nI (show t < 2147483648 by omega), gwk, z1, g2_63]); rw [eq]; exact ⟨rfl, h0⟩) dX0_setUp_70
            · exact absurd c50 (by rw [z1]; simp)
          · refine lv_aload_n hC.1 hC.2.1 dX0_setUp_42 rfl (lv_at hl 0 rfl) ?_
            refine x_ga hC hK hw (by omega) h0.k0 4 11 h0.r4 (by decide) rfl q206 rfl dX0_setUp_43 ?_
            refine lv_iload_n hC.1 hC.2.1 dX0_setUp_46 rfl (lv_at hl 1 rfl) ?_
            refine g_calli (n := 1) (C := RX2) (T := TX2) hC hl.1 hK hX hw (h0.ps.1).1.1 (h0.ps.1).2.1.1 (by decide) rfl (tX2_has l (List.range N) ad K I R 11 k (h0.ps.1) (by omega)) (lw_V q713 q644 q645 q62 q646) rfl rfl (by decide +kernel) ⟨by decide, by decide⟩ rfl rfl (Nat.le_of_ble_eq_true rfl) dX0_setUp_47 ⟨Nat.zero_le _, Nat.zero_le _⟩ ?_
            rintro r_2 I2 R2 H locs ⟨hr2, hS2⟩ hw
            rw [hr2]
            replace hw := hw.eq (Prod.mk.inj hS2).1 (Prod.mk.inj hS2).2
            clear hS2
            refine k_beq (tgt := 56) hC dX0_setUp_50 (by decide) (fun c50 => ?_) (fun c50 => ?_)
            · exact absurd c50 (by rw [z1]; simp)
            · refine lv_ldc hC.1 hC.2.1 hC.2.2.2.1 (hC.2.2.2.2 _ q703) dX0_setUp_53 ?_
              exact M_iret hC hlk hw gGo.rf ⟨by simp only [gN]; omega, by simp only [gN]; omega⟩ hr rfl (by have eq : mX6_setUp G (nI k) (nI z) (nI t) = ((-1000002 : Int32), G) := (by simp [mX6_setUp, h0.g4, bI_t0, bI_f0, inc01, inc11, inc03, inc13, inc23, inc10, inc20, inc21, c17, c24, c36, c50, ix_nI (show k < 2147483648 by omega), ix_nI (show z < 2147483648 by omega), ix_nI (show t < 2147483648 by omega), gwk, z1, z6, g2_63]); rw [eq]; exact ⟨rfl, h0⟩) dX0_setUp_55
        · refine lv_ldc hC.1 hC.2.1 hC.2.2.2.1 (hC.2.2.2.2 _ q337) dX0_setUp_39 ?_
          exact M_iret hC hlk hw gGo.rf ⟨by simp only [gN]; omega, by simp only [gN]; omega⟩ hr rfl (by have eq : mX6_setUp G (nI k) (nI z) holds = ((-1000001 : Int32), G) := (by simp [mX6_setUp, h0.g4, bI_t0, bI_f0, inc01, inc11, inc03, inc13, inc23, inc10, inc20, inc21, c17, c24, c36, ix_nI (show k < 2147483648 by omega), ix_nI (show z < 2147483648 by omega), g2_63]); rw [eq]; exact ⟨rfl, h0⟩) dX0_setUp_41
  · refine lv_ldc hC.1 hC.2.1 hC.2.2.2.1 (hC.2.2.2.2 _ q703) dX0_setUp_10 ?_
    exact M_iret hC hlk hw gGo.rf ⟨by simp only [gN]; omega, by simp only [gN]; omega⟩ hr rfl (by have eq : mX6_setUp G cell kind holds = ((-1000002 : Int32), G) := (by simp [mX6_setUp, h0.g4, bI_t0, bI_f0, inc01, inc11, inc03, inc13, inc23, inc10, inc20, inc21, c7, g2_63]); rw [eq]; exact ⟨rfl, h0⟩) dX0_setUp_12
