/-! ===== WindCarver: questions, first part (by gen/w43.py) ===== -/
theorem hourN_6 (G : mG) : ∀ n, hourN G n 6 = stN (G 6) n
  | 0 => rfl
  | n + 1 => by
    show hourG (hourN G n) 6 = hourS (stN (G 6) n)
    rw [← hourN_6 G n]
    exact va_up_self _ _ _
theorem blowIn_19 (G : mG) (n : Nat) : blowInG G n 19 = (bl (stN (G 6) n)).1 := by
  show blowG (hourN (asideG G) n) 19 = _
  show (bl (hourN (asideG G) n 6)).1 = _
  rw [hourN_6]
  rfl
theorem blowIn_0 (G : mG) (n : Nat) : blowInG G n 0 19 = (bl (stN (G 6) n)).2 := by
  show upd (hourN (asideG G) n 0) 19 (bl (hourN (asideG G) n 6)).2 19 = _
  rw [upd_at, if_pos rfl, hourN_6]
  rfl
theorem inc01 : inB 0 0 (nI 1) = true := by decide
theorem inc11 : inB (nI 1) 0 (nI 1) = true := by decide
theorem inc03 : inB 0 0 (nI 3) = true := by decide
theorem inc13 : inB (nI 1) 0 (nI 3) = true := by decide
theorem inc23 : inB (nI 2) 0 (nI 3) = true := by decide
theorem inc10 : ¬ nI 1 = 0 := by decide
theorem inc20 : ¬ nI 2 = 0 := by decide
theorem inc21 : ¬ nI 2 = nI 1 := by decide
theorem bI_t0 : ¬ bI true = 0 := by decide
theorem bI_f0 : bI false = 0 := rfl
theorem psR.opn {dom : List Nat} {K : gK} {I : mG} {R : gR} {u : Nat} {st : vV} (h : psR dom K I R u st) {c : Nat} (hc : c < 16) : (I u 5 >>> (nI c &&& 31)) &&& nI 1 = st (41 + c) := by
  obtain ⟨g1, g2, -, -⟩ := h.2.2.2 c hc
  rw [bit_val _ (by omega), g1]
  rcases g2 with e | e
  · rw [e]; decide
  · rw [e]; decide
theorem psR.wk {dom : List Nat} {K : gK} {I : mG} {R : gR} {u : Nat} {st : vV} (h : psR dom K I R u st) {c : Nat} (hc : c < 16) : isWk st c = (R (u + 3) c).isSome := (h.2.2.2 c hc).2.2.2.wk

set_option maxHeartbeats 800000 in
theorem tX0_felt (l : Launch) (N : Nat) (ad : Nat → Nat) (K : gK) (I : mG) (R : gR) (cell : Int32) (d : Int32) (G : mG) (b : Bool) (h0 : wB N K I R (G 6) b) (h1 : G 0 4 = bI b) : gA l yX0_felt (ws_ yX0_felt cX0_felt 3 (some FieldType.int)) ({ frames := 6, cells := 0, slots := 0, locals := 136 } : Room) [.ref (ad 0), .int cell, .int d] N ad K I R (fun v S => v = some (.int (mX6_felt G cell d).1) ∧ pOff 17 I S.1 R S.2) := by
  refine gM.of (by decide) (Nat.le_of_ble_eq_true rfl) ?_
  intro D dA p e s m args below meth cd ls hC hlk hr hin hK hX hl hw
  have hl : lv_has ls 3 [(0, .ref (ad 0)), (1, .int cell), (2, .int d)] := hl
  have hge := h0.ge
  refine lv_aload_n hC.1 hC.2.1 dX0_felt_0 rfl (lv_at hl 0 rfl) ?_
  refine x_ga hC hK hw (by omega) h0.k0 4 11 h0.r4 (by decide) rfl q206 rfl dX0_felt_1 ?_
  refine p_gi hC hK hw h0.ps.1 0 (by decide) rfl q124 rfl (v := (bI b)) (h0.told) dX0_felt_4 ?_
  refine k_bne (tgt := 13) hC dX0_felt_7 (by decide) (fun c7 => ?_) (fun c7 => ?_)
  · refine lv_iload_n hC.1 hC.2.1 dX0_felt_13 rfl (lv_at hl 1 rfl) ?_
    refine pS_call (n := 1) hC hl.1 (tX0_isCell l cell ) (lw_S q704 q705 q60 q706) rfl rfl (by decide +kernel) ⟨by decide, by decide⟩ rfl rfl (Nat.le_of_ble_eq_true rfl) dX0_felt_14 ⟨Nat.zero_le _, Nat.zero_le _⟩ ?_
    refine k_beq (tgt := 40) hC dX0_felt_17 (by decide) (fun c17 => ?_) (fun c17 => ?_)
    · refine lv_ldc hC.1 hC.2.1 hC.2.2.2.1 (hC.2.2.2.2 _ q337) dX0_felt_40 ?_
      exact M_iret hC hlk hw gGo.rf ⟨by simp only [gN]; omega, by simp only [gN]; omega⟩ hr rfl (⟨_, _, rfl, congrArg (fun z => some (Value.int z)) (by simp [mX6_felt, h1, bI_t0, bI_f0, inc01, inc11, inc03, inc13, inc23, inc10, inc20, inc21, c7, c17, blowIn_19]), pOff.rf⟩) dX0_felt_42
    · obtain ⟨k, hk, rfl⟩ := inB_nat (n := 15) (by decide) c17
      refine lv_iload_n hC.1 hC.2.1 dX0_felt_20 rfl (lv_at hl 2 rfl) ?_
      refine pS_call (n := 1) hC hl.1 (tX0_isFar l d ) (lw_S q854 q855 q60 q856) rfl rfl (by decide +kernel) ⟨by decide, by decide⟩ rfl rfl (Nat.le_of_ble_eq_true rfl) dX0_felt_21 ⟨Nat.zero_le _, Nat.zero_le _⟩ ?_
      refine k_beq (tgt := 40) hC dX0_felt_24 (by decide) (fun c24 => ?_) (fun c24 => ?_)
      · refine lv_ldc hC.1 hC.2.1 hC.2.2.2.1 (hC.2.2.2.2 _ q337) dX0_felt_40 ?_
        exact M_iret hC hlk hw gGo.rf ⟨by simp only [gN]; omega, by simp only [gN]; omega⟩ hr rfl (⟨_, _, rfl, congrArg (fun z => some (Value.int z)) (by simp [mX6_felt, h1, bI_t0, bI_f0, inc01, inc11, inc03, inc13, inc23, inc10, inc20, inc21, c7, c17, c24, ix_nI (show k < 2147483648 by omega), blowIn_19]), pOff.rf⟩) dX0_felt_42
      · obtain ⟨e, he, rfl⟩ := inB_nat (n := 40) (by decide) c24
        refine lv_aload_n hC.1 hC.2.1 dX0_felt_27 rfl (lv_at hl 0 rfl) ?_
        refine lv_iload_n hC.1 hC.2.1 dX0_felt_28 rfl (lv_at hl 2 rfl) ?_
        refine M_V (n := 1) (C := RX0) (T := TX0) hC hl.1 hK hX hw (by omega) h0.k0 (by decide) rfl (tX0_in l N ad K I R e (G 6) b (h0) (by omega)) (lw_V q858 q860 qs20 q60 q861) (by decide +kernel) ⟨by decide, by decide⟩ rfl rfl (Nat.le_of_ble_eq_true rfl) dX0_felt_29 ⟨by simp only [gN]; omega, by simp only [gN]; omega⟩ ?_
        rintro _ N2 ad2 K2 I29 R29 H locs ⟨I3, R3, e3, rfl, o29, a29, f29, g29⟩ hg hw
        cases e3
        dsimp only at o29 a29 f29 g29
        have w29 := (h0).off o29
        refine p_ga hC hK hw w29.p17 6 4 w29.p17.2.2.2.2.2.1 (by decide) rfl q140 rfl dX0_felt_32 ?_
        refine lv_iload_n hC.1 hC.2.1 dX0_felt_35 rfl (lv_at hl 1 rfl) ?_
        refine g_ldi hC hK hw w29.p17.1.2.2.2.2.1 w29.p17.2.1.2.2.2.2.1 (by omega) (by omega) (v := ((bl (stN (G 6) e)).1 k)) (by rw [f29]) dX0_felt_36 ?_
        refine lv_goto (tgt := 42) hC.1 hC.2.1 dX0_felt_37 (by decide) ?_
        exact M_iret hC hlk hw gGo.rf ⟨by simp only [gN]; omega, by simp only [gN]; omega⟩ hr rfl (⟨_, _, rfl, congrArg (fun z => some (Value.int z)) (by simp [mX6_felt, h1, bI_t0, bI_f0, inc01, inc11, inc03, inc13, inc23, inc10, inc20, inc21, c7, c17, c24, ix_nI (show k < 2147483648 by omega), ix_nI (show e < 2147483648 by omega), blowIn_19]), o29⟩) dX0_felt_42
  · refine lv_ldc hC.1 hC.2.1 hC.2.2.2.1 (hC.2.2.2.2 _ q703) dX0_felt_10 ?_
    exact M_iret hC hlk hw gGo.rf ⟨by simp only [gN]; omega, by simp only [gN]; omega⟩ hr rfl (⟨_, _, rfl, congrArg (fun z => some (Value.int z)) (by simp [mX6_felt, h1, bI_t0, bI_f0, inc01, inc11, inc03, inc13, inc23, inc10, inc20, inc21, c7, blowIn_19]), pOff.rf⟩) dX0_felt_12

set_option maxHeartbeats 800000 in
theorem tX0_leaves (l : Launch) (N : Nat) (ad : Nat → Nat) (K : gK) (I : mG) (R : gR) (y : Int32) (d : Int32) (G : mG) (b : Bool) (h0 : wB N K I R (G 6) b) (h1 : G 0 4 = bI b) : gA l yX0_leaves (ws_ yX0_leaves cX0_leaves 3 (some FieldType.int)) ({ frames := 6, cells := 0, slots := 0, locals := 136 } : Room) [.ref (ad 0), .int y, .int d] N ad K I R (fun v S => v = some (.int (mX6_leaves G y d).1) ∧ pOff 17 I S.1 R S.2) := by
  refine gM.of (by decide) (Nat.le_of_ble_eq_true rfl) ?_
  intro D dA p e s m args below meth cd ls hC hlk hr hin hK hX hl hw
  have hl : lv_has ls 3 [(0, .ref (ad 0)), (1, .int y), (2, .int d)] := hl
  have hge := h0.ge
  refine lv_aload_n hC.1 hC.2.1 dX0_leaves_0 rfl (lv_at hl 0 rfl) ?_
  refine x_ga hC hK hw (by omega) h0.k0 4 11 h0.r4 (by decide) rfl q206 rfl dX0_leaves_1 ?_
  refine p_gi hC hK hw h0.ps.1 0 (by decide) rfl q124 rfl (v := (bI b)) (h0.told) dX0_leaves_4 ?_
  refine k_bne (tgt := 13) hC dX0_leaves_7 (by decide) (fun c7 => ?_) (fun c7 => ?_)
  · refine lv_iload_n hC.1 hC.2.1 dX0_leaves_13 rfl (lv_at hl 1 rfl) ?_
    refine pS_call (n := 1) hC hl.1 (tX0_isSide l y ) (lw_S q753 q754 q60 q755) rfl rfl (by decide +kernel) ⟨by decide, by decide⟩ rfl rfl (Nat.le_of_ble_eq_true rfl) dX0_leaves_14 ⟨Nat.zero_le _, Nat.zero_le _⟩ ?_
    refine k_beq (tgt := 40) hC dX0_leaves_17 (by decide) (fun c17 => ?_) (fun c17 => ?_)
    · refine lv_ldc hC.1 hC.2.1 hC.2.2.2.1 (hC.2.2.2.2 _ q337) dX0_leaves_40 ?_
      exact M_iret hC hlk hw gGo.rf ⟨by simp only [gN]; omega, by simp only [gN]; omega⟩ hr rfl (⟨_, _, rfl, congrArg (fun z => some (Value.int z)) (by simp [mX6_leaves, h1, bI_t0, bI_f0, inc01, inc11, inc03, inc13, inc23, inc10, inc20, inc21, c7, c17, blowIn_19]), pOff.rf⟩) dX0_leaves_42
    · obtain ⟨k, hk, rfl⟩ := inB_nat (n := 3) (by decide) c17
      refine lv_iload_n hC.1 hC.2.1 dX0_leaves_20 rfl (lv_at hl 2 rfl) ?_
      refine pS_call (n := 1) hC hl.1 (tX0_isFar l d ) (lw_S q854 q855 q60 q856) rfl rfl (by decide +kernel) ⟨by decide, by decide⟩ rfl rfl (Nat.le_of_ble_eq_true rfl) dX0_leaves_21 ⟨Nat.zero_le _, Nat.zero_le _⟩ ?_
      refine k_beq (tgt := 40) hC dX0_leaves_24 (by decide) (fun c24 => ?_) (fun c24 => ?_)
      · refine lv_ldc hC.1 hC.2.1 hC.2.2.2.1 (hC.2.2.2.2 _ q337) dX0_leaves_40 ?_
        exact M_iret hC hlk hw gGo.rf ⟨by simp only [gN]; omega, by simp only [gN]; omega⟩ hr rfl (⟨_, _, rfl, congrArg (fun z => some (Value.int z)) (by simp [mX6_leaves, h1, bI_t0, bI_f0, inc01, inc11, inc03, inc13, inc23, inc10, inc20, inc21, c7, c17, c24, ix_nI (show k < 2147483648 by omega), blowIn_19]), pOff.rf⟩) dX0_leaves_42
      · obtain ⟨e, he, rfl⟩ := inB_nat (n := 40) (by decide) c24
        refine lv_aload_n hC.1 hC.2.1 dX0_leaves_27 rfl (lv_at hl 0 rfl) ?_
        refine lv_iload_n hC.1 hC.2.1 dX0_leaves_28 rfl (lv_at hl 2 rfl) ?_
        refine M_V (n := 1) (C := RX0) (T := TX0) hC hl.1 hK hX hw (by omega) h0.k0 (by decide) rfl (tX0_in l N ad K I R e (G 6) b (h0) (by omega)) (lw_V q858 q860 qs20 q60 q861) (by decide +kernel) ⟨by decide, by decide⟩ rfl rfl (Nat.le_of_ble_eq_true rfl) dX0_leaves_29 ⟨by simp only [gN]; omega, by simp only [gN]; omega⟩ ?_
        rintro _ N2 ad2 K2 I29 R29 H locs ⟨I3, R3, e3, rfl, o29, a29, f29, g29⟩ hg hw
        cases e3
        dsimp only at o29 a29 f29 g29
        have w29 := (h0).off o29
        refine p_ga hC hK hw w29.p17 7 5 w29.p17.2.2.2.2.2.2 (by decide) rfl q142 rfl dX0_leaves_32 ?_
        refine lv_iload_n hC.1 hC.2.1 dX0_leaves_35 rfl (lv_at hl 1 rfl) ?_
        refine g_ldi hC hK hw w29.p17.1.2.2.2.2.2 w29.p17.2.1.2.2.2.2.2 (by omega) (by omega) (v := ((bl (stN (G 6) e)).1 (16 + k))) (by rw [g29]) dX0_leaves_36 ?_
        refine lv_goto (tgt := 42) hC.1 hC.2.1 dX0_leaves_37 (by decide) ?_
        exact M_iret hC hlk hw gGo.rf ⟨by simp only [gN]; omega, by simp only [gN]; omega⟩ hr rfl (⟨_, _, rfl, congrArg (fun z => some (Value.int z)) (by simp [mX6_leaves, h1, bI_t0, bI_f0, inc01, inc11, inc03, inc13, inc23, inc10, inc20, inc21, c7, c17, c24, ix_nI (show k < 2147483648 by omega), ix_nI (show e < 2147483648 by omega), blowIn_19]), o29⟩) dX0_leaves_42
  · refine lv_ldc hC.1 hC.2.1 hC.2.2.2.1 (hC.2.2.2.2 _ q703) dX0_leaves_10 ?_
    exact M_iret hC hlk hw gGo.rf ⟨by simp only [gN]; omega, by simp only [gN]; omega⟩ hr rfl (⟨_, _, rfl, congrArg (fun z => some (Value.int z)) (by simp [mX6_leaves, h1, bI_t0, bI_f0, inc01, inc11, inc03, inc13, inc23, inc10, inc20, inc21, c7, blowIn_19]), pOff.rf⟩) dX0_leaves_12

set_option maxHeartbeats 800000 in
theorem tX0_lost (l : Launch) (N : Nat) (ad : Nat → Nat) (K : gK) (I : mG) (R : gR) (d : Int32) (G : mG) (b : Bool) (h0 : wB N K I R (G 6) b) (h1 : G 0 4 = bI b) : gA l yX0_lost (ws_ yX0_lost cX0_lost 2 (some FieldType.int)) ({ frames := 6, cells := 0, slots := 0, locals := 136 } : Room) [.ref (ad 0), .int d] N ad K I R (fun v S => v = some (.int (mX6_lost G d).1) ∧ pOff 17 I S.1 R S.2) := by
  refine gM.of (by decide) (Nat.le_of_ble_eq_true rfl) ?_
  intro D dA p e s m args below meth cd ls hC hlk hr hin hK hX hl hw
  have hl : lv_has ls 2 [(0, .ref (ad 0)), (1, .int d)] := hl
  have hge := h0.ge
  refine lv_aload_n hC.1 hC.2.1 dX0_lost_0 rfl (lv_at hl 0 rfl) ?_
  refine x_ga hC hK hw (by omega) h0.k0 4 11 h0.r4 (by decide) rfl q206 rfl dX0_lost_1 ?_
  refine p_gi hC hK hw h0.ps.1 0 (by decide) rfl q124 rfl (v := (bI b)) (h0.told) dX0_lost_4 ?_
  refine k_bne (tgt := 13) hC dX0_lost_7 (by decide) (fun c7 => ?_) (fun c7 => ?_)
  · refine lv_iload_n hC.1 hC.2.1 dX0_lost_13 rfl (lv_at hl 1 rfl) ?_
    refine pS_call (n := 1) hC hl.1 (tX0_isFar l d ) (lw_S q854 q855 q60 q856) rfl rfl (by decide +kernel) ⟨by decide, by decide⟩ rfl rfl (Nat.le_of_ble_eq_true rfl) dX0_lost_14 ⟨Nat.zero_le _, Nat.zero_le _⟩ ?_
    refine k_beq (tgt := 31) hC dX0_lost_17 (by decide) (fun c17 => ?_) (fun c17 => ?_)
    · refine lv_ldc hC.1 hC.2.1 hC.2.2.2.1 (hC.2.2.2.2 _ q337) dX0_lost_31 ?_
      exact M_iret hC hlk hw gGo.rf ⟨by simp only [gN]; omega, by simp only [gN]; omega⟩ hr rfl (⟨_, _, rfl, congrArg (fun z => some (Value.int z)) (by simp [mX6_lost, h1, bI_t0, bI_f0, inc01, inc11, inc03, inc13, inc23, inc10, inc20, inc21, c7, c17, blowIn_0]), pOff.rf⟩) dX0_lost_33
    · obtain ⟨e, he, rfl⟩ := inB_nat (n := 40) (by decide) c17
      refine lv_aload_n hC.1 hC.2.1 dX0_lost_20 rfl (lv_at hl 0 rfl) ?_
      refine lv_iload_n hC.1 hC.2.1 dX0_lost_21 rfl (lv_at hl 1 rfl) ?_
      refine M_V (n := 1) (C := RX0) (T := TX0) hC hl.1 hK hX hw (by omega) h0.k0 (by decide) rfl (tX0_in l N ad K I R e (G 6) b (h0) (by omega)) (lw_V q858 q860 qs20 q60 q861) (by decide +kernel) ⟨by decide, by decide⟩ rfl rfl (Nat.le_of_ble_eq_true rfl) dX0_lost_22 ⟨by simp only [gN]; omega, by simp only [gN]; omega⟩ ?_
      rintro _ N2 ad2 K2 I22 R22 H locs ⟨I3, R3, e3, rfl, o22, a22, f22, g22⟩ hg hw
      cases e3
      dsimp only at o22 a22 f22 g22
      have w22 := (h0).off o22
      refine p_gi hC hK hw w22.p17 8 (by decide) rfl q144 rfl (v := ((bl (stN (G 6) e)).2)) (a22) dX0_lost_25 ?_
      refine lv_goto (tgt := 33) hC.1 hC.2.1 dX0_lost_28 (by decide) ?_
      exact M_iret hC hlk hw gGo.rf ⟨by simp only [gN]; omega, by simp only [gN]; omega⟩ hr rfl (⟨_, _, rfl, congrArg (fun z => some (Value.int z)) (by simp [mX6_lost, h1, bI_t0, bI_f0, inc01, inc11, inc03, inc13, inc23, inc10, inc20, inc21, c7, c17, ix_nI (show e < 2147483648 by omega), blowIn_0]), o22⟩) dX0_lost_33
  · refine lv_ldc hC.1 hC.2.1 hC.2.2.2.1 (hC.2.2.2.2 _ q703) dX0_lost_10 ?_
    exact M_iret hC hlk hw gGo.rf ⟨by simp only [gN]; omega, by simp only [gN]; omega⟩ hr rfl (⟨_, _, rfl, congrArg (fun z => some (Value.int z)) (by simp [mX6_lost, h1, bI_t0, bI_f0, inc01, inc11, inc03, inc13, inc23, inc10, inc20, inc21, c7, blowIn_0]), pOff.rf⟩) dX0_lost_12

set_option maxHeartbeats 800000 in
theorem tX0_wind (l : Launch) (N : Nat) (ad : Nat → Nat) (K : gK) (I : mG) (R : gR) (y : Int32) (what : Int32) (G : mG) (b : Bool) (h0 : wB N K I R (G 6) b) (h1 : G 0 4 = bI b) : gA l yX0_wind (ws_ yX0_wind cX0_wind 3 (some FieldType.int)) ({ frames := 2, cells := 0, slots := 0, locals := 45 } : Room) [.ref (ad 0), .int y, .int what] N ad K I R (fun v S => v = some (.int (mX6_wind G y what).1) ∧ pOff 17 I S.1 R S.2) := by
  refine gM.of (by decide) (Nat.le_of_ble_eq_true rfl) ?_
  intro D dA p e s m args below meth cd ls hC hlk hr hin hK hX hl hw
  have hl : lv_has ls 3 [(0, .ref (ad 0)), (1, .int y), (2, .int what)] := hl
  have hge := h0.ge
  refine lv_aload_n hC.1 hC.2.1 dX0_wind_0 rfl (lv_at hl 0 rfl) ?_
  refine x_ga hC hK hw (by omega) h0.k0 4 11 h0.r4 (by decide) rfl q206 rfl dX0_wind_1 ?_
  refine p_gi hC hK hw h0.ps.1 0 (by decide) rfl q124 rfl (v := (bI b)) (h0.told) dX0_wind_4 ?_
  refine k_bne (tgt := 13) hC dX0_wind_7 (by decide) (fun c7 => ?_) (fun c7 => ?_)
  · refine lv_iload_n hC.1 hC.2.1 dX0_wind_13 rfl (lv_at hl 1 rfl) ?_
    refine pS_call (n := 1) hC hl.1 (tX0_isSide l y ) (lw_S q753 q754 q60 q755) rfl rfl (by decide +kernel) ⟨by decide, by decide⟩ rfl rfl (Nat.le_of_ble_eq_true rfl) dX0_wind_14 ⟨Nat.zero_le _, Nat.zero_le _⟩ ?_
    refine k_beq (tgt := 27) hC dX0_wind_17 (by decide) (fun c17 => ?_) (fun c17 => ?_)
    · refine lv_ldc hC.1 hC.2.1 hC.2.2.2.1 (hC.2.2.2.2 _ q337) dX0_wind_27 ?_
      exact M_iret hC hlk hw gGo.rf ⟨by simp only [gN]; omega, by simp only [gN]; omega⟩ hr rfl (⟨_, _, rfl, congrArg (fun z => some (Value.int z)) (by simp [mX6_wind, h1, bI_t0, bI_f0, inc01, inc11, inc03, inc13, inc23, inc10, inc20, inc21, c7, c17]), pOff.rf⟩) dX0_wind_29
    · obtain ⟨k, hk, rfl⟩ := inB_nat (n := 3) (by decide) c17
      refine lv_iload_n hC.1 hC.2.1 dX0_wind_20 rfl (lv_at hl 2 rfl) ?_
      refine pS_call (n := 1) hC hl.1 (tX0_isHalf l what ) (lw_S q847 q848 q60 q849) rfl rfl (by decide +kernel) ⟨by decide, by decide⟩ rfl rfl (Nat.le_of_ble_eq_true rfl) dX0_wind_21 ⟨Nat.zero_le _, Nat.zero_le _⟩ ?_
      refine k_bne (tgt := 30) hC dX0_wind_24 (by decide) (fun c24 => ?_) (fun c24 => ?_)
      · refine lv_iload_n hC.1 hC.2.1 dX0_wind_30 rfl (lv_at hl 2 rfl) ?_
        refine lv_if_ne (tgt := 46) hC.1 hC.2.1 dX0_wind_31 (by decide) (fun c31 => ?_) (fun c31 => ?_)
        · refine lv_aload_n hC.1 hC.2.1 dX0_wind_46 rfl (lv_at hl 0 rfl) ?_
          refine x_ga hC hK hw (by omega) h0.k0 4 11 h0.r4 (by decide) rfl q206 rfl dX0_wind_47 ?_
          refine p_ga hC hK hw h0.ps.1 3 2 h0.ps.1.2.2.2.1 (by decide) rfl q132 rfl dX0_wind_50 ?_
          refine lv_iload_n hC.1 hC.2.1 dX0_wind_53 rfl (lv_at hl 1 rfl) ?_
          refine g_ldi hC hK hw h0.ps.1.1.2.2.1 h0.ps.1.2.1.2.2.1 (by omega) (by omega) (v := (G 6 (5 + k))) ((h0.ps.2.2.1 k (by omega)).2) dX0_wind_54 ?_
          exact M_iret hC hlk hw gGo.rf ⟨by simp only [gN]; omega, by simp only [gN]; omega⟩ hr rfl (⟨_, _, rfl, congrArg (fun z => some (Value.int z)) (by simp [mX6_wind, h1, bI_t0, bI_f0, inc01, inc11, inc03, inc13, inc23, inc10, inc20, inc21, c7, c17, c24, c31, ix_nI (show k < 2147483648 by omega)]), pOff.rf⟩) dX0_wind_55
        · refine lv_aload_n hC.1 hC.2.1 dX0_wind_34 rfl (lv_at hl 0 rfl) ?_
          refine x_ga hC hK hw (by omega) h0.k0 4 11 h0.r4 (by decide) rfl q206 rfl dX0_wind_35 ?_
          refine p_ga hC hK hw h0.ps.1 2 1 h0.ps.1.2.2.1 (by decide) rfl q129 rfl dX0_wind_38 ?_
          refine lv_iload_n hC.1 hC.2.1 dX0_wind_41 rfl (lv_at hl 1 rfl) ?_
          refine g_ldi hC hK hw h0.ps.1.1.2.1 h0.ps.1.2.1.2.1 (by omega) (by omega) (v := (G 6 (1 + k))) ((h0.ps.2.2.1 k (by omega)).1) dX0_wind_42 ?_
          refine lv_goto (tgt := 55) hC.1 hC.2.1 dX0_wind_43 (by decide) ?_
          exact M_iret hC hlk hw gGo.rf ⟨by simp only [gN]; omega, by simp only [gN]; omega⟩ hr rfl (⟨_, _, rfl, congrArg (fun z => some (Value.int z)) (by simp [mX6_wind, h1, bI_t0, bI_f0, inc01, inc11, inc03, inc13, inc23, inc10, inc20, inc21, c7, c17, c24, c31, ix_nI (show k < 2147483648 by omega)]), pOff.rf⟩) dX0_wind_55
      · refine lv_ldc hC.1 hC.2.1 hC.2.2.2.1 (hC.2.2.2.2 _ q337) dX0_wind_27 ?_
        exact M_iret hC hlk hw gGo.rf ⟨by simp only [gN]; omega, by simp only [gN]; omega⟩ hr rfl (⟨_, _, rfl, congrArg (fun z => some (Value.int z)) (by simp [mX6_wind, h1, bI_t0, bI_f0, inc01, inc11, inc03, inc13, inc23, inc10, inc20, inc21, c7, c17, c24, ix_nI (show k < 2147483648 by omega)]), pOff.rf⟩) dX0_wind_29
  · refine lv_ldc hC.1 hC.2.1 hC.2.2.2.1 (hC.2.2.2.2 _ q703) dX0_wind_10 ?_
    exact M_iret hC hlk hw gGo.rf ⟨by simp only [gN]; omega, by simp only [gN]; omega⟩ hr rfl (⟨_, _, rfl, congrArg (fun z => some (Value.int z)) (by simp [mX6_wind, h1, bI_t0, bI_f0, inc01, inc11, inc03, inc13, inc23, inc10, inc20, inc21, c7]), pOff.rf⟩) dX0_wind_12

set_option maxHeartbeats 800000 in
theorem tX0_kind (l : Launch) (N : Nat) (ad : Nat → Nat) (K : gK) (I : mG) (R : gR) (cell : Int32) (G : mG) (b : Bool) (h0 : wB N K I R (G 6) b) (h1 : G 0 4 = bI b) : gA l yX0_kind (ws_ yX0_kind cX0_kind 2 (some FieldType.int)) ({ frames := 2, cells := 0, slots := 0, locals := 45 } : Room) [.ref (ad 0), .int cell] N ad K I R (fun v S => v = some (.int (mX6_kind G cell).1) ∧ pOff 17 I S.1 R S.2) := by
  refine gM.of (by decide) (Nat.le_of_ble_eq_true rfl) ?_
  intro D dA p e s m args below meth cd ls hC hlk hr hin hK hX hl hw
  have hl : lv_has ls 2 [(0, .ref (ad 0)), (1, .int cell)] := hl
  have hge := h0.ge
  refine lv_aload_n hC.1 hC.2.1 dX0_kind_0 rfl (lv_at hl 0 rfl) ?_
  refine x_ga hC hK hw (by omega) h0.k0 4 11 h0.r4 (by decide) rfl q206 rfl dX0_kind_1 ?_
  refine p_gi hC hK hw h0.ps.1 0 (by decide) rfl q124 rfl (v := (bI b)) (h0.told) dX0_kind_4 ?_
  refine k_bne (tgt := 13) hC dX0_kind_7 (by decide) (fun c7 => ?_) (fun c7 => ?_)
  · refine lv_iload_n hC.1 hC.2.1 dX0_kind_13 rfl (lv_at hl 1 rfl) ?_
    refine pS_call (n := 1) hC hl.1 (tX0_isCell l cell ) (lw_S q704 q705 q60 q706) rfl rfl (by decide +kernel) ⟨by decide, by decide⟩ rfl rfl (Nat.le_of_ble_eq_true rfl) dX0_kind_14 ⟨Nat.zero_le _, Nat.zero_le _⟩ ?_
    refine k_bne (tgt := 23) hC dX0_kind_17 (by decide) (fun c17 => ?_) (fun c17 => ?_)
    · obtain ⟨k, hk, rfl⟩ := inB_nat (n := 15) (by decide) c17
      have gw := h0.ps.wk (c := k) (by omega)
      rcases (h0.ps.2.2.2 k (by omega)).2.2.2 with ⟨z1, z2⟩ | ⟨w, kk, z1, z2, z3, z4, z5, z6, z7, z8⟩
      · refine lv_aload_n hC.1 hC.2.1 dX0_kind_23 rfl (lv_at hl 0 rfl) ?_
        refine x_ga hC hK hw (by omega) h0.k0 4 11 h0.r4 (by decide) rfl q206 rfl dX0_kind_24 ?_
        refine lv_iload_n hC.1 hC.2.1 dX0_kind_27 rfl (lv_at hl 1 rfl) ?_
        refine g_calli (n := 1) (C := RX2) (T := TX2) hC hl.1 hK hX hw (h0.ps.1).1.1 (h0.ps.1).2.1.1 (by decide) rfl (tX2_has l (List.range N) ad K I R 11 k (h0.ps.1) (by omega)) (lw_V q713 q644 q645 q62 q646) rfl rfl (by decide +kernel) ⟨by decide, by decide⟩ rfl rfl (Nat.le_of_ble_eq_true rfl) dX0_kind_28 ⟨Nat.zero_le _, Nat.zero_le _⟩ ?_
        rintro r_2 I2 R2 H locs ⟨hr2, hS2⟩ hw
        rw [hr2]
        replace hw := hw.eq (Prod.mk.inj hS2).1 (Prod.mk.inj hS2).2
        clear hS2
        refine k_beq (tgt := 49) hC dX0_kind_31 (by decide) (fun c31 => ?_) (fun c31 => ?_)
        · refine lv_ldc hC.1 hC.2.1 hC.2.2.2.1 (hC.2.2.2.2 _ q841) dX0_kind_49 ?_
          exact M_iret hC hlk hw gGo.rf ⟨by simp only [gN]; omega, by simp only [gN]; omega⟩ hr rfl (⟨_, _, rfl, congrArg (fun z => some (Value.int z)) (by simp [mX6_kind, h1, bI_t0, bI_f0, inc01, inc11, inc03, inc13, inc23, inc10, inc20, inc21, c7, c17, c31, ix_nI (show k < 2147483648 by omega), gw, z1]), pOff.rf⟩) dX0_kind_51
        · exact absurd c31 (by rw [z1]; simp)
      · refine lv_aload_n hC.1 hC.2.1 dX0_kind_23 rfl (lv_at hl 0 rfl) ?_
        refine x_ga hC hK hw (by omega) h0.k0 4 11 h0.r4 (by decide) rfl q206 rfl dX0_kind_24 ?_
        refine lv_iload_n hC.1 hC.2.1 dX0_kind_27 rfl (lv_at hl 1 rfl) ?_
        refine g_calli (n := 1) (C := RX2) (T := TX2) hC hl.1 hK hX hw (h0.ps.1).1.1 (h0.ps.1).2.1.1 (by decide) rfl (tX2_has l (List.range N) ad K I R 11 k (h0.ps.1) (by omega)) (lw_V q713 q644 q645 q62 q646) rfl rfl (by decide +kernel) ⟨by decide, by decide⟩ rfl rfl (Nat.le_of_ble_eq_true rfl) dX0_kind_28 ⟨Nat.zero_le _, Nat.zero_le _⟩ ?_
        rintro r_2 I2 R2 H locs ⟨hr2, hS2⟩ hw
        rw [hr2]
        replace hw := hw.eq (Prod.mk.inj hS2).1 (Prod.mk.inj hS2).2
        clear hS2
        refine k_beq (tgt := 49) hC dX0_kind_31 (by decide) (fun c31 => ?_) (fun c31 => ?_)
        · exact absurd c31 (by rw [z1]; simp)
        · refine lv_aload_n hC.1 hC.2.1 dX0_kind_34 rfl (lv_at hl 0 rfl) ?_
          refine x_ga hC hK hw (by omega) h0.k0 4 11 h0.r4 (by decide) rfl q206 rfl dX0_kind_35 ?_
          refine p_ga hC hK hw h0.ps.1 4 3 h0.ps.1.2.2.2.2.1 (by decide) rfl q135 rfl dX0_kind_38 ?_
          refine lv_iload_n hC.1 hC.2.1 dX0_kind_41 rfl (lv_at hl 1 rfl) ?_
          refine g_ldr (t := 2) (v := .ref (ad w)) hC hK hw h0.ps.1.1.2.2.2.1 h0.ps.1.2.1.2.2.2.1 rfl (by omega) (by omega) (by rw [z1]; rfl) dX0_kind_42 ?_
          refine w_kind hC hl.1 hK hX hw z2 z5 ⟨z3, z4⟩ ⟨by decide, by decide⟩ (Nat.le_of_ble_eq_true rfl) dX0_kind_43 ⟨Nat.zero_le _, Nat.zero_le _⟩ (fun H locs hw => ?_)
          refine lv_goto (tgt := 51) hC.1 hC.2.1 dX0_kind_46 (by decide) ?_
          exact M_iret hC hlk hw gGo.rf ⟨by simp only [gN]; omega, by simp only [gN]; omega⟩ hr rfl (⟨_, _, rfl, congrArg (fun z => some (Value.int z)) (by simp [mX6_kind, h1, bI_t0, bI_f0, inc01, inc11, inc03, inc13, inc23, inc10, inc20, inc21, c7, c17, c31, ix_nI (show k < 2147483648 by omega), gw, z1, z6, z8]), pOff.rf⟩) dX0_kind_51
    · refine lv_ldc hC.1 hC.2.1 hC.2.2.2.1 (hC.2.2.2.2 _ q337) dX0_kind_20 ?_
      exact M_iret hC hlk hw gGo.rf ⟨by simp only [gN]; omega, by simp only [gN]; omega⟩ hr rfl (⟨_, _, rfl, congrArg (fun z => some (Value.int z)) (by simp [mX6_kind, h1, bI_t0, bI_f0, inc01, inc11, inc03, inc13, inc23, inc10, inc20, inc21, c7, c17]), pOff.rf⟩) dX0_kind_22
  · refine lv_ldc hC.1 hC.2.1 hC.2.2.2.1 (hC.2.2.2.2 _ q703) dX0_kind_10 ?_
    exact M_iret hC hlk hw gGo.rf ⟨by simp only [gN]; omega, by simp only [gN]; omega⟩ hr rfl (⟨_, _, rfl, congrArg (fun z => some (Value.int z)) (by simp [mX6_kind, h1, bI_t0, bI_f0, inc01, inc11, inc03, inc13, inc23, inc10, inc20, inc21, c7]), pOff.rf⟩) dX0_kind_12

set_option maxHeartbeats 800000 in
theorem tX0_cell (l : Launch) (N : Nat) (ad : Nat → Nat) (K : gK) (I : mG) (R : gR) (cell : Int32) (what : Int32) (G : mG) (b : Bool) (h0 : wB N K I R (G 6) b) (h1 : G 0 4 = bI b) : gA l yX0_cell (ws_ yX0_cell cX0_cell 3 (some FieldType.int)) ({ frames := 5, cells := 0, slots := 0, locals := 122 } : Room) [.ref (ad 0), .int cell, .int what] N ad K I R (fun v S => v = some (.int (mX6_cell G cell what).1) ∧ pOff 17 I S.1 R S.2) := by
  refine gM.of (by decide) (Nat.le_of_ble_eq_true rfl) ?_
  intro D dA p e s m args below meth cd ls hC hlk hr hin hK hX hl hw
  have hl : lv_has ls 3 [(0, .ref (ad 0)), (1, .int cell), (2, .int what)] := hl
  have hge := h0.ge
  refine lv_aload_n hC.1 hC.2.1 dX0_cell_0 rfl (lv_at hl 0 rfl) ?_
  refine x_ga hC hK hw (by omega) h0.k0 4 11 h0.r4 (by decide) rfl q206 rfl dX0_cell_1 ?_
  refine p_gi hC hK hw h0.ps.1 0 (by decide) rfl q124 rfl (v := (bI b)) (h0.told) dX0_cell_4 ?_
  refine k_bne (tgt := 13) hC dX0_cell_7 (by decide) (fun c7 => ?_) (fun c7 => ?_)
  · refine lv_iload_n hC.1 hC.2.1 dX0_cell_13 rfl (lv_at hl 1 rfl) ?_
    refine pS_call (n := 1) hC hl.1 (tX0_isCell l cell ) (lw_S q704 q705 q60 q706) rfl rfl (by decide +kernel) ⟨by decide, by decide⟩ rfl rfl (Nat.le_of_ble_eq_true rfl) dX0_cell_14 ⟨Nat.zero_le _, Nat.zero_le _⟩ ?_
    refine k_beq (tgt := 32) hC dX0_cell_17 (by decide) (fun c17 => ?_) (fun c17 => ?_)
    · refine lv_ldc hC.1 hC.2.1 hC.2.2.2.1 (hC.2.2.2.2 _ q337) dX0_cell_32 ?_
      exact M_iret hC hlk hw gGo.rf ⟨by simp only [gN]; omega, by simp only [gN]; omega⟩ hr rfl (⟨_, _, rfl, congrArg (fun z => some (Value.int z)) (by simp [mX6_cell, h1, bI_t0, bI_f0, inc01, inc11, inc03, inc13, inc23, inc10, inc20, inc21, c7, c17]), pOff.rf⟩) dX0_cell_34
    · obtain ⟨k, hk, rfl⟩ := inB_nat (n := 15) (by decide) c17
      refine lv_iload_n hC.1 hC.2.1 dX0_cell_20 rfl (lv_at hl 2 rfl) ?_
      refine lv_i2l hC.1 hC.2.1 dX0_cell_21 rfl ?_
      refine lv_lconst (v := 0) hC.1 hC.2.1 dX0_cell_22 (by decide) ?_
      refine lv_ldc2 hC.1 hC.2.1 hC.2.2.2.1 (hC.2.2.2.2 _ q756) dX0_cell_23 ?_
      refine pS_call (n := 3) hC hl.1 (tX0_isInI l what 0 (nI 3)) (lw_S q333 q334 q60 q335) rfl rfl (by decide +kernel) ⟨by decide, by decide⟩ rfl rfl (Nat.le_of_ble_eq_true rfl) dX0_cell_26 ⟨Nat.zero_le _, Nat.zero_le _⟩ ?_
      refine k_bne (tgt := 35) hC dX0_cell_29 (by decide) (fun c29 => ?_) (fun c29 => ?_)
      · refine lv_iload_n hC.1 hC.2.1 dX0_cell_35 rfl (lv_at hl 2 rfl) ?_
        refine lv_if_ne (tgt := 49) hC.1 hC.2.1 dX0_cell_36 (by decide) (fun c36 => ?_) (fun c36 => ?_)
        · have gw := h0.ps.wk (c := k) (by omega)
          rcases (h0.ps.2.2.2 k (by omega)).2.2.2 with ⟨z1, z2⟩ | ⟨w, kk, z1, z2, z3, z4, z5, z6, z7, z8⟩
          · refine lv_aload_n hC.1 hC.2.1 dX0_cell_49 rfl (lv_at hl 0 rfl) ?_
            refine x_ga hC hK hw (by omega) h0.k0 4 11 h0.r4 (by decide) rfl q206 rfl dX0_cell_50 ?_
            refine lv_iload_n hC.1 hC.2.1 dX0_cell_53 rfl (lv_at hl 1 rfl) ?_
            refine g_calli (n := 1) (C := RX2) (T := TX2) hC hl.1 hK hX hw (h0.ps.1).1.1 (h0.ps.1).2.1.1 (by decide) rfl (tX2_has l (List.range N) ad K I R 11 k (h0.ps.1) (by omega)) (lw_V q713 q644 q645 q62 q646) rfl rfl (by decide +kernel) ⟨by decide, by decide⟩ rfl rfl (Nat.le_of_ble_eq_true rfl) dX0_cell_54 ⟨Nat.zero_le _, Nat.zero_le _⟩ ?_
            rintro r_2 I2 R2 H locs ⟨hr2, hS2⟩ hw
            rw [hr2]
            replace hw := hw.eq (Prod.mk.inj hS2).1 (Prod.mk.inj hS2).2
            clear hS2
            refine k_bne (tgt := 63) hC dX0_cell_57 (by decide) (fun c57 => ?_) (fun c57 => ?_)
            · exact absurd c57 (by rw [z1]; simp)
            · refine lv_ldc hC.1 hC.2.1 hC.2.2.2.1 (hC.2.2.2.2 _ q841) dX0_cell_60 ?_
              exact M_iret hC hlk hw gGo.rf ⟨by simp only [gN]; omega, by simp only [gN]; omega⟩ hr rfl (⟨_, _, rfl, congrArg (fun z => some (Value.int z)) (by simp [mX6_cell, h1, bI_t0, bI_f0, inc01, inc11, inc03, inc13, inc23, inc10, inc20, inc21, c7, c17, c29, c36, c57, ix_nI (show k < 2147483648 by omega), gw, z1, h0.ps.opn (show k < 16 by omega)]), pOff.rf⟩) dX0_cell_62
          · refine lv_aload_n hC.1 hC.2.1 dX0_cell_49 rfl (lv_at hl 0 rfl) ?_
            refine x_ga hC hK hw (by omega) h0.k0 4 11 h0.r4 (by decide) rfl q206 rfl dX0_cell_50 ?_
            refine lv_iload_n hC.1 hC.2.1 dX0_cell_53 rfl (lv_at hl 1 rfl) ?_
            refine g_calli (n := 1) (C := RX2) (T := TX2) hC hl.1 hK hX hw (h0.ps.1).1.1 (h0.ps.1).2.1.1 (by decide) rfl (tX2_has l (List.range N) ad K I R 11 k (h0.ps.1) (by omega)) (lw_V q713 q644 q645 q62 q646) rfl rfl (by decide +kernel) ⟨by decide, by decide⟩ rfl rfl (Nat.le_of_ble_eq_true rfl) dX0_cell_54 ⟨Nat.zero_le _, Nat.zero_le _⟩ ?_
            rintro r_2 I2 R2 H locs ⟨hr2, hS2⟩ hw
            rw [hr2]
            replace hw := hw.eq (Prod.mk.inj hS2).1 (Prod.mk.inj hS2).2
            clear hS2
            refine k_bne (tgt := 63) hC dX0_cell_57 (by decide) (fun c57 => ?_) (fun c57 => ?_)
            · refine lv_iload_n hC.1 hC.2.1 dX0_cell_63 rfl (lv_at hl 2 rfl) ?_
              refine lv_iconst (v := (nI 1)) hC.1 hC.2.1 dX0_cell_64 (by decide) ?_
              refine lv_icmp_ne (tgt := 83) hC.1 hC.2.1 dX0_cell_65 (by decide) (fun c65 => ?_) (fun c65 => ?_)
              · refine lv_iload_n hC.1 hC.2.1 dX0_cell_83 rfl (lv_at hl 2 rfl) ?_
                refine lv_iconst (v := (nI 2)) hC.1 hC.2.1 dX0_cell_84 (by decide) ?_
                refine lv_icmp_ne (tgt := 103) hC.1 hC.2.1 dX0_cell_85 (by decide) (fun c85 => ?_) (fun c85 => ?_)
                · refine lv_aload_n hC.1 hC.2.1 dX0_cell_103 rfl (lv_at hl 0 rfl) ?_
                  refine x_ga hC hK hw (by omega) h0.k0 4 11 h0.r4 (by decide) rfl q206 rfl dX0_cell_104 ?_
                  refine p_gi hC hK hw h0.ps.1 5 (by decide) rfl q137 rfl (v := (I 11 5)) (rfl) dX0_cell_107 ?_
                  refine lv_iload_n hC.1 hC.2.1 dX0_cell_110 rfl (lv_at hl 1 rfl) ?_
                  refine lv_ishr hC.1 hC.2.1 dX0_cell_111 ?_
                  refine lv_iconst (v := (nI 1)) hC.1 hC.2.1 dX0_cell_112 (by decide) ?_
                  refine lv_iand hC.1 hC.2.1 dX0_cell_113 ?_
                  exact M_iret hC hlk hw gGo.rf ⟨by simp only [gN]; omega, by simp only [gN]; omega⟩ hr rfl (⟨_, _, rfl, congrArg (fun z => some (Value.int z)) (by simp [mX6_cell, h1, bI_t0, bI_f0, inc01, inc11, inc03, inc13, inc23, inc10, inc20, inc21, c7, c17, c29, c36, c57, c65, c85, ix_nI (show k < 2147483648 by omega), gw, z1, z6, z8, h0.ps.opn (show k < 16 by omega)]), pOff.rf⟩) dX0_cell_114
                · refine lv_aload_n hC.1 hC.2.1 dX0_cell_88 rfl (lv_at hl 0 rfl) ?_
                  refine x_ga hC hK hw (by omega) h0.k0 4 11 h0.r4 (by decide) rfl q206 rfl dX0_cell_89 ?_
                  refine p_ga hC hK hw h0.ps.1 4 3 h0.ps.1.2.2.2.2.1 (by decide) rfl q135 rfl dX0_cell_92 ?_
                  refine lv_iload_n hC.1 hC.2.1 dX0_cell_95 rfl (lv_at hl 1 rfl) ?_
                  refine g_ldr (t := 2) (v := .ref (ad w)) hC hK hw h0.ps.1.1.2.2.2.1 h0.ps.1.2.1.2.2.2.1 rfl (by omega) (by omega) (by rw [z1]; rfl) dX0_cell_96 ?_
                  refine w_holds hC hl.1 hK hX hw z2 z5 ⟨z3, z4⟩ ⟨by decide, by decide⟩ (Nat.le_of_ble_eq_true rfl) dX0_cell_97 ⟨Nat.zero_le _, Nat.zero_le _⟩ (fun H locs hw => ?_)
                  refine lv_goto (tgt := 114) hC.1 hC.2.1 dX0_cell_100 (by decide) ?_
                  exact M_iret hC hlk hw gGo.rf ⟨by simp only [gN]; omega, by simp only [gN]; omega⟩ hr rfl (⟨_, _, rfl, congrArg (fun z => some (Value.int z)) (by simp [mX6_cell, h1, bI_t0, bI_f0, inc01, inc11, inc03, inc13, inc23, inc10, inc20, inc21, c7, c17, c29, c36, c57, c65, c85, ix_nI (show k < 2147483648 by omega), gw, z1, z6, z8, h0.ps.opn (show k < 16 by omega)]), pOff.rf⟩) dX0_cell_114
              · refine lv_aload_n hC.1 hC.2.1 dX0_cell_68 rfl (lv_at hl 0 rfl) ?_
                refine x_ga hC hK hw (by omega) h0.k0 4 11 h0.r4 (by decide) rfl q206 rfl dX0_cell_69 ?_
                refine p_ga hC hK hw h0.ps.1 4 3 h0.ps.1.2.2.2.2.1 (by decide) rfl q135 rfl dX0_cell_72 ?_
                refine lv_iload_n hC.1 hC.2.1 dX0_cell_75 rfl (lv_at hl 1 rfl) ?_
                refine g_ldr (t := 2) (v := .ref (ad w)) hC hK hw h0.ps.1.1.2.2.2.1 h0.ps.1.2.1.2.2.2.1 rfl (by omega) (by omega) (by rw [z1]; rfl) dX0_cell_76 ?_
                refine w_kind hC hl.1 hK hX hw z2 z5 ⟨z3, z4⟩ ⟨by decide, by decide⟩ (Nat.le_of_ble_eq_true rfl) dX0_cell_77 ⟨Nat.zero_le _, Nat.zero_le _⟩ (fun H locs hw => ?_)
                refine lv_goto (tgt := 114) hC.1 hC.2.1 dX0_cell_80 (by decide) ?_
                exact M_iret hC hlk hw gGo.rf ⟨by simp only [gN]; omega, by simp only [gN]; omega⟩ hr rfl (⟨_, _, rfl, congrArg (fun z => some (Value.int z)) (by simp [mX6_cell, h1, bI_t0, bI_f0, inc01, inc11, inc03, inc13, inc23, inc10, inc20, inc21, c7, c17, c29, c36, c57, c65, ix_nI (show k < 2147483648 by omega), gw, z1, z6, z8, h0.ps.opn (show k < 16 by omega)]), pOff.rf⟩) dX0_cell_114
            · exact absurd c57 (by rw [z1]; simp)
        · refine lv_aload_n hC.1 hC.2.1 dX0_cell_39 rfl (lv_at hl 0 rfl) ?_
          refine M_V (n := 0) (C := RX0) (T := TX0) hC hl.1 hK hX hw (by omega) h0.k0 (by decide) rfl (tX0_blown l N ad K I R (G 6) b (h0)) (lw_V q832 q834 qs18 q60 q835) (by decide +kernel) ⟨by decide, by decide⟩ rfl rfl (Nat.le_of_ble_eq_true rfl) dX0_cell_40 ⟨by simp only [gN]; omega, by simp only [gN]; omega⟩ ?_
          rintro _ N2 ad2 K2 I40 R40 H locs ⟨I3, R3, e3, rfl, o40, a40, f40, g40⟩ hg hw
          cases e3
          dsimp only at o40 a40 f40 g40
          have w40 := (h0).off o40
          refine p_ga hC hK hw w40.p17 6 4 w40.p17.2.2.2.2.2.1 (by decide) rfl q140 rfl dX0_cell_43 ?_
          refine lv_iload_n hC.1 hC.2.1 dX0_cell_46 rfl (lv_at hl 1 rfl) ?_
          refine g_ldi hC hK hw w40.p17.1.2.2.2.2.1 w40.p17.2.1.2.2.2.2.1 (by omega) (by omega) (v := ((bl (G 6)).1 k)) (by rw [f40]) dX0_cell_47 ?_
          exact M_iret hC hlk hw gGo.rf ⟨by simp only [gN]; omega, by simp only [gN]; omega⟩ hr rfl (⟨_, _, rfl, congrArg (fun z => some (Value.int z)) (by simp [mX6_cell, h1, bI_t0, bI_f0, inc01, inc11, inc03, inc13, inc23, inc10, inc20, inc21, c7, c17, c29, c36, ix_nI (show k < 2147483648 by omega)]), o40⟩) dX0_cell_48
      · refine lv_ldc hC.1 hC.2.1 hC.2.2.2.1 (hC.2.2.2.2 _ q337) dX0_cell_32 ?_
        exact M_iret hC hlk hw gGo.rf ⟨by simp only [gN]; omega, by simp only [gN]; omega⟩ hr rfl (⟨_, _, rfl, congrArg (fun z => some (Value.int z)) (by simp [mX6_cell, h1, bI_t0, bI_f0, inc01, inc11, inc03, inc13, inc23, inc10, inc20, inc21, c7, c17, c29, ix_nI (show k < 2147483648 by omega)]), pOff.rf⟩) dX0_cell_34
  · refine lv_ldc hC.1 hC.2.1 hC.2.2.2.1 (hC.2.2.2.2 _ q703) dX0_cell_10 ?_
    exact M_iret hC hlk hw gGo.rf ⟨by simp only [gN]; omega, by simp only [gN]; omega⟩ hr rfl (⟨_, _, rfl, congrArg (fun z => some (Value.int z)) (by simp [mX6_cell, h1, bI_t0, bI_f0, inc01, inc11, inc03, inc13, inc23, inc10, inc20, inc21, c7]), pOff.rf⟩) dX0_cell_12
