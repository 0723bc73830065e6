/-! ===== WindCarver: newLane, row, set, drop (by gen/w68.py) ===== -/
set_option maxHeartbeats 800000 in
theorem tX0_newLane_r0 (l : Launch) (N : Nat) (ad : Nat → Nat) (K : gK) (I : mG) (R : gR) (n : Nat) (hn : n ≤ 40) : gMZ l yX0_newLane (ws_ yX0_newLane cX0_newLane 2 (some (FieldType.object "java/lang/Object"))) ({ frames := 0, cells := 1, slots := 40, locals := 0 } : Room) [.int (nI 0), .int (nI n)] N ad K I R (fun v S => ∃ ad' : Nat → Nat, v = some (.ref (ad' N)) ∧ S = (N + 1, ad', va_up K N (20 + 1, n), va_up I N (fun _ => nI 0), va_up R N (fun _ => none))) := by
  refine gMZ.of (by decide) (Nat.le_of_ble_eq_true rfl) ?_
  intro D dA p e s m args below meth cd ls hC hlk hr hK hX hZ hst hl hw
  have hl : lv_has ls 2 [(0, .int (nI 0)), (1, .int (nI n))] := hl
  refine lv_iload_n hC.1 hC.2.1 dX0_newLane_0 rfl (lv_at hl 0 rfl) ?_
  refine k_zne (tgt := 10) hC (by decide) dX0_newLane_1 (by decide) (fun h => absurd h (by decide)) (fun c1 => ?_)
  refine lv_iload_n hC.1 hC.2.1 dX0_newLane_4 rfl (lv_at hl 1 rfl) ?_
  refine M_newa (atype := .byte) (ty := .byte) (N' := n) hC hK hw rfl q164 1 (by decide) rfl (fun c h => h) rfl (by omega) (by simp only [componentBytes]; omega) (by simp only [gN]; omega) (by simp only [gN]; omega) dX0_newLane_5 (fun ad5_1 H h5_1 hw => ?_)
  have g5_1 : gGo N ad K (N + 1, ad5_1, va_up K N (21, n), va_up I N (fun _ => nI 0), va_up R N (fun _ => none)) := gGo_new (I1 := I) (R1 := R) gGo.rf h5_1
  refine lv_goto (tgt := 24) hC.1 hC.2.1 dX0_newLane_7 (by decide) ?_
  exact M_aret hC hlk hw g5_1.to ⟨by simp only [gN]; omega, by simp only [gN]; omega⟩ hr (Or.inl ⟨_, rfl⟩) (Or.inr ⟨_, rfl⟩) (⟨_, rfl, rfl⟩) dX0_newLane_24

set_option maxHeartbeats 800000 in
theorem tX0_newLane_r1 (l : Launch) (N : Nat) (ad : Nat → Nat) (K : gK) (I : mG) (R : gR) (n : Nat) (hn : n ≤ 40) : gMZ l yX0_newLane (ws_ yX0_newLane cX0_newLane 2 (some (FieldType.object "java/lang/Object"))) ({ frames := 0, cells := 1, slots := 40, locals := 0 } : Room) [.int (nI 1), .int (nI n)] N ad K I R (fun v S => ∃ ad' : Nat → Nat, v = some (.ref (ad' N)) ∧ S = (N + 1, ad', va_up K N (20 + 2, n), va_up I N (fun _ => nI 0), va_up R N (fun _ => none))) := by
  refine gMZ.of (by decide) (Nat.le_of_ble_eq_true rfl) ?_
  intro D dA p e s m args below meth cd ls hC hlk hr hK hX hZ hst hl hw
  have hl : lv_has ls 2 [(0, .int (nI 1)), (1, .int (nI n))] := hl
  refine lv_iload_n hC.1 hC.2.1 dX0_newLane_0 rfl (lv_at hl 0 rfl) ?_
  refine k_zne (tgt := 10) hC (by decide) dX0_newLane_1 (by decide) (fun c1 => ?_) (fun h => absurd h (by decide))
  refine lv_iload_n hC.1 hC.2.1 dX0_newLane_10 rfl (lv_at hl 0 rfl) ?_
  refine lv_iconst (v := (nI 1)) hC.1 hC.2.1 dX0_newLane_11 (by decide) ?_
  refine k_ne (tgt := 21) hC (by omega) (by omega) dX0_newLane_12 (by decide) (fun c12 => ?_) (fun c12 => ?_)
  · exact absurd c12 (by decide)
  · refine lv_iload_n hC.1 hC.2.1 dX0_newLane_15 rfl (lv_at hl 1 rfl) ?_
    refine M_newa (atype := .short) (ty := .short) (N' := n) hC hK hw rfl q350 2 (by decide) rfl (fun c h => h) rfl (by omega) (by simp only [componentBytes]; omega) (by simp only [gN]; omega) (by simp only [gN]; omega) dX0_newLane_16 (fun ad16_1 H h16_1 hw => ?_)
    have g16_1 : gGo N ad K (N + 1, ad16_1, va_up K N (22, n), va_up I N (fun _ => nI 0), va_up R N (fun _ => none)) := gGo_new (I1 := I) (R1 := R) gGo.rf h16_1
    refine lv_goto (tgt := 24) hC.1 hC.2.1 dX0_newLane_18 (by decide) ?_
    exact M_aret hC hlk hw g16_1.to ⟨by simp only [gN]; omega, by simp only [gN]; omega⟩ hr (Or.inl ⟨_, rfl⟩) (Or.inr ⟨_, rfl⟩) (⟨_, rfl, rfl⟩) dX0_newLane_24

set_option maxHeartbeats 800000 in
theorem tX0_newLane_r2 (l : Launch) (N : Nat) (ad : Nat → Nat) (K : gK) (I : mG) (R : gR) (n : Nat) (hn : n ≤ 40) : gMZ l yX0_newLane (ws_ yX0_newLane cX0_newLane 2 (some (FieldType.object "java/lang/Object"))) ({ frames := 0, cells := 1, slots := 40, locals := 0 } : Room) [.int (nI 2), .int (nI n)] N ad K I R (fun v S => ∃ ad' : Nat → Nat, v = some (.ref (ad' N)) ∧ S = (N + 1, ad', va_up K N (20 + 0, n), va_up I N (fun _ => nI 0), va_up R N (fun _ => none))) := by
  refine gMZ.of (by decide) (Nat.le_of_ble_eq_true rfl) ?_
  intro D dA p e s m args below meth cd ls hC hlk hr hK hX hZ hst hl hw
  have hl : lv_has ls 2 [(0, .int (nI 2)), (1, .int (nI n))] := hl
  refine lv_iload_n hC.1 hC.2.1 dX0_newLane_0 rfl (lv_at hl 0 rfl) ?_
  refine k_zne (tgt := 10) hC (by decide) dX0_newLane_1 (by decide) (fun c1 => ?_) (fun h => absurd h (by decide))
  refine lv_iload_n hC.1 hC.2.1 dX0_newLane_10 rfl (lv_at hl 0 rfl) ?_
  refine lv_iconst (v := (nI 1)) hC.1 hC.2.1 dX0_newLane_11 (by decide) ?_
  refine k_ne (tgt := 21) hC (by omega) (by omega) dX0_newLane_12 (by decide) (fun c12 => ?_) (fun c12 => ?_)
  · refine lv_iload_n hC.1 hC.2.1 dX0_newLane_21 rfl (lv_at hl 1 rfl) ?_
    refine M_newa (atype := .int) (ty := .int) (N' := n) hC hK hw rfl q165 0 (by decide) rfl (fun c h => h) rfl (by omega) (by simp only [componentBytes]; omega) (by simp only [gN]; omega) (by simp only [gN]; omega) dX0_newLane_22 (fun ad22_1 H h22_1 hw => ?_)
    have g22_1 : gGo N ad K (N + 1, ad22_1, va_up K N (20, n), va_up I N (fun _ => nI 0), va_up R N (fun _ => none)) := gGo_new (I1 := I) (R1 := R) gGo.rf h22_1
    exact M_aret hC hlk hw g22_1.to ⟨by simp only [gN]; omega, by simp only [gN]; omega⟩ hr (Or.inl ⟨_, rfl⟩) (Or.inr ⟨_, rfl⟩) (⟨_, rfl, rfl⟩) dX0_newLane_24
  · exact absurd c12 (by decide)

set_option maxHeartbeats 800000 in
theorem tX0_newLane_o0 (l : Launch) (hl0 : l.stackTraces = false) (N : Nat) (ad : Nat → Nat) (K : gK) (I : mG) (R : gR) (n : Int32) (hneg : n < 0) : gMT l yX0_newLane (ws_ yX0_newLane cX0_newLane 2 (some (FieldType.object "java/lang/Object"))) ({ frames := 8, cells := 3, slots := 54, locals := 10240 } : Room) [.int (nI 0), .int n] N ad K I R "java/lang/NegativeArraySizeException" (fun x S => S = (N, ad, K, I, R)) := by
  refine gMT.of (by decide) (Nat.le_of_ble_eq_true rfl) ?_
  intro D dA p e s m args below meth cd ls hC hlk htb hK hX hZ hst hl hw
  have hl : lv_has ls 2 [(0, .int (nI 0)), (1, .int n)] := hl
  refine lv_iload_n hC.1 hC.2.1 dX0_newLane_0 rfl (lv_at hl 0 rfl) ?_
  refine k_zne (tgt := 10) hC (by decide) dX0_newLane_1 (by decide) (fun h => absurd h (by decide)) (fun c1 => ?_)
  refine lv_iload_n hC.1 hC.2.1 dX0_newLane_4 rfl (lv_at hl 1 rfl) ?_
  exact L_neg hneg hl0 hC hlk htb hX hZ hl.1 hw (fun _ => rfl) (by decide) (by decide) dX0_newLane_5

set_option maxHeartbeats 800000 in
theorem tX0_newLane_o1 (l : Launch) (hl0 : l.stackTraces = false) (N : Nat) (ad : Nat → Nat) (K : gK) (I : mG) (R : gR) (n : Int32) (hneg : n < 0) : gMT l yX0_newLane (ws_ yX0_newLane cX0_newLane 2 (some (FieldType.object "java/lang/Object"))) ({ frames := 8, cells := 3, slots := 54, locals := 10240 } : Room) [.int (nI 1), .int n] N ad K I R "java/lang/NegativeArraySizeException" (fun x S => S = (N, ad, K, I, R)) := by
  refine gMT.of (by decide) (Nat.le_of_ble_eq_true rfl) ?_
  intro D dA p e s m args below meth cd ls hC hlk htb hK hX hZ hst hl hw
  have hl : lv_has ls 2 [(0, .int (nI 1)), (1, .int n)] := hl
  refine lv_iload_n hC.1 hC.2.1 dX0_newLane_0 rfl (lv_at hl 0 rfl) ?_
  refine k_zne (tgt := 10) hC (by decide) dX0_newLane_1 (by decide) (fun c1 => ?_) (fun h => absurd h (by decide))
  refine lv_iload_n hC.1 hC.2.1 dX0_newLane_10 rfl (lv_at hl 0 rfl) ?_
  refine lv_iconst (v := (nI 1)) hC.1 hC.2.1 dX0_newLane_11 (by decide) ?_
  refine k_ne (tgt := 21) hC (by omega) (by omega) dX0_newLane_12 (by decide) (fun c12 => ?_) (fun c12 => ?_)
  · exact absurd c12 (by decide)
  · refine lv_iload_n hC.1 hC.2.1 dX0_newLane_15 rfl (lv_at hl 1 rfl) ?_
    exact L_neg hneg hl0 hC hlk htb hX hZ hl.1 hw (fun _ => rfl) (by decide) (by decide) dX0_newLane_16

set_option maxHeartbeats 800000 in
theorem tX0_newLane_o2 (l : Launch) (hl0 : l.stackTraces = false) (N : Nat) (ad : Nat → Nat) (K : gK) (I : mG) (R : gR) (n : Int32) (hneg : n < 0) : gMT l yX0_newLane (ws_ yX0_newLane cX0_newLane 2 (some (FieldType.object "java/lang/Object"))) ({ frames := 8, cells := 3, slots := 54, locals := 10240 } : Room) [.int (nI 2), .int n] N ad K I R "java/lang/NegativeArraySizeException" (fun x S => S = (N, ad, K, I, R)) := by
  refine gMT.of (by decide) (Nat.le_of_ble_eq_true rfl) ?_
  intro D dA p e s m args below meth cd ls hC hlk htb hK hX hZ hst hl hw
  have hl : lv_has ls 2 [(0, .int (nI 2)), (1, .int n)] := hl
  refine lv_iload_n hC.1 hC.2.1 dX0_newLane_0 rfl (lv_at hl 0 rfl) ?_
  refine k_zne (tgt := 10) hC (by decide) dX0_newLane_1 (by decide) (fun c1 => ?_) (fun h => absurd h (by decide))
  refine lv_iload_n hC.1 hC.2.1 dX0_newLane_10 rfl (lv_at hl 0 rfl) ?_
  refine lv_iconst (v := (nI 1)) hC.1 hC.2.1 dX0_newLane_11 (by decide) ?_
  refine k_ne (tgt := 21) hC (by omega) (by omega) dX0_newLane_12 (by decide) (fun c12 => ?_) (fun c12 => ?_)
  · refine lv_iload_n hC.1 hC.2.1 dX0_newLane_21 rfl (lv_at hl 1 rfl) ?_
    exact L_neg hneg hl0 hC hlk htb hX hZ hl.1 hw (fun _ => rfl) (by decide) (by decide) dX0_newLane_22
  · exact absurd c12 (by decide)

theorem inB_out {i : Int32} {n : Nat} (hn : n ≤ 40) (h : ¬ inB i 0 (nI n - nI 1) = true) : i < 0 ∨ n ≤ i.toNatClampNeg := by
  by_cases hi : i < 0
  · exact Or.inl hi
  · obtain ⟨j, hj, rfl⟩ := nI_of hi
    refine Or.inr ?_
    rw [nI_clamp hj]
    rcases Nat.lt_or_ge j n with hlt | hge
    · refine absurd ?_ h
      rw [show nI n - nI 1 = nI (n - 1) from pk_sub (by omega)]
      unfold inB
      rw [Bool.and_eq_true, decide_eq_true_eq, decide_eq_true_eq]
      exact ⟨Int32.not_lt.mp hi, nI_le (by omega) (by omega)⟩
    · exact hge
theorem sz_ge {n : Nat} (hn : n ≤ 40) : (0 : Int32) ≤ nI n := Int32.not_lt.mp (nI_pos (by omega))

theorem asl_idem0 (x : Int32) : asL (nI 0) (asL (nI 0) x) = asL (nI 0) x := by
  rw [← asl_8, ← asl_8 x, Int8.toInt8_toInt32]
theorem asl_idem1 (x : Int32) : asL (nI 1) (asL (nI 1) x) = asL (nI 1) x := by
  rw [← asl_16, ← asl_16 x, Int16.toInt16_toInt32]
theorem asl_2 (x : Int32) : asL (nI 2) x = x := rfl
theorem m1_neg : ¬ (0 : Int32) ≤ -1 := by decide

set_option maxHeartbeats 800000 in
theorem tX0_set (l : Launch) (hl0 : l.stackTraces = false) (N : Nat) (ad : Nat → Nat) (K : gK) (I : mG) (R : gR) (row : Int32) (i : Int32) (v : Int32) (G : mG) (b : Bool) (h0 : wcR N K I R G b) : gMZ l yX0_set (wsW_ yX0_set cX0_set 5 (some FieldType.int) [(10, 25, 26, 114), (10, 25, 34, 116)]) ({ frames := 9, cells := 3, slots := 222, locals := 10262 } : Room) [.ref (ad 0), .int row, .int i, .int v] N ad K I R (fun rv S => rv = some (.int (mX6_set G row i v).1) ∧ wcR S.1 S.2.2.1 S.2.2.2.1 S.2.2.2.2 (mX6_set G row i v).2 b) := by
  refine gMZ.ofH (by decide) (Nat.le_of_ble_eq_true rfl) ?_
  intro D dA p e s m args below meth cd ls hC hlk hr htb hK hX hZ hst hl hw
  have hl : lv_has ls 5 [(0, .ref (ad 0)), (1, .int row), (2, .int i), (3, .int v)] := hl
  have hge := h0.ge
  refine lv_iload_n hC.1 hC.2.1 dX0_set_0 rfl (lv_at hl 1 rfl) ?_
  refine pS_call (n := 1) hC hl.1 (tX0_isRow l row ) (lw_S q329 q330 q60 q331) rfl rfl (by decide +kernel) ⟨by decide, by decide⟩ rfl rfl (Nat.le_of_ble_eq_true rfl) dX0_set_1 ⟨Nat.zero_le _, Nat.zero_le _⟩ ?_
  refine k_bne (tgt := 10) hC dX0_set_4 (by decide) (fun c4 => ?_) (fun c4 => ?_)
  · obtain ⟨k, hk, rfl⟩ := inB_nat (n := 7) (by decide) c4
    refine lv_aload_n hC.1 hC.2.1 dX0_set_10 rfl (lv_at hl 0 rfl) ?_
    refine lv_aload_n hC.1 hC.2.1 dX0_set_11 rfl (lv_at hl 0 rfl) ?_
    refine x_ga hC hK hw (by omega) h0.k0 0 1 h0.r0 (by decide) rfl q202 rfl dX0_set_12 ?_
    refine lv_iload_n hC.1 hC.2.1 dX0_set_15 rfl (lv_at hl 1 rfl) ?_
    have hks : (K (2 + k)).1 = 1 := (h0.1.2.2.2.2.2.2 k (by omega)).2
    rcases h0.2.2.2.2.2.1.1 k (by omega) with ⟨z1, z2⟩ | ⟨a, n, t, z1, z3, z4, z5, z6, z7, z8, z9, z10, z11⟩
    · refine g_ldr (t := 0) (v := .ref (ad (2 + k))) hC hK hw (List.mem_range.mpr (by omega)) h0.1.2.2.2.2.1.1 rfl (by omega) (by omega) (by rw [(h0.1.2.2.2.2.2.2 k (by omega)).1]; rfl) dX0_set_16 ?_
      refine lv_iload_n hC.1 hC.2.1 dX0_set_17 rfl (lv_at hl 2 rfl) ?_
      refine lv_iload_n hC.1 hC.2.1 dX0_set_18 rfl (lv_at hl 3 rfl) ?_
      refine T_VN (n := 2) (C := RX1) (T := TX1) hC hl.1 hK hX hZ hst hw (show 2 + k < N by omega) hks (by decide) rfl (tX1_put_n l hl0 N ad K I R (2 + k) i v (by omega) (hks) (z1)) q399 q401 qs4 q61 q402 (by decide +kernel) ⟨by decide, by decide⟩ rfl rfl (Nat.le_of_ble_eq_true rfl) dX0_set_19 ⟨by simp only [gN]; omega, by simp only [gN]; omega⟩ (fun x0 N2 ad2 K2 I2 R2 H locs e2 hg hw => ?_)
      cases e2
      refine T_catch (pc := 19) htb (h := 26) (fun pl cX hpl hE => rt_hit (pc := 19) (x := ⟨10, 25, 26, 114⟩) hpl hC.2.2.2.1 hE (hC.2.2.2.2 _ q355) (hX _ q377 rfl) (by decide) (by decide)) ?_
      refine lv_astore (lv' := [(4, .ref x0), (0, .ref (ad 0)), (1, .int (nI k)), (2, .int i), (3, .int v)]) hC.1 hC.2.1 dX0_set_26 hl (by decide) rfl (fun ls hl => ?_)
      refine lv_aload_n hC.1 hC.2.1 dX0_set_28 rfl (lv_at hl 1 rfl) ?_
      refine lv_iconst (v := (nI 1)) hC.1 hC.2.1 dX0_set_29 (by decide) ?_
      refine M_V (n := 1) (C := RX0) (T := TX0) hC hl.1 hK hX hw (by omega) h0.k0 (by decide) rfl (tX0_found l N ad K I R (nI 1) G b (h0)) (lw_V q345 q347 qs3 q60 q348) (by decide +kernel) ⟨by decide, by decide⟩ rfl rfl (Nat.le_of_ble_eq_true rfl) dX0_set_30 ⟨by simp only [gN]; omega, by simp only [gN]; omega⟩ ?_
      rintro _ N2 ad2 K2 I30 R30 H locs ⟨I3, R3, e3, rfl, h30⟩ hg hw
      cases e3
      dsimp only at h30
      exact M_iret hC hlk hw gGo.rf ⟨by simp only [gN]; omega, by simp only [gN]; omega⟩ hr rfl (by have eq : mX6_set G (nI k) i v = (((-1000010 : Int32) - (nI 1)), g2 G 0 3 (nI 1)) := (by simp [mX6_set, h0.g4, bI_t0, bI_f0, inc01, inc11, inc03, inc13, inc23, inc10, inc20, inc21, c4, ix_nI (show k < 2147483648 by omega), z2, m1_neg]); rw [eq]; exact ⟨rfl, h30⟩) dX0_set_33
    · refine g_ldr (t := 0) (v := .ref (ad (2 + k))) hC hK hw (List.mem_range.mpr (by omega)) h0.1.2.2.2.2.1.1 rfl (by omega) (by omega) (by rw [(h0.1.2.2.2.2.2.2 k (by omega)).1]; rfl) dX0_set_16 ?_
      have t3 : t = 0 ∨ t = 1 ∨ t = 2 := by omega
      rcases t3 with rfl | rfl | rfl
      · have hka : K a = (20 + 1, n) := z7
        refine lv_iload_n hC.1 hC.2.1 dX0_set_17 rfl (lv_at hl 2 rfl) ?_
        by_cases hin : inB i 0 (nI n - nI 1) = true
        · obtain ⟨j, hj, rfl⟩ := inB_sz (k := n) (by omega) rfl hin
          refine lv_iload_n hC.1 hC.2.1 dX0_set_18 rfl (lv_at hl 3 rfl) ?_
          refine Z_VN (n := 2) (C := RX1) (T := TX1) hC hl.1 hK hX hZ hst hw (show 2 + k < N by omega) hks (by decide) rfl (tX1_put_r1 l N ad K I R (2 + k) a n j v (by omega) (hks) (z1) (z4) (hka) (z6) (hj)) q399 q401 qs4 q61 q402 (by decide +kernel) ⟨by decide, by decide⟩ rfl rfl (Nat.le_of_ble_eq_true rfl) dX0_set_19 ⟨by simp only [gN]; omega, by simp only [gN]; omega⟩ ?_
          rintro _ N2 ad2 K2 I2 R2 H locs ⟨rfl, e2⟩ hg hw
          cases e2
          have h2 := h0.item (k := k) (t := 0) (i := j) (x := asL (nI 0) v) (by omega) z1 z9 z8 (by omega) (by decide) hj (asl_idem0 v)
          refine M_V (n := 1) (C := RX0) (T := TX0) hC hl.1 hK hX hw (by omega) h2.k0 (by decide) rfl (tX0_well l N ad K (g2 I a j (asL (nI 0) v)) R (asL (nI 0) v) (g2 G 3 (40 * k + j) (asL (nI 0) v)) b (h2)) (lw_V q341 q343 qs2 q60 q344) (by decide +kernel) ⟨by decide, by decide⟩ rfl rfl (Nat.le_of_ble_eq_true rfl) dX0_set_22 ⟨by simp only [gN]; omega, by simp only [gN]; omega⟩ ?_
          rintro _ N2 ad2 K2 I22 R22 H locs ⟨I3, R3, e3, rfl, h22⟩ hg hw
          cases e3
          dsimp only at h22
          exact M_iret hC hlk hw gGo.rf ⟨by simp only [gN]; omega, by simp only [gN]; omega⟩ hr rfl (by have eq : mX6_set G (nI k) (nI j) v = ((asL (nI 0) v), g2 (g2 G 3 (40 * k + j) (asL (nI 0) v)) 0 3 (nI 0)) := (by simp [mX6_set, h0.g4, bI_t0, bI_f0, inc01, inc11, inc03, inc13, inc23, inc10, inc20, inc21, c4, ix_nI (show k < 2147483648 by omega), ix_nI (show j < 2147483648 by omega), z8, z9, sz_ge z6, hin]); rw [eq]; exact ⟨rfl, h22⟩) dX0_set_25
        · have ho := inB_out z6 hin
          refine lv_iload_n hC.1 hC.2.1 dX0_set_18 rfl (lv_at hl 3 rfl) ?_
          refine T_VN (n := 2) (C := RX1) (T := TX1) hC hl.1 hK hX hZ hst hw (show 2 + k < N by omega) hks (by decide) rfl (tX1_put_o1 l hl0 N ad K I R (2 + k) a n i v (by omega) (hks) (z1) (z4) (hka) (z6) (ho)) q399 q401 qs4 q61 q402 (by decide +kernel) ⟨by decide, by decide⟩ rfl rfl (Nat.le_of_ble_eq_true rfl) dX0_set_19 ⟨by simp only [gN]; omega, by simp only [gN]; omega⟩ (fun x0 N2 ad2 K2 I2 R2 H locs e2 hg hw => ?_)
          cases e2
          refine T_catch (pc := 19) htb (h := 34) (fun pl cX hpl hE => rt_miss (pc := 19) (x := ⟨10, 25, 26, 114⟩) hpl hC.2.2.2.1 hE (hC.2.2.2.2 _ q355) (nc_ok 42 (by decide +kernel) hZ) (by decide) (by decide) (rt_hit (pc := 19) (x := ⟨10, 25, 34, 116⟩) hpl hC.2.2.2.1 hE (hC.2.2.2.2 _ q380) (hX _ q395 rfl) (by decide) (by decide))) ?_
          refine lv_astore (lv' := [(4, .ref x0), (0, .ref (ad 0)), (1, .int (nI k)), (2, .int i), (3, .int v)]) hC.1 hC.2.1 dX0_set_34 hl (by decide) rfl (fun ls hl => ?_)
          refine lv_aload_n hC.1 hC.2.1 dX0_set_36 rfl (lv_at hl 1 rfl) ?_
          refine lv_iconst (v := (nI 2)) hC.1 hC.2.1 dX0_set_37 (by decide) ?_
          refine M_V (n := 1) (C := RX0) (T := TX0) hC hl.1 hK hX hw (by omega) h0.k0 (by decide) rfl (tX0_found l N ad K I R (nI 2) G b (h0)) (lw_V q345 q347 qs3 q60 q348) (by decide +kernel) ⟨by decide, by decide⟩ rfl rfl (Nat.le_of_ble_eq_true rfl) dX0_set_38 ⟨by simp only [gN]; omega, by simp only [gN]; omega⟩ ?_
          rintro _ N2 ad2 K2 I38 R38 H locs ⟨I3, R3, e3, rfl, h38⟩ hg hw
          cases e3
          dsimp only at h38
          exact M_iret hC hlk hw gGo.rf ⟨by simp only [gN]; omega, by simp only [gN]; omega⟩ hr rfl (by have eq : mX6_set G (nI k) i v = (((-1000010 : Int32) - (nI 2)), g2 G 0 3 (nI 2)) := (by simp [mX6_set, h0.g4, bI_t0, bI_f0, inc01, inc11, inc03, inc13, inc23, inc10, inc20, inc21, c4, ix_nI (show k < 2147483648 by omega), z8, z9, sz_ge z6, hin]); rw [eq]; exact ⟨rfl, h38⟩) dX0_set_41
      · have hka : K a = (20 + 2, n) := z7
        refine lv_iload_n hC.1 hC.2.1 dX0_set_17 rfl (lv_at hl 2 rfl) ?_
        by_cases hin : inB i 0 (nI n - nI 1) = true
        · obtain ⟨j, hj, rfl⟩ := inB_sz (k := n) (by omega) rfl hin
          refine lv_iload_n hC.1 hC.2.1 dX0_set_18 rfl (lv_at hl 3 rfl) ?_
          refine Z_VN (n := 2) (C := RX1) (T := TX1) hC hl.1 hK hX hZ hst hw (show 2 + k < N by omega) hks (by decide) rfl (tX1_put_r2 l N ad K I R (2 + k) a n j v (by omega) (hks) (z1) (z4) (hka) (z6) (hj)) q399 q401 qs4 q61 q402 (by decide +kernel) ⟨by decide, by decide⟩ rfl rfl (Nat.le_of_ble_eq_true rfl) dX0_set_19 ⟨by simp only [gN]; omega, by simp only [gN]; omega⟩ ?_
          rintro _ N2 ad2 K2 I2 R2 H locs ⟨rfl, e2⟩ hg hw
          cases e2
          have h2 := h0.item (k := k) (t := 1) (i := j) (x := asL (nI 1) v) (by omega) z1 z9 z8 (by omega) (by decide) hj (asl_idem1 v)
          refine M_V (n := 1) (C := RX0) (T := TX0) hC hl.1 hK hX hw (by omega) h2.k0 (by decide) rfl (tX0_well l N ad K (g2 I a j (asL (nI 1) v)) R (asL (nI 1) v) (g2 G 3 (40 * k + j) (asL (nI 1) v)) b (h2)) (lw_V q341 q343 qs2 q60 q344) (by decide +kernel) ⟨by decide, by decide⟩ rfl rfl (Nat.le_of_ble_eq_true rfl) dX0_set_22 ⟨by simp only [gN]; omega, by simp only [gN]; omega⟩ ?_
          rintro _ N2 ad2 K2 I22 R22 H locs ⟨I3, R3, e3, rfl, h22⟩ hg hw
          cases e3
          dsimp only at h22
          exact M_iret hC hlk hw gGo.rf ⟨by simp only [gN]; omega, by simp only [gN]; omega⟩ hr rfl (by have eq : mX6_set G (nI k) (nI j) v = ((asL (nI 1) v), g2 (g2 G 3 (40 * k + j) (asL (nI 1) v)) 0 3 (nI 0)) := (by simp [mX6_set, h0.g4, bI_t0, bI_f0, inc01, inc11, inc03, inc13, inc23, inc10, inc20, inc21, c4, ix_nI (show k < 2147483648 by omega), ix_nI (show j < 2147483648 by omega), z8, z9, sz_ge z6, hin]); rw [eq]; exact ⟨rfl, h22⟩) dX0_set_25
        · have ho := inB_out z6 hin
          refine lv_iload_n hC.1 hC.2.1 dX0_set_18 rfl (lv_at hl 3 rfl) ?_
          refine T_VN (n := 2) (C := RX1) (T := TX1) hC hl.1 hK hX hZ hst hw (show 2 + k < N by omega) hks (by decide) rfl (tX1_put_o2 l hl0 N ad K I R (2 + k) a n i v (by omega) (hks) (z1) (z4) (hka) (z6) (ho)) q399 q401 qs4 q61 q402 (by decide +kernel) ⟨by decide, by decide⟩ rfl rfl (Nat.le_of_ble_eq_true rfl) dX0_set_19 ⟨by simp only [gN]; omega, by simp only [gN]; omega⟩ (fun x0 N2 ad2 K2 I2 R2 H locs e2 hg hw => ?_)
          cases e2
          refine T_catch (pc := 19) htb (h := 34) (fun pl cX hpl hE => rt_miss (pc := 19) (x := ⟨10, 25, 26, 114⟩) hpl hC.2.2.2.1 hE (hC.2.2.2.2 _ q355) (nc_ok 42 (by decide +kernel) hZ) (by decide) (by decide) (rt_hit (pc := 19) (x := ⟨10, 25, 34, 116⟩) hpl hC.2.2.2.1 hE (hC.2.2.2.2 _ q380) (hX _ q395 rfl) (by decide) (by decide))) ?_
          refine lv_astore (lv' := [(4, .ref x0), (0, .ref (ad 0)), (1, .int (nI k)), (2, .int i), (3, .int v)]) hC.1 hC.2.1 dX0_set_34 hl (by decide) rfl (fun ls hl => ?_)
          refine lv_aload_n hC.1 hC.2.1 dX0_set_36 rfl (lv_at hl 1 rfl) ?_
          refine lv_iconst (v := (nI 2)) hC.1 hC.2.1 dX0_set_37 (by decide) ?_
          refine M_V (n := 1) (C := RX0) (T := TX0) hC hl.1 hK hX hw (by omega) h0.k0 (by decide) rfl (tX0_found l N ad K I R (nI 2) G b (h0)) (lw_V q345 q347 qs3 q60 q348) (by decide +kernel) ⟨by decide, by decide⟩ rfl rfl (Nat.le_of_ble_eq_true rfl) dX0_set_38 ⟨by simp only [gN]; omega, by simp only [gN]; omega⟩ ?_
          rintro _ N2 ad2 K2 I38 R38 H locs ⟨I3, R3, e3, rfl, h38⟩ hg hw
          cases e3
          dsimp only at h38
          exact M_iret hC hlk hw gGo.rf ⟨by simp only [gN]; omega, by simp only [gN]; omega⟩ hr rfl (by have eq : mX6_set G (nI k) i v = (((-1000010 : Int32) - (nI 2)), g2 G 0 3 (nI 2)) := (by simp [mX6_set, h0.g4, bI_t0, bI_f0, inc01, inc11, inc03, inc13, inc23, inc10, inc20, inc21, c4, ix_nI (show k < 2147483648 by omega), z8, z9, sz_ge z6, hin]); rw [eq]; exact ⟨rfl, h38⟩) dX0_set_41
      · have hka : K a = (20 + 0, n) := z7
        refine lv_iload_n hC.1 hC.2.1 dX0_set_17 rfl (lv_at hl 2 rfl) ?_
        by_cases hin : inB i 0 (nI n - nI 1) = true
        · obtain ⟨j, hj, rfl⟩ := inB_sz (k := n) (by omega) rfl hin
          refine lv_iload_n hC.1 hC.2.1 dX0_set_18 rfl (lv_at hl 3 rfl) ?_
          refine Z_VN (n := 2) (C := RX1) (T := TX1) hC hl.1 hK hX hZ hst hw (show 2 + k < N by omega) hks (by decide) rfl (tX1_put_r0 l N ad K I R (2 + k) a n j v (by omega) (hks) (z1) (z4) (hka) (z6) (hj)) q399 q401 qs4 q61 q402 (by decide +kernel) ⟨by decide, by decide⟩ rfl rfl (Nat.le_of_ble_eq_true rfl) dX0_set_19 ⟨by simp only [gN]; omega, by simp only [gN]; omega⟩ ?_
          rintro _ N2 ad2 K2 I2 R2 H locs ⟨rfl, e2⟩ hg hw
          cases e2
          have h2 := h0.item (k := k) (t := 2) (i := j) (x := v) (by omega) z1 z9 z8 (by omega) (by decide) hj (asl_2 v)
          refine M_V (n := 1) (C := RX0) (T := TX0) hC hl.1 hK hX hw (by omega) h2.k0 (by decide) rfl (tX0_well l N ad K (g2 I a j (v)) R v (g2 G 3 (40 * k + j) (v)) b (h2)) (lw_V q341 q343 qs2 q60 q344) (by decide +kernel) ⟨by decide, by decide⟩ rfl rfl (Nat.le_of_ble_eq_true rfl) dX0_set_22 ⟨by simp only [gN]; omega, by simp only [gN]; omega⟩ ?_
          rintro _ N2 ad2 K2 I22 R22 H locs ⟨I3, R3, e3, rfl, h22⟩ hg hw
          cases e3
          dsimp only at h22
          exact M_iret hC hlk hw gGo.rf ⟨by simp only [gN]; omega, by simp only [gN]; omega⟩ hr rfl (by have eq : mX6_set G (nI k) (nI j) v = (v, g2 (g2 G 3 (40 * k + j) (v)) 0 3 (nI 0)) := (by simp [mX6_set, h0.g4, bI_t0, bI_f0, inc01, inc11, inc03, inc13, inc23, inc10, inc20, inc21, c4, ix_nI (show k < 2147483648 by omega), ix_nI (show j < 2147483648 by omega), z8, z9, sz_ge z6, hin, asl_2]); rw [eq]; exact ⟨rfl, h22⟩) dX0_set_25
        · have ho := inB_out z6 hin
          refine lv_iload_n hC.1 hC.2.1 dX0_set_18 rfl (lv_at hl 3 rfl) ?_
          refine T_VN (n := 2) (C := RX1) (T := TX1) hC hl.1 hK hX hZ hst hw (show 2 + k < N by omega) hks (by decide) rfl (tX1_put_o0 l hl0 N ad K I R (2 + k) a n i v (by omega) (hks) (z1) (z4) (hka) (z6) (ho)) q399 q401 qs4 q61 q402 (by decide +kernel) ⟨by decide, by decide⟩ rfl rfl (Nat.le_of_ble_eq_true rfl) dX0_set_19 ⟨by simp only [gN]; omega, by simp only [gN]; omega⟩ (fun x0 N2 ad2 K2 I2 R2 H locs e2 hg hw => ?_)
          cases e2
          refine T_catch (pc := 19) htb (h := 34) (fun pl cX hpl hE => rt_miss (pc := 19) (x := ⟨10, 25, 26, 114⟩) hpl hC.2.2.2.1 hE (hC.2.2.2.2 _ q355) (nc_ok 42 (by decide +kernel) hZ) (by decide) (by decide) (rt_hit (pc := 19) (x := ⟨10, 25, 34, 116⟩) hpl hC.2.2.2.1 hE (hC.2.2.2.2 _ q380) (hX _ q395 rfl) (by decide) (by decide))) ?_
          refine lv_astore (lv' := [(4, .ref x0), (0, .ref (ad 0)), (1, .int (nI k)), (2, .int i), (3, .int v)]) hC.1 hC.2.1 dX0_set_34 hl (by decide) rfl (fun ls hl => ?_)
          refine lv_aload_n hC.1 hC.2.1 dX0_set_36 rfl (lv_at hl 1 rfl) ?_
          refine lv_iconst (v := (nI 2)) hC.1 hC.2.1 dX0_set_37 (by decide) ?_
          refine M_V (n := 1) (C := RX0) (T := TX0) hC hl.1 hK hX hw (by omega) h0.k0 (by decide) rfl (tX0_found l N ad K I R (nI 2) G b (h0)) (lw_V q345 q347 qs3 q60 q348) (by decide +kernel) ⟨by decide, by decide⟩ rfl rfl (Nat.le_of_ble_eq_true rfl) dX0_set_38 ⟨by simp only [gN]; omega, by simp only [gN]; omega⟩ ?_
          rintro _ N2 ad2 K2 I38 R38 H locs ⟨I3, R3, e3, rfl, h38⟩ hg hw
          cases e3
          dsimp only at h38
          exact M_iret hC hlk hw gGo.rf ⟨by simp only [gN]; omega, by simp only [gN]; omega⟩ hr rfl (by have eq : mX6_set G (nI k) i v = (((-1000010 : Int32) - (nI 2)), g2 G 0 3 (nI 2)) := (by simp [mX6_set, h0.g4, bI_t0, bI_f0, inc01, inc11, inc03, inc13, inc23, inc10, inc20, inc21, c4, ix_nI (show k < 2147483648 by omega), z8, z9, sz_ge z6, hin, asl_2]); rw [eq]; exact ⟨rfl, h38⟩) dX0_set_41
  · refine lv_ldc hC.1 hC.2.1 hC.2.2.2.1 (hC.2.2.2.2 _ q337) dX0_set_7 ?_
    exact M_iret hC hlk hw gGo.rf ⟨by simp only [gN]; omega, by simp only [gN]; omega⟩ hr rfl (by have eq : mX6_set G row i v = ((-1000001 : Int32), G) := (by simp [mX6_set, h0.g4, bI_t0, bI_f0, inc01, inc11, inc03, inc13, inc23, inc10, inc20, inc21, c4]); rw [eq]; exact ⟨rfl, h0⟩) dX0_set_9

theorem g2_cm (G : mG) {a b : Nat} (h : a ≠ b) (i j : Nat) (x y : Int32) : g2 (g2 G a i x) b j y = g2 (g2 G b j y) a i x := by
  funext n m
  rw [g2_ap, g2_ap, g2_ap, g2_ap]
  by_cases h1 : n = b ∧ m = j
  · rw [if_pos h1, if_neg (fun z => h (by rw [← z.1, h1.1])), if_pos h1]
  · rw [if_neg h1]
    by_cases h2 : n = a ∧ m = i
    · rw [if_pos h2, if_pos h2]
    · rw [if_neg h2, if_neg h2, if_neg h1]
theorem wcR.unheld1 {N : Nat} {K : gK} {I : mG} {R : gR} {G : mG} {b : Bool} {k : Nat} (h : wcR N K I R G b) (hk : k < 8) (hz : G 2 k = -1) : wcR N K I (r2 R (2 + k) 0 none) G b := by
  have h2 := h.unheld hk
  rwa [show g2 G 2 k (-1) = G from by rw [← hz, g2_id]] at h2

set_option maxHeartbeats 800000 in
theorem tX0_drop (l : Launch) (hl0 : l.stackTraces = false) (N : Nat) (ad : Nat → Nat) (K : gK) (I : mG) (R : gR) (row : Int32) (G : mG) (b : Bool) (h0 : wcR N K I R G b) : gMZ l yX0_drop (wsW_ yX0_drop cX0_drop 5 (some FieldType.int) [(10, 24, 36, 114), (10, 24, 55, 0), (36, 43, 55, 0), (55, 57, 55, 0)]) ({ frames := 9, cells := 1, slots := 8, locals := 10260 } : Room) [.ref (ad 0), .int row] N ad K I R (fun v S => v = some (.int (mX6_drop G row).1) ∧ wcR S.1 S.2.2.1 S.2.2.2.1 S.2.2.2.2 (mX6_drop G row).2 b) := by
  refine gMZ.ofH (by decide) (Nat.le_of_ble_eq_true rfl) ?_
  intro D dA p e s m args below meth cd ls hC hlk hr htb hK hX hZ hst hl hw
  have hl : lv_has ls 5 [(0, .ref (ad 0)), (1, .int row)] := hl
  have hge := h0.ge
  refine lv_iload_n hC.1 hC.2.1 dX0_drop_0 rfl (lv_at hl 1 rfl) ?_
  refine pS_call (n := 1) hC hl.1 (tX0_isRow l row ) (lw_S q329 q330 q60 q331) rfl rfl (by decide +kernel) ⟨by decide, by decide⟩ rfl rfl (Nat.le_of_ble_eq_true rfl) dX0_drop_1 ⟨Nat.zero_le _, Nat.zero_le _⟩ ?_
  refine k_bne (tgt := 10) hC dX0_drop_4 (by decide) (fun c4 => ?_) (fun c4 => ?_)
  · obtain ⟨k, hk, rfl⟩ := inB_nat (n := 7) (by decide) c4
    refine lv_aload_n hC.1 hC.2.1 dX0_drop_10 rfl (lv_at hl 0 rfl) ?_
    refine lv_aload_n hC.1 hC.2.1 dX0_drop_11 rfl (lv_at hl 0 rfl) ?_
    refine x_ga hC hK hw (by omega) h0.k0 0 1 h0.r0 (by decide) rfl q202 rfl dX0_drop_12 ?_
    have hks : (K (2 + k)).1 = 1 := (h0.1.2.2.2.2.2.2 k (by omega)).2
    rcases h0.2.2.2.2.2.1.1 k (by omega) with ⟨z1, z2⟩ | ⟨a, n, t, z1, z3, z4, z5, z6, z7, z8, z9, z10, z11⟩
    · refine lv_iload_n hC.1 hC.2.1 dX0_drop_15 rfl (lv_at hl 1 rfl) ?_
      refine g_ldr (t := 0) (v := .ref (ad (2 + k))) hC hK hw (List.mem_range.mpr (by omega)) h0.1.2.2.2.2.1.1 rfl (by omega) (by omega) (by rw [(h0.1.2.2.2.2.2.2 k (by omega)).1]; rfl) dX0_drop_16 ?_
      refine T_VN (n := 0) (C := RX1) (T := TX1) hC hl.1 hK hX hZ hst hw (show 2 + k < N by omega) hks (by decide) rfl (tX1_many_n l hl0 N ad K I R (2 + k) (by omega) (hks) (z1)) q436 q438 qs6 q61 q439 (by decide +kernel) ⟨by decide, by decide⟩ rfl rfl (Nat.le_of_ble_eq_true rfl) dX0_drop_17 ⟨by simp only [gN]; omega, by simp only [gN]; omega⟩ (fun x0 N2 ad2 K2 I2 R2 H locs e2 hg hw => ?_)
      cases e2
      refine T_catch (pc := 17) htb (h := 36) (fun pl cX hpl hE => rt_hit (pc := 17) (x := ⟨10, 24, 36, 114⟩) hpl hC.2.2.2.1 hE (hC.2.2.2.2 _ q355) (hX _ q377 rfl) (by decide) (by decide)) ?_
      refine lv_astore_n (lv' := [(2, .ref x0), (0, .ref (ad 0)), (1, .int (nI k))]) hC.1 hC.2.1 dX0_drop_36 rfl hl (by decide) rfl (fun ls hl => ?_)
      refine lv_aload_n hC.1 hC.2.1 dX0_drop_37 rfl (lv_at hl 1 rfl) ?_
      refine lv_iconst (v := (nI 1)) hC.1 hC.2.1 dX0_drop_38 (by decide) ?_
      refine M_V (n := 1) (C := RX0) (T := TX0) hC hl.1 hK hX hw (by omega) h0.k0 (by decide) rfl (tX0_found l N ad K I R (nI 1) G b (h0)) (lw_V q345 q347 qs3 q60 q348) (by decide +kernel) ⟨by decide, by decide⟩ rfl rfl (Nat.le_of_ble_eq_true rfl) dX0_drop_39 ⟨by simp only [gN]; omega, by simp only [gN]; omega⟩ ?_
      rintro _ N2 ad2 K2 I39 R39 H locs ⟨I3, R3, e3, rfl, h39⟩ hg hw
      cases e3
      dsimp only at h39
      refine lv_istore_n (lv' := [(3, .int ((-1000010 : Int32) - (nI 1))), (2, .ref x0), (0, .ref (ad 0)), (1, .int (nI k))]) hC.1 hC.2.1 dX0_drop_42 rfl hl (by decide) rfl (fun ls hl => ?_)
      refine lv_aload_n hC.1 hC.2.1 dX0_drop_43 rfl (lv_at hl 2 rfl) ?_
      refine x_ga hC hK hw (by omega) h39.k0 0 1 h39.r0 (by decide) rfl q202 rfl dX0_drop_44 ?_
      refine lv_iload_n hC.1 hC.2.1 dX0_drop_47 rfl (lv_at hl 3 rfl) ?_
      refine g_ldr (t := 0) (v := .ref (ad (2 + k))) hC hK hw (List.mem_range.mpr (by omega)) h0.1.2.2.2.2.1.1 rfl (by omega) (by omega) (by rw [(h39.1.2.2.2.2.2.2 k (by omega)).1]; rfl) dX0_drop_48 ?_
      refine lv_null hC.1 hC.2.1 dX0_drop_49 ?_
      refine g_putrX (ci := 1) (C := RX1) (T := TX1) (ref := RX1) (y := none) hC hK hX hw (List.mem_range.mpr (by omega)) hks (by decide) rfl in_X1 tyX1 tyX1_ok nmX1 0 (by decide) rfl q110 (fun x h => h) rfl (fun j h => by cases h) rfl rfl rfl rfl dX0_drop_50 (fun H locs hw => ?_)
      have h5 := h39.unheld1 (k := k) (by omega) (by rw [g2_ne _ _ _ (by decide)]; exact z2)
      refine lv_iload_n hC.1 hC.2.1 dX0_drop_53 rfl (lv_at hl 0 rfl) ?_
      exact M_iret hC hlk hw gGo.rf ⟨by simp only [gN]; omega, by simp only [gN]; omega⟩ hr rfl (by have eq : mX6_drop G (nI k) = (((-1000010 : Int32) - (nI 1)), g2 G 0 3 (nI 1)) := (by simp [mX6_drop, h0.g4, bI_t0, bI_f0, inc01, inc11, inc03, inc13, inc23, inc10, inc20, inc21, c4, ix_nI (show k < 2147483648 by omega), z2, m1_neg]); rw [eq]; exact ⟨rfl, h5⟩) dX0_drop_54
    · refine lv_iload_n hC.1 hC.2.1 dX0_drop_15 rfl (lv_at hl 1 rfl) ?_
      have t3 : t = 0 ∨ t = 1 ∨ t = 2 := by omega
      rcases t3 with rfl | rfl | rfl
      · have hka : K a = (20 + 1, n) := z7
        refine g_ldr (t := 0) (v := .ref (ad (2 + k))) hC hK hw (List.mem_range.mpr (by omega)) h0.1.2.2.2.2.1.1 rfl (by omega) (by omega) (by rw [(h0.1.2.2.2.2.2.2 k (by omega)).1]; rfl) dX0_drop_16 ?_
        refine Z_VN (n := 0) (C := RX1) (T := TX1) hC hl.1 hK hX hZ hst hw (show 2 + k < N by omega) hks (by decide) rfl (tX1_many_r1 l N ad K I R (2 + k) a n (by omega) (hks) (z1) (z4) (hka) (z6)) q436 q438 qs6 q61 q439 (by decide +kernel) ⟨by decide, by decide⟩ rfl rfl (Nat.le_of_ble_eq_true rfl) dX0_drop_17 ⟨by simp only [gN]; omega, by simp only [gN]; omega⟩ ?_
        rintro _ N2 ad2 K2 I2 R2 H locs ⟨rfl, e2⟩ hg hw
        cases e2
        refine M_V (n := 1) (C := RX0) (T := TX0) hC hl.1 hK hX hw (by omega) h0.k0 (by decide) rfl (tX0_well l N ad K I R (nI n) G b (h0)) (lw_V q341 q343 qs2 q60 q344) (by decide +kernel) ⟨by decide, by decide⟩ rfl rfl (Nat.le_of_ble_eq_true rfl) dX0_drop_20 ⟨by simp only [gN]; omega, by simp only [gN]; omega⟩ ?_
        rintro _ N2 ad2 K2 I20 R20 H locs ⟨I3, R3, e3, rfl, h20⟩ hg hw
        cases e3
        dsimp only at h20
        refine lv_istore_n (lv' := [(2, .int (nI n)), (0, .ref (ad 0)), (1, .int (nI k))]) hC.1 hC.2.1 dX0_drop_23 rfl hl (by decide) rfl (fun ls hl => ?_)
        refine lv_aload_n hC.1 hC.2.1 dX0_drop_24 rfl (lv_at hl 1 rfl) ?_
        refine x_ga hC hK hw (by omega) h20.k0 0 1 h20.r0 (by decide) rfl q202 rfl dX0_drop_25 ?_
        refine lv_iload_n hC.1 hC.2.1 dX0_drop_28 rfl (lv_at hl 2 rfl) ?_
        refine g_ldr (t := 0) (v := .ref (ad (2 + k))) hC hK hw (List.mem_range.mpr (by omega)) h0.1.2.2.2.2.1.1 rfl (by omega) (by omega) (by rw [(h20.1.2.2.2.2.2.2 k (by omega)).1]; rfl) dX0_drop_29 ?_
        refine lv_null hC.1 hC.2.1 dX0_drop_30 ?_
        refine g_putrX (ci := 1) (C := RX1) (T := TX1) (ref := RX1) (y := none) hC hK hX hw (List.mem_range.mpr (by omega)) hks (by decide) rfl in_X1 tyX1 tyX1_ok nmX1 0 (by decide) rfl q110 (fun x h => h) rfl (fun j h => by cases h) rfl rfl rfl rfl dX0_drop_31 (fun H locs hw => ?_)
        have h5 := h20.unheld (k := k) (by omega)
        rw [g2_cm _ (by decide)] at h5
        refine lv_iload_n hC.1 hC.2.1 dX0_drop_34 rfl (lv_at hl 0 rfl) ?_
        exact M_iret hC hlk hw gGo.rf ⟨by simp only [gN]; omega, by simp only [gN]; omega⟩ hr rfl (by have eq : mX6_drop G (nI k) = ((nI n), g2 (g2 G 2 k (-1)) 0 3 (nI 0)) := (by simp [mX6_drop, h0.g4, bI_t0, bI_f0, inc01, inc11, inc03, inc13, inc23, inc10, inc20, inc21, c4, ix_nI (show k < 2147483648 by omega), z8, sz_ge z6]); rw [eq]; exact ⟨rfl, h5⟩) dX0_drop_35
      · have hka : K a = (20 + 2, n) := z7
        refine g_ldr (t := 0) (v := .ref (ad (2 + k))) hC hK hw (List.mem_range.mpr (by omega)) h0.1.2.2.2.2.1.1 rfl (by omega) (by omega) (by rw [(h0.1.2.2.2.2.2.2 k (by omega)).1]; rfl) dX0_drop_16 ?_
        refine Z_VN (n := 0) (C := RX1) (T := TX1) hC hl.1 hK hX hZ hst hw (show 2 + k < N by omega) hks (by decide) rfl (tX1_many_r2 l N ad K I R (2 + k) a n (by omega) (hks) (z1) (z4) (hka) (z6)) q436 q438 qs6 q61 q439 (by decide +kernel) ⟨by decide, by decide⟩ rfl rfl (Nat.le_of_ble_eq_true rfl) dX0_drop_17 ⟨by simp only [gN]; omega, by simp only [gN]; omega⟩ ?_
        rintro _ N2 ad2 K2 I2 R2 H locs ⟨rfl, e2⟩ hg hw
        cases e2
        refine M_V (n := 1) (C := RX0) (T := TX0) hC hl.1 hK hX hw (by omega) h0.k0 (by decide) rfl (tX0_well l N ad K I R (nI n) G b (h0)) (lw_V q341 q343 qs2 q60 q344) (by decide +kernel) ⟨by decide, by decide⟩ rfl rfl (Nat.le_of_ble_eq_true rfl) dX0_drop_20 ⟨by simp only [gN]; omega, by simp only [gN]; omega⟩ ?_
        rintro _ N2 ad2 K2 I20 R20 H locs ⟨I3, R3, e3, rfl, h20⟩ hg hw
        cases e3
        dsimp only at h20
        refine lv_istore_n (lv' := [(2, .int (nI n)), (0, .ref (ad 0)), (1, .int (nI k))]) hC.1 hC.2.1 dX0_drop_23 rfl hl (by decide) rfl (fun ls hl => ?_)
        refine lv_aload_n hC.1 hC.2.1 dX0_drop_24 rfl (lv_at hl 1 rfl) ?_
        refine x_ga hC hK hw (by omega) h20.k0 0 1 h20.r0 (by decide) rfl q202 rfl dX0_drop_25 ?_
        refine lv_iload_n hC.1 hC.2.1 dX0_drop_28 rfl (lv_at hl 2 rfl) ?_
        refine g_ldr (t := 0) (v := .ref (ad (2 + k))) hC hK hw (List.mem_range.mpr (by omega)) h0.1.2.2.2.2.1.1 rfl (by omega) (by omega) (by rw [(h20.1.2.2.2.2.2.2 k (by omega)).1]; rfl) dX0_drop_29 ?_
        refine lv_null hC.1 hC.2.1 dX0_drop_30 ?_
        refine g_putrX (ci := 1) (C := RX1) (T := TX1) (ref := RX1) (y := none) hC hK hX hw (List.mem_range.mpr (by omega)) hks (by decide) rfl in_X1 tyX1 tyX1_ok nmX1 0 (by decide) rfl q110 (fun x h => h) rfl (fun j h => by cases h) rfl rfl rfl rfl dX0_drop_31 (fun H locs hw => ?_)
        have h5 := h20.unheld (k := k) (by omega)
        rw [g2_cm _ (by decide)] at h5
        refine lv_iload_n hC.1 hC.2.1 dX0_drop_34 rfl (lv_at hl 0 rfl) ?_
        exact M_iret hC hlk hw gGo.rf ⟨by simp only [gN]; omega, by simp only [gN]; omega⟩ hr rfl (by have eq : mX6_drop G (nI k) = ((nI n), g2 (g2 G 2 k (-1)) 0 3 (nI 0)) := (by simp [mX6_drop, h0.g4, bI_t0, bI_f0, inc01, inc11, inc03, inc13, inc23, inc10, inc20, inc21, c4, ix_nI (show k < 2147483648 by omega), z8, sz_ge z6]); rw [eq]; exact ⟨rfl, h5⟩) dX0_drop_35
      · have hka : K a = (20 + 0, n) := z7
        refine g_ldr (t := 0) (v := .ref (ad (2 + k))) hC hK hw (List.mem_range.mpr (by omega)) h0.1.2.2.2.2.1.1 rfl (by omega) (by omega) (by rw [(h0.1.2.2.2.2.2.2 k (by omega)).1]; rfl) dX0_drop_16 ?_
        refine Z_VN (n := 0) (C := RX1) (T := TX1) hC hl.1 hK hX hZ hst hw (show 2 + k < N by omega) hks (by decide) rfl (tX1_many_r0 l N ad K I R (2 + k) a n (by omega) (hks) (z1) (z4) (hka) (z6)) q436 q438 qs6 q61 q439 (by decide +kernel) ⟨by decide, by decide⟩ rfl rfl (Nat.le_of_ble_eq_true rfl) dX0_drop_17 ⟨by simp only [gN]; omega, by simp only [gN]; omega⟩ ?_
        rintro _ N2 ad2 K2 I2 R2 H locs ⟨rfl, e2⟩ hg hw
        cases e2
        refine M_V (n := 1) (C := RX0) (T := TX0) hC hl.1 hK hX hw (by omega) h0.k0 (by decide) rfl (tX0_well l N ad K I R (nI n) G b (h0)) (lw_V q341 q343 qs2 q60 q344) (by decide +kernel) ⟨by decide, by decide⟩ rfl rfl (Nat.le_of_ble_eq_true rfl) dX0_drop_20 ⟨by simp only [gN]; omega, by simp only [gN]; omega⟩ ?_
        rintro _ N2 ad2 K2 I20 R20 H locs ⟨I3, R3, e3, rfl, h20⟩ hg hw
        cases e3
        dsimp only at h20
        refine lv_istore_n (lv' := [(2, .int (nI n)), (0, .ref (ad 0)), (1, .int (nI k))]) hC.1 hC.2.1 dX0_drop_23 rfl hl (by decide) rfl (fun ls hl => ?_)
        refine lv_aload_n hC.1 hC.2.1 dX0_drop_24 rfl (lv_at hl 1 rfl) ?_
        refine x_ga hC hK hw (by omega) h20.k0 0 1 h20.r0 (by decide) rfl q202 rfl dX0_drop_25 ?_
        refine lv_iload_n hC.1 hC.2.1 dX0_drop_28 rfl (lv_at hl 2 rfl) ?_
        refine g_ldr (t := 0) (v := .ref (ad (2 + k))) hC hK hw (List.mem_range.mpr (by omega)) h0.1.2.2.2.2.1.1 rfl (by omega) (by omega) (by rw [(h20.1.2.2.2.2.2.2 k (by omega)).1]; rfl) dX0_drop_29 ?_
        refine lv_null hC.1 hC.2.1 dX0_drop_30 ?_
        refine g_putrX (ci := 1) (C := RX1) (T := TX1) (ref := RX1) (y := none) hC hK hX hw (List.mem_range.mpr (by omega)) hks (by decide) rfl in_X1 tyX1 tyX1_ok nmX1 0 (by decide) rfl q110 (fun x h => h) rfl (fun j h => by cases h) rfl rfl rfl rfl dX0_drop_31 (fun H locs hw => ?_)
        have h5 := h20.unheld (k := k) (by omega)
        rw [g2_cm _ (by decide)] at h5
        refine lv_iload_n hC.1 hC.2.1 dX0_drop_34 rfl (lv_at hl 0 rfl) ?_
        exact M_iret hC hlk hw gGo.rf ⟨by simp only [gN]; omega, by simp only [gN]; omega⟩ hr rfl (by have eq : mX6_drop G (nI k) = ((nI n), g2 (g2 G 2 k (-1)) 0 3 (nI 0)) := (by simp [mX6_drop, h0.g4, bI_t0, bI_f0, inc01, inc11, inc03, inc13, inc23, inc10, inc20, inc21, c4, ix_nI (show k < 2147483648 by omega), z8, sz_ge z6]); rw [eq]; exact ⟨rfl, h5⟩) dX0_drop_35
  · refine lv_ldc hC.1 hC.2.1 hC.2.2.2.1 (hC.2.2.2.2 _ q337) dX0_drop_7 ?_
    exact M_iret hC hlk hw gGo.rf ⟨by simp only [gN]; omega, by simp only [gN]; omega⟩ hr rfl (by have eq : mX6_drop G row = ((-1000001 : Int32), G) := (by simp [mX6_drop, h0.g4, bI_t0, bI_f0, inc01, inc11, inc03, inc13, inc23, inc10, inc20, inc21, c4]); rw [eq]; exact ⟨rfl, h0⟩) dX0_drop_9

set_option maxHeartbeats 800000 in
theorem tX0_row (l : Launch) (hl0 : l.stackTraces = false) (N : Nat) (ad : Nat → Nat) (K : gK) (I : mG) (R : gR) (row : Int32) (lane : Int32) (n_ : Int32) (G : mG) (b : Bool) (h0 : wcR N K I R G b) : gMZ l yX0_row (wsW_ yX0_row cX0_row 5 (some FieldType.int) [(28, 47, 48, 105)]) ({ frames := 9, cells := 3, slots := 54, locals := 10261 } : Room) [.ref (ad 0), .int row, .int lane, .int n_] N ad K I R (fun v S => v = some (.int (mX6_row G row lane n_).1) ∧ wcR S.1 S.2.2.1 S.2.2.2.1 S.2.2.2.2 (mX6_row G row lane n_).2 b) := by
  refine gMZ.ofH (by decide) (Nat.le_of_ble_eq_true rfl) ?_
  intro D dA p e s m args below meth cd ls hC hlk hr htb hK hX hZ hst hl hw
  have hl : lv_has ls 5 [(0, .ref (ad 0)), (1, .int row), (2, .int lane), (3, .int n_)] := hl
  have hge := h0.ge
  refine lv_iload_n hC.1 hC.2.1 dX0_row_0 rfl (lv_at hl 1 rfl) ?_
  refine pS_call (n := 1) hC hl.1 (tX0_isRow l row ) (lw_S q329 q330 q60 q331) rfl rfl (by decide +kernel) ⟨by decide, by decide⟩ rfl rfl (Nat.le_of_ble_eq_true rfl) dX0_row_1 ⟨Nat.zero_le _, Nat.zero_le _⟩ ?_
  refine k_beq (tgt := 25) hC dX0_row_4 (by decide) (fun c4 => ?_) (fun c4 => ?_)
  · refine lv_ldc hC.1 hC.2.1 hC.2.2.2.1 (hC.2.2.2.2 _ q337) dX0_row_25 ?_
    exact M_iret hC hlk hw gGo.rf ⟨by simp only [gN]; omega, by simp only [gN]; omega⟩ hr rfl (by have eq : mX6_row G row lane n_ = ((-1000001 : Int32), G) := (by simp [mX6_row, h0.g4, bI_t0, bI_f0, inc01, inc11, inc03, inc13, inc23, inc10, inc20, inc21, c4]); rw [eq]; exact ⟨rfl, h0⟩) dX0_row_27
  · refine lv_iload_n hC.1 hC.2.1 dX0_row_7 rfl (lv_at hl 2 rfl) ?_
    refine lv_i2l hC.1 hC.2.1 dX0_row_8 rfl ?_
    refine lv_lconst (v := 0) hC.1 hC.2.1 dX0_row_9 (by decide) ?_
    refine lv_ldc2 hC.1 hC.2.1 hC.2.2.2.1 (hC.2.2.2.2 _ q336) dX0_row_10 ?_
    refine pS_call (n := 3) hC hl.1 (tX0_isInI l lane 0 (nI 2)) (lw_S q333 q334 q60 q335) rfl rfl (by decide +kernel) ⟨by decide, by decide⟩ rfl rfl (Nat.le_of_ble_eq_true rfl) dX0_row_13 ⟨Nat.zero_le _, Nat.zero_le _⟩ ?_
    refine k_beq (tgt := 25) hC dX0_row_16 (by decide) (fun c16 => ?_) (fun c16 => ?_)
    · refine lv_ldc hC.1 hC.2.1 hC.2.2.2.1 (hC.2.2.2.2 _ q337) dX0_row_25 ?_
      exact M_iret hC hlk hw gGo.rf ⟨by simp only [gN]; omega, by simp only [gN]; omega⟩ hr rfl (by have eq : mX6_row G row lane n_ = ((-1000001 : Int32), G) := (by simp [mX6_row, h0.g4, bI_t0, bI_f0, inc01, inc11, inc03, inc13, inc23, inc10, inc20, inc21, c4, c16]); rw [eq]; exact ⟨rfl, h0⟩) dX0_row_27
    · refine lv_iload_n hC.1 hC.2.1 dX0_row_19 rfl (lv_at hl 3 rfl) ?_
      refine lv_bipush (v := (nI 40)) hC.1 hC.2.1 dX0_row_20 (by decide) ?_
      refine lv_icmp_le (tgt := 28) hC.1 hC.2.1 dX0_row_22 (by decide) (fun c22 => ?_) (fun c22 => ?_)
      · obtain ⟨k, hk, rfl⟩ := inB_nat (n := 7) (by decide) c4
        obtain ⟨t, ht, rfl⟩ := inB_nat (n := 2) (by decide) c16
        refine lv_aload_n hC.1 hC.2.1 dX0_row_28 rfl (lv_at hl 0 rfl) ?_
        refine x_ga hC hK hw (by omega) h0.k0 0 1 h0.r0 (by decide) rfl q202 rfl dX0_row_29 ?_
        by_cases hng : n_ < 0
        · refine lv_iload_n hC.1 hC.2.1 dX0_row_32 rfl (lv_at hl 1 rfl) ?_
          have t3 : t = 0 ∨ t = 1 ∨ t = 2 := by omega
          rcases t3 with rfl | rfl | rfl
          · refine g_ldr (t := 0) (v := .ref (ad (2 + k))) hC hK hw (List.mem_range.mpr (by omega)) h0.1.2.2.2.2.1.1 rfl (by omega) (by omega) (by rw [(h0.1.2.2.2.2.2.2 k (by omega)).1]; rfl) dX0_row_33 ?_
            refine lv_iload_n hC.1 hC.2.1 dX0_row_34 rfl (lv_at hl 2 rfl) ?_
            refine lv_iload_n hC.1 hC.2.1 dX0_row_35 rfl (lv_at hl 3 rfl) ?_
            refine T_S (n := 2) hC hl.1 hK hX hZ hst hw (tX0_newLane_o0 l hl0 N ad K I R n_ (hng)) (lw_S q338 q339 q60 q340) (by decide +kernel) ⟨by decide, by decide⟩ rfl rfl (Nat.le_of_ble_eq_true rfl) dX0_row_36 ⟨by simp only [gN]; omega, by simp only [gN]; omega⟩ (fun x0 N2 ad2 K2 I2 R2 H locs e2 hg hw => ?_)
            cases e2
            refine T_catch (pc := 36) htb (h := 48) (fun pl cX hpl hE => rt_hit (pc := 36) (x := ⟨28, 47, 48, 105⟩) hpl hC.2.2.2.1 hE (hC.2.2.2.2 _ q243) (hX _ q307 rfl) (by decide) (by decide)) ?_
            refine lv_astore (lv' := [(4, .ref x0), (0, .ref (ad 0)), (1, .int (nI k)), (2, .int (nI 0)), (3, .int n_)]) hC.1 hC.2.1 dX0_row_48 hl (by decide) rfl (fun ls hl => ?_)
            refine lv_aload_n hC.1 hC.2.1 dX0_row_50 rfl (lv_at hl 1 rfl) ?_
            refine lv_iconst (v := (nI 4)) hC.1 hC.2.1 dX0_row_51 (by decide) ?_
            refine M_V (n := 1) (C := RX0) (T := TX0) hC hl.1 hK hX hw (by omega) h0.k0 (by decide) rfl (tX0_found l N ad K I R (nI 4) G b (h0)) (lw_V q345 q347 qs3 q60 q348) (by decide +kernel) ⟨by decide, by decide⟩ rfl rfl (Nat.le_of_ble_eq_true rfl) dX0_row_52 ⟨by simp only [gN]; omega, by simp only [gN]; omega⟩ ?_
            rintro _ N2 ad2 K2 I52 R52 H locs ⟨I3, R3, e3, rfl, h52⟩ hg hw
            cases e3
            dsimp only at h52
            exact M_iret hC hlk hw gGo.rf ⟨by simp only [gN]; omega, by simp only [gN]; omega⟩ hr rfl (by have eq : mX6_row G (nI k) (nI 0) n_ = (((-1000010 : Int32) - (nI 4)), g2 G 0 3 (nI 4)) := (by simp [mX6_row, h0.g4, bI_t0, bI_f0, inc01, inc11, inc03, inc13, inc23, inc10, inc20, inc21, c4, c16, c22, ix_nI (show k < 2147483648 by omega), Int32.not_le.mpr hng]); rw [eq]; exact ⟨rfl, h52⟩) dX0_row_55
          · refine g_ldr (t := 0) (v := .ref (ad (2 + k))) hC hK hw (List.mem_range.mpr (by omega)) h0.1.2.2.2.2.1.1 rfl (by omega) (by omega) (by rw [(h0.1.2.2.2.2.2.2 k (by omega)).1]; rfl) dX0_row_33 ?_
            refine lv_iload_n hC.1 hC.2.1 dX0_row_34 rfl (lv_at hl 2 rfl) ?_
            refine lv_iload_n hC.1 hC.2.1 dX0_row_35 rfl (lv_at hl 3 rfl) ?_
            refine T_S (n := 2) hC hl.1 hK hX hZ hst hw (tX0_newLane_o1 l hl0 N ad K I R n_ (hng)) (lw_S q338 q339 q60 q340) (by decide +kernel) ⟨by decide, by decide⟩ rfl rfl (Nat.le_of_ble_eq_true rfl) dX0_row_36 ⟨by simp only [gN]; omega, by simp only [gN]; omega⟩ (fun x0 N2 ad2 K2 I2 R2 H locs e2 hg hw => ?_)
            cases e2
            refine T_catch (pc := 36) htb (h := 48) (fun pl cX hpl hE => rt_hit (pc := 36) (x := ⟨28, 47, 48, 105⟩) hpl hC.2.2.2.1 hE (hC.2.2.2.2 _ q243) (hX _ q307 rfl) (by decide) (by decide)) ?_
            refine lv_astore (lv' := [(4, .ref x0), (0, .ref (ad 0)), (1, .int (nI k)), (2, .int (nI 1)), (3, .int n_)]) hC.1 hC.2.1 dX0_row_48 hl (by decide) rfl (fun ls hl => ?_)
            refine lv_aload_n hC.1 hC.2.1 dX0_row_50 rfl (lv_at hl 1 rfl) ?_
            refine lv_iconst (v := (nI 4)) hC.1 hC.2.1 dX0_row_51 (by decide) ?_
            refine M_V (n := 1) (C := RX0) (T := TX0) hC hl.1 hK hX hw (by omega) h0.k0 (by decide) rfl (tX0_found l N ad K I R (nI 4) G b (h0)) (lw_V q345 q347 qs3 q60 q348) (by decide +kernel) ⟨by decide, by decide⟩ rfl rfl (Nat.le_of_ble_eq_true rfl) dX0_row_52 ⟨by simp only [gN]; omega, by simp only [gN]; omega⟩ ?_
            rintro _ N2 ad2 K2 I52 R52 H locs ⟨I3, R3, e3, rfl, h52⟩ hg hw
            cases e3
            dsimp only at h52
            exact M_iret hC hlk hw gGo.rf ⟨by simp only [gN]; omega, by simp only [gN]; omega⟩ hr rfl (by have eq : mX6_row G (nI k) (nI 1) n_ = (((-1000010 : Int32) - (nI 4)), g2 G 0 3 (nI 4)) := (by simp [mX6_row, h0.g4, bI_t0, bI_f0, inc01, inc11, inc03, inc13, inc23, inc10, inc20, inc21, c4, c16, c22, ix_nI (show k < 2147483648 by omega), Int32.not_le.mpr hng]); rw [eq]; exact ⟨rfl, h52⟩) dX0_row_55
          · refine g_ldr (t := 0) (v := .ref (ad (2 + k))) hC hK hw (List.mem_range.mpr (by omega)) h0.1.2.2.2.2.1.1 rfl (by omega) (by omega) (by rw [(h0.1.2.2.2.2.2.2 k (by omega)).1]; rfl) dX0_row_33 ?_
            refine lv_iload_n hC.1 hC.2.1 dX0_row_34 rfl (lv_at hl 2 rfl) ?_
            refine lv_iload_n hC.1 hC.2.1 dX0_row_35 rfl (lv_at hl 3 rfl) ?_
            refine T_S (n := 2) hC hl.1 hK hX hZ hst hw (tX0_newLane_o2 l hl0 N ad K I R n_ (hng)) (lw_S q338 q339 q60 q340) (by decide +kernel) ⟨by decide, by decide⟩ rfl rfl (Nat.le_of_ble_eq_true rfl) dX0_row_36 ⟨by simp only [gN]; omega, by simp only [gN]; omega⟩ (fun x0 N2 ad2 K2 I2 R2 H locs e2 hg hw => ?_)
            cases e2
            refine T_catch (pc := 36) htb (h := 48) (fun pl cX hpl hE => rt_hit (pc := 36) (x := ⟨28, 47, 48, 105⟩) hpl hC.2.2.2.1 hE (hC.2.2.2.2 _ q243) (hX _ q307 rfl) (by decide) (by decide)) ?_
            refine lv_astore (lv' := [(4, .ref x0), (0, .ref (ad 0)), (1, .int (nI k)), (2, .int (nI 2)), (3, .int n_)]) hC.1 hC.2.1 dX0_row_48 hl (by decide) rfl (fun ls hl => ?_)
            refine lv_aload_n hC.1 hC.2.1 dX0_row_50 rfl (lv_at hl 1 rfl) ?_
            refine lv_iconst (v := (nI 4)) hC.1 hC.2.1 dX0_row_51 (by decide) ?_
            refine M_V (n := 1) (C := RX0) (T := TX0) hC hl.1 hK hX hw (by omega) h0.k0 (by decide) rfl (tX0_found l N ad K I R (nI 4) G b (h0)) (lw_V q345 q347 qs3 q60 q348) (by decide +kernel) ⟨by decide, by decide⟩ rfl rfl (Nat.le_of_ble_eq_true rfl) dX0_row_52 ⟨by simp only [gN]; omega, by simp only [gN]; omega⟩ ?_
            rintro _ N2 ad2 K2 I52 R52 H locs ⟨I3, R3, e3, rfl, h52⟩ hg hw
            cases e3
            dsimp only at h52
            exact M_iret hC hlk hw gGo.rf ⟨by simp only [gN]; omega, by simp only [gN]; omega⟩ hr rfl (by have eq : mX6_row G (nI k) (nI 2) n_ = (((-1000010 : Int32) - (nI 4)), g2 G 0 3 (nI 4)) := (by simp [mX6_row, h0.g4, bI_t0, bI_f0, inc01, inc11, inc03, inc13, inc23, inc10, inc20, inc21, c4, c16, c22, ix_nI (show k < 2147483648 by omega), Int32.not_le.mpr hng]); rw [eq]; exact ⟨rfl, h52⟩) dX0_row_55
        · obtain ⟨n, hn31, rfl⟩ := nI_of hng
          have hn40 : n ≤ 40 := Nat.le_of_not_lt (fun z => nI_ge z hn31 c22)
          refine lv_iload_n hC.1 hC.2.1 dX0_row_32 rfl (lv_at hl 1 rfl) ?_
          have t3 : t = 0 ∨ t = 1 ∨ t = 2 := by omega
          rcases t3 with rfl | rfl | rfl
          · refine g_ldr (t := 0) (v := .ref (ad (2 + k))) hC hK hw (List.mem_range.mpr (by omega)) h0.1.2.2.2.2.1.1 rfl (by omega) (by omega) (by rw [(h0.1.2.2.2.2.2.2 k (by omega)).1]; rfl) dX0_row_33 ?_
            refine lv_iload_n hC.1 hC.2.1 dX0_row_34 rfl (lv_at hl 2 rfl) ?_
            refine lv_iload_n hC.1 hC.2.1 dX0_row_35 rfl (lv_at hl 3 rfl) ?_
            refine Z_S (n := 2) hC hl.1 hK hX hZ hst hw (tX0_newLane_r0 l N ad K I R n (hn40)) (lw_S q338 q339 q60 q340) (by decide +kernel) ⟨by decide, by decide⟩ rfl rfl (Nat.le_of_ble_eq_true rfl) dX0_row_36 ⟨by simp only [gN]; omega, by simp only [gN]; omega⟩ ?_
            rintro _ N2 ad2 K2 I2 R2 H locs ⟨adl, rfl, e2⟩ hgl hw
            cases e2
            have e_ad2 : ad 0 = ad2 0 := (hgl.2 0 (by omega)).1.symm
            rw [e_ad2] at hl
            have e_ad2 : ad (2 + k) = ad2 (2 + k) := (hgl.2 (2 + k) (by omega)).1.symm
            rw [e_ad2]
            have h2 : wcR (N + 1) (va_up K N (20 + 1, n)) (va_up I N (fun _ => nI 0)) (r2 (va_up R N (fun _ => none)) (2 + k) 0 (some N)) _ b := h0.row (t := 0) (k := k) (by omega) (by decide) hn40
            refine g_putrX (ci := 1) (C := RX1) (T := TX1) (ref := RX1) (y := some N) hC hK hX hw (List.mem_range.mpr (by omega)) (by rw [va_up_ne _ _ (by omega)]; exact (h0.1.2.2.2.2.2.2 k (by omega)).2) (by decide) rfl in_X1 tyX1 tyX1_ok nmX1 0 (by decide) rfl q110 (fun x h => h) rfl (fun j h => by cases h; exact List.mem_range.mpr (by omega)) rfl rfl rfl rfl dX0_row_39 (fun H locs hw => ?_)
            refine lv_aload_n hC.1 hC.2.1 dX0_row_42 rfl (lv_at hl 0 rfl) ?_
            refine lv_iload_n hC.1 hC.2.1 dX0_row_43 rfl (lv_at hl 3 rfl) ?_
            refine M_V (n := 1) (C := RX0) (T := TX0) hC hl.1 hK hX hw (by omega) h2.k0 (by decide) rfl (tX0_well l (N + 1) ad2 (va_up K N (20 + 1, n)) (va_up I N (fun _ => nI 0)) (r2 (va_up R N (fun _ => none)) (2 + k) 0 (some N)) (nI n) (va_up (g2 (g2 G 1 k (nI 0)) 2 k (nI n)) 3 (fun j => if 40 * k ≤ j ∧ j < 40 * k + 40 then (fun _ => nI 0) (j - 40 * k) else G 3 j)) b (h2)) (lw_V q341 q343 qs2 q60 q344) (by decide +kernel) ⟨by decide, by decide⟩ rfl rfl (Nat.le_of_ble_eq_true rfl) dX0_row_44 ⟨by simp only [gN]; omega, by simp only [gN]; omega⟩ ?_
            rintro _ N2 ad2 K2 I44 R44 H locs ⟨I3, R3, e3, rfl, h44⟩ hg hw
            cases e3
            dsimp only at h44
            exact M_iret hC hlk hw hgl.to ⟨by simp only [gN]; omega, by simp only [gN]; omega⟩ hr rfl (by have eq : mX6_row G (nI k) (nI 0) (nI n) = ((nI n), g2 (va_up (g2 (g2 G 1 k (nI 0)) 2 k (nI n)) 3 (fun j => if 40 * k ≤ j ∧ j < 40 * k + 40 then (fun _ => nI 0) (j - 40 * k) else G 3 j)) 0 3 (nI 0)) := (by simp [mX6_row, h0.g4, bI_t0, bI_f0, inc01, inc11, inc03, inc13, inc23, inc10, inc20, inc21, c4, c16, c22, ix_nI (show k < 2147483648 by omega), ix_nI (show n < 2147483648 by omega), sz_ge hn40]); rw [eq]; exact ⟨rfl, h44⟩) dX0_row_47
          · refine g_ldr (t := 0) (v := .ref (ad (2 + k))) hC hK hw (List.mem_range.mpr (by omega)) h0.1.2.2.2.2.1.1 rfl (by omega) (by omega) (by rw [(h0.1.2.2.2.2.2.2 k (by omega)).1]; rfl) dX0_row_33 ?_
            refine lv_iload_n hC.1 hC.2.1 dX0_row_34 rfl (lv_at hl 2 rfl) ?_
            refine lv_iload_n hC.1 hC.2.1 dX0_row_35 rfl (lv_at hl 3 rfl) ?_
            refine Z_S (n := 2) hC hl.1 hK hX hZ hst hw (tX0_newLane_r1 l N ad K I R n (hn40)) (lw_S q338 q339 q60 q340) (by decide +kernel) ⟨by decide, by decide⟩ rfl rfl (Nat.le_of_ble_eq_true rfl) dX0_row_36 ⟨by simp only [gN]; omega, by simp only [gN]; omega⟩ ?_
            rintro _ N2 ad2 K2 I2 R2 H locs ⟨adl, rfl, e2⟩ hgl hw
            cases e2
            have e_ad2 : ad 0 = ad2 0 := (hgl.2 0 (by omega)).1.symm
            rw [e_ad2] at hl
            have e_ad2 : ad (2 + k) = ad2 (2 + k) := (hgl.2 (2 + k) (by omega)).1.symm
            rw [e_ad2]
            have h2 : wcR (N + 1) (va_up K N (20 + 2, n)) (va_up I N (fun _ => nI 0)) (r2 (va_up R N (fun _ => none)) (2 + k) 0 (some N)) _ b := h0.row (t := 1) (k := k) (by omega) (by decide) hn40
            refine g_putrX (ci := 1) (C := RX1) (T := TX1) (ref := RX1) (y := some N) hC hK hX hw (List.mem_range.mpr (by omega)) (by rw [va_up_ne _ _ (by omega)]; exact (h0.1.2.2.2.2.2.2 k (by omega)).2) (by decide) rfl in_X1 tyX1 tyX1_ok nmX1 0 (by decide) rfl q110 (fun x h => h) rfl (fun j h => by cases h; exact List.mem_range.mpr (by omega)) rfl rfl rfl rfl dX0_row_39 (fun H locs hw => ?_)
            refine lv_aload_n hC.1 hC.2.1 dX0_row_42 rfl (lv_at hl 0 rfl) ?_
            refine lv_iload_n hC.1 hC.2.1 dX0_row_43 rfl (lv_at hl 3 rfl) ?_
            refine M_V (n := 1) (C := RX0) (T := TX0) hC hl.1 hK hX hw (by omega) h2.k0 (by decide) rfl (tX0_well l (N + 1) ad2 (va_up K N (20 + 2, n)) (va_up I N (fun _ => nI 0)) (r2 (va_up R N (fun _ => none)) (2 + k) 0 (some N)) (nI n) (va_up (g2 (g2 G 1 k (nI 1)) 2 k (nI n)) 3 (fun j => if 40 * k ≤ j ∧ j < 40 * k + 40 then (fun _ => nI 0) (j - 40 * k) else G 3 j)) b (h2)) (lw_V q341 q343 qs2 q60 q344) (by decide +kernel) ⟨by decide, by decide⟩ rfl rfl (Nat.le_of_ble_eq_true rfl) dX0_row_44 ⟨by simp only [gN]; omega, by simp only [gN]; omega⟩ ?_
            rintro _ N2 ad2 K2 I44 R44 H locs ⟨I3, R3, e3, rfl, h44⟩ hg hw
            cases e3
            dsimp only at h44
            exact M_iret hC hlk hw hgl.to ⟨by simp only [gN]; omega, by simp only [gN]; omega⟩ hr rfl (by have eq : mX6_row G (nI k) (nI 1) (nI n) = ((nI n), g2 (va_up (g2 (g2 G 1 k (nI 1)) 2 k (nI n)) 3 (fun j => if 40 * k ≤ j ∧ j < 40 * k + 40 then (fun _ => nI 0) (j - 40 * k) else G 3 j)) 0 3 (nI 0)) := (by simp [mX6_row, h0.g4, bI_t0, bI_f0, inc01, inc11, inc03, inc13, inc23, inc10, inc20, inc21, c4, c16, c22, ix_nI (show k < 2147483648 by omega), ix_nI (show n < 2147483648 by omega), sz_ge hn40]); rw [eq]; exact ⟨rfl, h44⟩) dX0_row_47
          · refine g_ldr (t := 0) (v := .ref (ad (2 + k))) hC hK hw (List.mem_range.mpr (by omega)) h0.1.2.2.2.2.1.1 rfl (by omega) (by omega) (by rw [(h0.1.2.2.2.2.2.2 k (by omega)).1]; rfl) dX0_row_33 ?_
            refine lv_iload_n hC.1 hC.2.1 dX0_row_34 rfl (lv_at hl 2 rfl) ?_
            refine lv_iload_n hC.1 hC.2.1 dX0_row_35 rfl (lv_at hl 3 rfl) ?_
            refine Z_S (n := 2) hC hl.1 hK hX hZ hst hw (tX0_newLane_r2 l N ad K I R n (hn40)) (lw_S q338 q339 q60 q340) (by decide +kernel) ⟨by decide, by decide⟩ rfl rfl (Nat.le_of_ble_eq_true rfl) dX0_row_36 ⟨by simp only [gN]; omega, by simp only [gN]; omega⟩ ?_
            rintro _ N2 ad2 K2 I2 R2 H locs ⟨adl, rfl, e2⟩ hgl hw
            cases e2
            have e_ad2 : ad 0 = ad2 0 := (hgl.2 0 (by omega)).1.symm
            rw [e_ad2] at hl
            have e_ad2 : ad (2 + k) = ad2 (2 + k) := (hgl.2 (2 + k) (by omega)).1.symm
            rw [e_ad2]
            have h2 : wcR (N + 1) (va_up K N (20 + 0, n)) (va_up I N (fun _ => nI 0)) (r2 (va_up R N (fun _ => none)) (2 + k) 0 (some N)) _ b := h0.row (t := 2) (k := k) (by omega) (by decide) hn40
            refine g_putrX (ci := 1) (C := RX1) (T := TX1) (ref := RX1) (y := some N) hC hK hX hw (List.mem_range.mpr (by omega)) (by rw [va_up_ne _ _ (by omega)]; exact (h0.1.2.2.2.2.2.2 k (by omega)).2) (by decide) rfl in_X1 tyX1 tyX1_ok nmX1 0 (by decide) rfl q110 (fun x h => h) rfl (fun j h => by cases h; exact List.mem_range.mpr (by omega)) rfl rfl rfl rfl dX0_row_39 (fun H locs hw => ?_)
            refine lv_aload_n hC.1 hC.2.1 dX0_row_42 rfl (lv_at hl 0 rfl) ?_
            refine lv_iload_n hC.1 hC.2.1 dX0_row_43 rfl (lv_at hl 3 rfl) ?_
            refine M_V (n := 1) (C := RX0) (T := TX0) hC hl.1 hK hX hw (by omega) h2.k0 (by decide) rfl (tX0_well l (N + 1) ad2 (va_up K N (20 + 0, n)) (va_up I N (fun _ => nI 0)) (r2 (va_up R N (fun _ => none)) (2 + k) 0 (some N)) (nI n) (va_up (g2 (g2 G 1 k (nI 2)) 2 k (nI n)) 3 (fun j => if 40 * k ≤ j ∧ j < 40 * k + 40 then (fun _ => nI 0) (j - 40 * k) else G 3 j)) b (h2)) (lw_V q341 q343 qs2 q60 q344) (by decide +kernel) ⟨by decide, by decide⟩ rfl rfl (Nat.le_of_ble_eq_true rfl) dX0_row_44 ⟨by simp only [gN]; omega, by simp only [gN]; omega⟩ ?_
            rintro _ N2 ad2 K2 I44 R44 H locs ⟨I3, R3, e3, rfl, h44⟩ hg hw
            cases e3
            dsimp only at h44
            exact M_iret hC hlk hw hgl.to ⟨by simp only [gN]; omega, by simp only [gN]; omega⟩ hr rfl (by have eq : mX6_row G (nI k) (nI 2) (nI n) = ((nI n), g2 (va_up (g2 (g2 G 1 k (nI 2)) 2 k (nI n)) 3 (fun j => if 40 * k ≤ j ∧ j < 40 * k + 40 then (fun _ => nI 0) (j - 40 * k) else G 3 j)) 0 3 (nI 0)) := (by simp [mX6_row, h0.g4, bI_t0, bI_f0, inc01, inc11, inc03, inc13, inc23, inc10, inc20, inc21, c4, c16, c22, ix_nI (show k < 2147483648 by omega), ix_nI (show n < 2147483648 by omega), sz_ge hn40]); rw [eq]; exact ⟨rfl, h44⟩) dX0_row_47
      · refine lv_ldc hC.1 hC.2.1 hC.2.2.2.1 (hC.2.2.2.2 _ q337) dX0_row_25 ?_
        exact M_iret hC hlk hw gGo.rf ⟨by simp only [gN]; omega, by simp only [gN]; omega⟩ hr rfl (by have eq : mX6_row G row lane n_ = ((-1000001 : Int32), G) := (by simp [mX6_row, h0.g4, bI_t0, bI_f0, inc01, inc11, inc03, inc13, inc23, inc10, inc20, inc21, c4, c16, c22]); rw [eq]; exact ⟨rfl, h0⟩) dX0_row_27
