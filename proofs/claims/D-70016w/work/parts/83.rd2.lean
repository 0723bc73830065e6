/-! ===== Reader: figure, sign, four (by gen/w83.py) ===== -/
set_option maxHeartbeats 800000 in
theorem tX7_figure (l : Launch) (N : Nat) (ad : Nat → Nat) (K : gK) (I : mG) (R : gR) (rd : Nat) (lo : Int32) (hi : Int32) (T : vV) (n : Nat) (b : Nat) (h0 : rdB N K I R rd T n) (h1 : rdT I rd T n b) (h2 : (ntT T n b).2.1 = nI 2) (h3 : inB (ntT T n b).2.2 lo hi = true) : gA l yX7_figure (ws_ yX7_figure cX7_figure 4 (some FieldType.int)) ({ frames := 2, cells := 0, slots := 0, locals := 46 } : Room) [.ref (ad rd), .int lo, .int hi] N ad K I R (fun v S => v = some (.int (ntT T n b).2.2) ∧ ∃ tk va, S = (rdI I rd (nI (ntT T n (ntT T n b).1).1) tk (nI (ntT T n b).1) va, R) ∧ tkR tk va (ntT T n (ntT T n b).1)) := by
  refine gM.of (by decide) (Nat.le_of_ble_eq_true rfl) ?_
  intro D dA p e s m args below meth cd ls hC hlk hr hin hK hX hl hw
  have hl : lv_has ls 4 [(0, .ref (ad rd)), (1, .int lo), (2, .int hi)] := hl
  have hrd : rd < N := by have := h0.1; omega
  have kp := h0.1.2.2.1
  have htk := tk_num h1.2.2.2
  refine lv_aload_n hC.1 hC.2.1 dX7_figure_0 rfl (lv_at hl 0 rfl) ?_
  refine lv_aload_n hC.1 hC.2.1 dX7_figure_1 rfl (lv_at hl 0 rfl) ?_
  refine g_get (C := RX7) (T := TX7) (ref := RX7) hC hK hw (List.mem_range.mpr hrd) kp (by decide) rfl in_X7 3 (by decide) q462 (fun x h => h) (v := .int (nI 2)) (by show Value.int _ = _; rw [htk.1.mpr h2]) dX7_figure_2 ?_
  refine lv_iconst (v := (nI 2)) hC.1 hC.2.1 dX7_figure_5 (by decide) ?_
  refine k_ne (tgt := 13) hC (by omega) (by omega) dX7_figure_6 (by decide) (fun c6 => ?_) (fun c6 => ?_)
  · exact absurd rfl c6
  · refine lv_iconst (v := (nI 1)) hC.1 hC.2.1 dX7_figure_9 (by decide) ?_
    refine lv_goto (tgt := 14) hC.1 hC.2.1 dX7_figure_10 (by decide) ?_
    refine lv_iconst (v := (nI 1)) hC.1 hC.2.1 dX7_figure_14 (by decide) ?_
    refine M_V (n := 2) (C := RX7) (T := TX7) hC hl.1 hK hX hw hrd kp (by decide) rfl (tX7_must l N ad K I R rd (nI 1) ) (lw_V q508 q510 qs11 q77 q511) (by decide +kernel) ⟨by decide, by decide⟩ rfl rfl (Nat.le_of_ble_eq_true rfl) dX7_figure_15 ⟨by simp only [gN]; omega, by simp only [gN]; omega⟩ ?_
    rintro _ N2 ad2 K2 I2 R2 H locs ⟨I3, R3, e3, rfl, e4⟩ hg hw
    cases e3
    cases e4
    refine lv_aload_n hC.1 hC.2.1 dX7_figure_18 rfl (lv_at hl 0 rfl) ?_
    refine lv_aload_n hC.1 hC.2.1 dX7_figure_19 rfl (lv_at hl 0 rfl) ?_
    refine g_get (C := RX7) (T := TX7) (ref := RX7) hC hK hw (List.mem_range.mpr hrd) kp (by decide) rfl in_X7 5 (by decide) q464 (fun x h => h) (v := .int ((ntT T n b).2.2)) (by show Value.int _ = _; rw [htk.2.1 h2]) dX7_figure_20 ?_
    refine lv_i2l hC.1 hC.2.1 dX7_figure_23 rfl ?_
    refine lv_iload_n hC.1 hC.2.1 dX7_figure_24 rfl (lv_at hl 1 rfl) ?_
    refine lv_i2l hC.1 hC.2.1 dX7_figure_25 rfl ?_
    refine lv_iload_n hC.1 hC.2.1 dX7_figure_26 rfl (lv_at hl 2 rfl) ?_
    refine lv_i2l hC.1 hC.2.1 dX7_figure_27 rfl ?_
    refine pS_callN (n := 3) hC hl.1 hX (tX0_isInI l ((ntT T n b).2.2) lo hi) q497 q334 q60 q335 rfl rfl (by decide +kernel) ⟨by decide, by decide⟩ rfl rfl (Nat.le_of_ble_eq_true rfl) dX7_figure_28 ⟨Nat.zero_le _, Nat.zero_le _⟩ ?_
    rw [h3]
    refine lv_iconst (v := (nI 2)) hC.1 hC.2.1 dX7_figure_31 (by decide) ?_
    refine M_V (n := 2) (C := RX7) (T := TX7) hC hl.1 hK hX hw hrd kp (by decide) rfl (tX7_must l N ad K I R rd (nI 2) ) (lw_V q508 q510 qs11 q77 q511) (by decide +kernel) ⟨by decide, by decide⟩ rfl rfl (Nat.le_of_ble_eq_true rfl) dX7_figure_32 ⟨by simp only [gN]; omega, by simp only [gN]; omega⟩ ?_
    rintro _ N2 ad2 K2 I2 R2 H locs ⟨I3, R3, e3, rfl, e4⟩ hg hw
    cases e3
    cases e4
    refine lv_aload_n hC.1 hC.2.1 dX7_figure_35 rfl (lv_at hl 0 rfl) ?_
    refine g_get (C := RX7) (T := TX7) (ref := RX7) hC hK hw (List.mem_range.mpr hrd) kp (by decide) rfl in_X7 5 (by decide) q464 (fun x h => h) (v := .int ((ntT T n b).2.2)) (by show Value.int _ = _; rw [htk.2.1 h2]) dX7_figure_36 ?_
    refine lv_istore_n (lv' := [(3, .int ((ntT T n b).2.2)), (0, .ref (ad rd)), (1, .int lo), (2, .int hi)]) hC.1 hC.2.1 dX7_figure_39 rfl hl (by decide) rfl (fun ls hl => ?_)
    refine lv_aload_n hC.1 hC.2.1 dX7_figure_40 rfl (lv_at hl 1 rfl) ?_
    refine M_V (n := 0) (C := RX7) (T := TX7) hC hl.1 hK hX hw hrd kp (by decide) rfl (tX7_next l N ad K I R rd T n ((ntT T n b).1) (h0) (h1.2.2.1) (ntT_le h1.1)) (lw_V q486 q488 qs7 q77 q489) (by decide +kernel) ⟨by decide, by decide⟩ rfl rfl (Nat.le_of_ble_eq_true rfl) dX7_figure_41 ⟨by simp only [gN]; omega, by simp only [gN]; omega⟩ ?_
    rintro _ N2 ad2 K2 I2 R2 H locs ⟨I3, R3, e3, rfl, tk, va, e4, e5⟩ hg hw
    cases e3
    cases e4
    refine lv_iload_n hC.1 hC.2.1 dX7_figure_44 rfl (lv_at hl 0 rfl) ?_
    exact M_iret hC hlk hw gGo.rf ⟨by simp only [gN]; omega, by simp only [gN]; omega⟩ hr rfl (⟨_, _, rfl, rfl, _, _, rfl, e5⟩) dX7_figure_45

set_option maxHeartbeats 800000 in
theorem tX7_figure_t (l : Launch) (N : Nat) (ad : Nat → Nat) (K : gK) (I : mG) (R : gR) (rd : Nat) (lo : Int32) (hi : Int32) (T : vV) (n : Nat) (b : Nat) (w : Int32) (h0 : rdB N K I R rd T n) (h1 : rdT I rd T n b) (h2 : fgE T n b lo hi w) : gMT l yX7_figure (ws_ yX7_figure cX7_figure 4 (some FieldType.int)) ({ frames := 5, cells := 1, slots := 8, locals := 132 } : Room) [.ref (ad rd), .int lo, .int hi] N ad K I R RX8 (fun x S => rTh rd w b I R x S) := by
  refine gMT.of (by decide) (Nat.le_of_ble_eq_true rfl) ?_
  intro D dA p e s m args below meth cd ls hC hlk htb hK hX hZ hst hl hw
  have hl : lv_has ls 4 [(0, .ref (ad rd)), (1, .int lo), (2, .int hi)] := hl
  have hrd : rd < N := by have := h0.1; omega
  have kp := h0.1.2.2.1
  have htk := tk_num h1.2.2.2
  rcases h2 with ⟨z1, rfl⟩ | ⟨z1, z2, rfl⟩
  · refine lv_aload_n hC.1 hC.2.1 dX7_figure_0 rfl (lv_at hl 0 rfl) ?_
    refine lv_aload_n hC.1 hC.2.1 dX7_figure_1 rfl (lv_at hl 0 rfl) ?_
    refine g_get (C := RX7) (T := TX7) (ref := RX7) hC hK hw (List.mem_range.mpr hrd) kp (by decide) rfl in_X7 3 (by decide) q462 (fun x h => h) (v := .int (I rd 3)) (by show Value.int _ = _; rw [show I rd 3 = I rd 3 from rfl]) dX7_figure_2 ?_
    refine lv_iconst (v := (nI 2)) hC.1 hC.2.1 dX7_figure_5 (by decide) ?_
    refine lv_icmp_ne (tgt := 13) hC.1 hC.2.1 dX7_figure_6 (by decide) (fun c6 => ?_) (fun c6 => ?_)
    · refine lv_iconst (v := (nI 0)) hC.1 hC.2.1 dX7_figure_13 (by decide) ?_
      refine lv_iconst (v := (nI 1)) hC.1 hC.2.1 dX7_figure_14 (by decide) ?_
      refine T_V (n := 2) (C := RX7) (T := TX7) hC hl.1 hK hX hZ hst hw hrd kp (by decide) rfl (tX7_must_t l N ad K I R rd (nI 1) (hrd) (kp)) (lw_V q508 q510 qs11 q77 q511) (by decide +kernel) ⟨by decide, by decide⟩ rfl rfl (Nat.le_of_ble_eq_true rfl) dX7_figure_15 ⟨by simp only [gN]; omega, by simp only [gN]; omega⟩ (fun x0 N2 ad2 K2 I2 R2 H locs e2 hg hw => ?_)
      cases e2
      exact T_out hlk htb hw hg ⟨by simp only [gN]; omega, by simp only [gN]; omega⟩ (rTh.of rOff.rf hrd h1.2.1)
    · exact absurd (htk.1.mp c6) z1
  · refine lv_aload_n hC.1 hC.2.1 dX7_figure_0 rfl (lv_at hl 0 rfl) ?_
    refine lv_aload_n hC.1 hC.2.1 dX7_figure_1 rfl (lv_at hl 0 rfl) ?_
    refine g_get (C := RX7) (T := TX7) (ref := RX7) hC hK hw (List.mem_range.mpr hrd) kp (by decide) rfl in_X7 3 (by decide) q462 (fun x h => h) (v := .int (nI 2)) (by show Value.int _ = _; rw [htk.1.mpr z1]) dX7_figure_2 ?_
    refine lv_iconst (v := (nI 2)) hC.1 hC.2.1 dX7_figure_5 (by decide) ?_
    refine k_ne (tgt := 13) hC (by omega) (by omega) dX7_figure_6 (by decide) (fun c6 => ?_) (fun c6 => ?_)
    · exact absurd rfl c6
    · refine lv_iconst (v := (nI 1)) hC.1 hC.2.1 dX7_figure_9 (by decide) ?_
      refine lv_goto (tgt := 14) hC.1 hC.2.1 dX7_figure_10 (by decide) ?_
      refine lv_iconst (v := (nI 1)) hC.1 hC.2.1 dX7_figure_14 (by decide) ?_
      refine M_V (n := 2) (C := RX7) (T := TX7) hC hl.1 hK hX hw hrd kp (by decide) rfl (tX7_must l N ad K I R rd (nI 1) ) (lw_V q508 q510 qs11 q77 q511) (by decide +kernel) ⟨by decide, by decide⟩ rfl rfl (Nat.le_of_ble_eq_true rfl) dX7_figure_15 ⟨by simp only [gN]; omega, by simp only [gN]; omega⟩ ?_
      rintro _ N2 ad2 K2 I2 R2 H locs ⟨I3, R3, e3, rfl, e4⟩ hg hw
      cases e3
      cases e4
      refine lv_aload_n hC.1 hC.2.1 dX7_figure_18 rfl (lv_at hl 0 rfl) ?_
      refine lv_aload_n hC.1 hC.2.1 dX7_figure_19 rfl (lv_at hl 0 rfl) ?_
      refine g_get (C := RX7) (T := TX7) (ref := RX7) hC hK hw (List.mem_range.mpr hrd) kp (by decide) rfl in_X7 5 (by decide) q464 (fun x h => h) (v := .int ((ntT T n b).2.2)) (by show Value.int _ = _; rw [htk.2.1 z1]) dX7_figure_20 ?_
      refine lv_i2l hC.1 hC.2.1 dX7_figure_23 rfl ?_
      refine lv_iload_n hC.1 hC.2.1 dX7_figure_24 rfl (lv_at hl 1 rfl) ?_
      refine lv_i2l hC.1 hC.2.1 dX7_figure_25 rfl ?_
      refine lv_iload_n hC.1 hC.2.1 dX7_figure_26 rfl (lv_at hl 2 rfl) ?_
      refine lv_i2l hC.1 hC.2.1 dX7_figure_27 rfl ?_
      refine pS_callN (n := 3) hC hl.1 hX (tX0_isInI l ((ntT T n b).2.2) lo hi) q497 q334 q60 q335 rfl rfl (by decide +kernel) ⟨by decide, by decide⟩ rfl rfl (Nat.le_of_ble_eq_true rfl) dX7_figure_28 ⟨Nat.zero_le _, Nat.zero_le _⟩ ?_
      rw [z2]
      refine lv_iconst (v := (nI 2)) hC.1 hC.2.1 dX7_figure_31 (by decide) ?_
      refine T_V (n := 2) (C := RX7) (T := TX7) hC hl.1 hK hX hZ hst hw hrd kp (by decide) rfl (tX7_must_t l N ad K I R rd (nI 2) (hrd) (kp)) (lw_V q508 q510 qs11 q77 q511) (by decide +kernel) ⟨by decide, by decide⟩ rfl rfl (Nat.le_of_ble_eq_true rfl) dX7_figure_32 ⟨by simp only [gN]; omega, by simp only [gN]; omega⟩ (fun x0 N2 ad2 K2 I2 R2 H locs e2 hg hw => ?_)
      cases e2
      exact T_out hlk htb hw hg ⟨by simp only [gN]; omega, by simp only [gN]; omega⟩ (rTh.of rOff.rf hrd h1.2.1)

set_option maxHeartbeats 800000 in
theorem tX7_sign (l : Launch) (N : Nat) (ad : Nat → Nat) (K : gK) (I : mG) (R : gR) (rd : Nat) (c : Nat) (T : vV) (n : Nat) (b : Nat) (h0 : rdB N K I R rd T n) (h1 : rdT I rd T n b) (h2 : c = 44 ∨ c = 59) (h3 : isL T n b (nI c) = true) : gA l yX7_sign (ws_ yX7_sign cX7_sign 2 none) ({ frames := 2, cells := 0, slots := 0, locals := 46 } : Room) [.ref (ad rd), .int (nI c)] N ad K I R (fun v S => v = none ∧ ∃ tk va, S = (rdI I rd (nI (ntT T n (ntT T n b).1).1) tk (nI (ntT T n b).1) va, R) ∧ tkR tk va (ntT T n (ntT T n b).1)) := by
  refine gM.of (by decide) (Nat.le_of_ble_eq_true rfl) ?_
  intro D dA p e s m args below meth cd ls hC hlk hr hin hK hX hl hw
  have hl : lv_has ls 2 [(0, .ref (ad rd)), (1, .int (nI c))] := hl
  have hrd : rd < N := by have := h0.1; omega
  have kp := h0.1.2.2.1
  have htk := tk_num h1.2.2.2
  refine lv_aload_n hC.1 hC.2.1 dX7_sign_0 rfl (lv_at hl 0 rfl) ?_
  refine lv_aload_n hC.1 hC.2.1 dX7_sign_1 rfl (lv_at hl 0 rfl) ?_
  refine lv_iconst (v := (nI 3)) hC.1 hC.2.1 dX7_sign_2 (by decide) ?_
  refine lv_iload_n hC.1 hC.2.1 dX7_sign_3 rfl (lv_at hl 1 rfl) ?_
  refine M_V (n := 2) (C := RX7) (T := TX7) hC hl.1 hK hX hw hrd kp (by decide) rfl (tX7_is l N ad K I R rd (nI 3) (nI c) (hrd) (kp)) (lw_V q504 q506 qs10 q77 q507) (by decide +kernel) ⟨by decide, by decide⟩ rfl rfl (Nat.le_of_ble_eq_true rfl) dX7_sign_4 ⟨by simp only [gN]; omega, by simp only [gN]; omega⟩ ?_
  rintro _ N2 ad2 K2 I2 R2 H locs ⟨I3, R3, e3, rfl, e4⟩ hg hw
  cases e3
  cases e4
  rw [tk_sig h1.2.2.2 h2, h3]
  refine lv_iconst (v := (nI 1)) hC.1 hC.2.1 dX7_sign_7 (by decide) ?_
  refine M_V (n := 2) (C := RX7) (T := TX7) hC hl.1 hK hX hw hrd kp (by decide) rfl (tX7_must l N ad K I R rd (nI 1) ) (lw_V q508 q510 qs11 q77 q511) (by decide +kernel) ⟨by decide, by decide⟩ rfl rfl (Nat.le_of_ble_eq_true rfl) dX7_sign_8 ⟨by simp only [gN]; omega, by simp only [gN]; omega⟩ ?_
  rintro _ N2 ad2 K2 I2 R2 H locs ⟨I3, R3, e3, rfl, e4⟩ hg hw
  cases e3
  cases e4
  refine lv_aload_n hC.1 hC.2.1 dX7_sign_11 rfl (lv_at hl 0 rfl) ?_
  refine M_V (n := 0) (C := RX7) (T := TX7) hC hl.1 hK hX hw hrd kp (by decide) rfl (tX7_next l N ad K I R rd T n ((ntT T n b).1) (h0) (h1.2.2.1) (ntT_le h1.1)) (lw_V q486 q488 qs7 q77 q489) (by decide +kernel) ⟨by decide, by decide⟩ rfl rfl (Nat.le_of_ble_eq_true rfl) dX7_sign_12 ⟨by simp only [gN]; omega, by simp only [gN]; omega⟩ ?_
  rintro _ N2 ad2 K2 I2 R2 H locs ⟨I3, R3, e3, rfl, tk, va, e4, e5⟩ hg hw
  cases e3
  cases e4
  exact M_vret hC hlk hw gGo.rf ⟨by simp only [gN]; omega, by simp only [gN]; omega⟩ hr (⟨_, _, rfl, rfl, _, _, rfl, e5⟩) dX7_sign_15

set_option maxHeartbeats 800000 in
theorem tX7_sign_t (l : Launch) (N : Nat) (ad : Nat → Nat) (K : gK) (I : mG) (R : gR) (rd : Nat) (c : Nat) (T : vV) (n : Nat) (b : Nat) (h0 : rdB N K I R rd T n) (h1 : rdT I rd T n b) (h2 : c = 44 ∨ c = 59) (h3 : isL T n b (nI c) = false) : gMT l yX7_sign (ws_ yX7_sign cX7_sign 2 none) ({ frames := 5, cells := 1, slots := 8, locals := 132 } : Room) [.ref (ad rd), .int (nI c)] N ad K I R RX8 (fun x S => rTh rd (nI 1) b I R x S) := by
  refine gMT.of (by decide) (Nat.le_of_ble_eq_true rfl) ?_
  intro D dA p e s m args below meth cd ls hC hlk htb hK hX hZ hst hl hw
  have hl : lv_has ls 2 [(0, .ref (ad rd)), (1, .int (nI c))] := hl
  have hrd : rd < N := by have := h0.1; omega
  have kp := h0.1.2.2.1
  have htk := tk_num h1.2.2.2
  refine lv_aload_n hC.1 hC.2.1 dX7_sign_0 rfl (lv_at hl 0 rfl) ?_
  refine lv_aload_n hC.1 hC.2.1 dX7_sign_1 rfl (lv_at hl 0 rfl) ?_
  refine lv_iconst (v := (nI 3)) hC.1 hC.2.1 dX7_sign_2 (by decide) ?_
  refine lv_iload_n hC.1 hC.2.1 dX7_sign_3 rfl (lv_at hl 1 rfl) ?_
  refine M_V (n := 2) (C := RX7) (T := TX7) hC hl.1 hK hX hw hrd kp (by decide) rfl (tX7_is l N ad K I R rd (nI 3) (nI c) (hrd) (kp)) (lw_V q504 q506 qs10 q77 q507) (by decide +kernel) ⟨by decide, by decide⟩ rfl rfl (Nat.le_of_ble_eq_true rfl) dX7_sign_4 ⟨by simp only [gN]; omega, by simp only [gN]; omega⟩ ?_
  rintro _ N2 ad2 K2 I2 R2 H locs ⟨I3, R3, e3, rfl, e4⟩ hg hw
  cases e3
  cases e4
  rw [tk_sig h1.2.2.2 h2, h3]
  refine lv_iconst (v := (nI 1)) hC.1 hC.2.1 dX7_sign_7 (by decide) ?_
  refine T_V (n := 2) (C := RX7) (T := TX7) hC hl.1 hK hX hZ hst hw hrd kp (by decide) rfl (tX7_must_t l N ad K I R rd (nI 1) (hrd) (kp)) (lw_V q508 q510 qs11 q77 q511) (by decide +kernel) ⟨by decide, by decide⟩ rfl rfl (Nat.le_of_ble_eq_true rfl) dX7_sign_8 ⟨by simp only [gN]; omega, by simp only [gN]; omega⟩ (fun x0 N2 ad2 K2 I2 R2 H locs e2 hg hw => ?_)
  cases e2
  exact T_out hlk htb hw hg ⟨by simp only [gN]; omega, by simp only [gN]; omega⟩ (rTh.of rOff.rf hrd h1.2.1)

set_option maxHeartbeats 800000 in
theorem tX7_four (l : Launch) (N : Nat) (ad : Nat → Nat) (K : gK) (I : mG) (R : gR) (rd : Nat) (c : Nat) (q : Nat) (T : vV) (n : Nat) (b : Nat) (wk : Nat) (rv : vV) (at_ : Nat) (b1 : Nat) (wk1 : Nat) (rv1 : vV) (h0 : rdS N K I R rd T n b wk rv) (h1 : rwR rd at_ q) (h2 : 97 ≤ c ∧ c ≤ 122) (h3 : pFour T n (nI c) at_ b wk rv = .ok (b1, wk1, rv1)) : gA l yX7_four (ws_ yX7_four cX7_four 4 none) ({ frames := 3, cells := 0, slots := 0, locals := 69 } : Room) [.ref (ad rd), .int (nI c), .ref (ad q)] N ad K I R (fun v S => v = none ∧ ∃ I1, S = (I1, R) ∧ rdS N K I1 R rd T n b1 wk1 rv1 ∧ rOff rd I I1 R R) := by
  refine gM.of (by decide) (Nat.le_of_ble_eq_true rfl) ?_
  intro D dA p e s m args below meth cd ls hC hlk hr hin hK hX hl hw
  have hl : lv_has ls 4 [(0, .ref (ad rd)), (1, .int (nI c)), (2, .ref (ad q))] := hl
  have hrd : rd < N := by have := h0.1.1; omega
  have kp := h0.1.1.2.2.1
  obtain ⟨hqN, hqK⟩ := h0.rk h1
  have hqr : rd ≤ q := by rcases h1 with ⟨-, rfl⟩ | ⟨-, rfl⟩ <;> omega
  have hL : isL T n b (nI c) = true := by
    cases hz : isL T n b (nI c) with
    | true => rfl
    | false => exact (ok_no ((pFour_er (pTake_f hz)).symm.trans h3)).elim
  refine lv_aload_n hC.1 hC.2.1 dX7_four_0 rfl (lv_at hl 0 rfl) ?_
  refine lv_aload_n hC.1 hC.2.1 dX7_four_1 rfl (lv_at hl 0 rfl) ?_
  refine lv_iconst (v := (nI 1)) hC.1 hC.2.1 dX7_four_2 (by decide) ?_
  refine lv_iload_n hC.1 hC.2.1 dX7_four_3 rfl (lv_at hl 1 rfl) ?_
  refine M_V (n := 2) (C := RX7) (T := TX7) hC hl.1 hK hX hw hrd kp (by decide) rfl (tX7_is l N ad K I R rd (nI 1) (nI c) (hrd) (kp)) (lw_V q504 q506 qs10 q77 q507) (by decide +kernel) ⟨by decide, by decide⟩ rfl rfl (Nat.le_of_ble_eq_true rfl) dX7_four_4 ⟨by simp only [gN]; omega, by simp only [gN]; omega⟩ ?_
  rintro _ N2 ad2 K2 I2 R2 H locs ⟨I3, R3, e3, rfl, e4⟩ hg hw
  cases e3
  cases e4
  rw [tk_let h0.2.1.2.2.2 h2, hL]
  refine lv_iconst (v := (nI 1)) hC.1 hC.2.1 dX7_four_7 (by decide) ?_
  refine M_V (n := 2) (C := RX7) (T := TX7) hC hl.1 hK hX hw hrd kp (by decide) rfl (tX7_must l N ad K I R rd (nI 1) ) (lw_V q508 q510 qs11 q77 q511) (by decide +kernel) ⟨by decide, by decide⟩ rfl rfl (Nat.le_of_ble_eq_true rfl) dX7_four_8 ⟨by simp only [gN]; omega, by simp only [gN]; omega⟩ ?_
  rintro _ N2 ad2 K2 I2 R2 H locs ⟨I3, R3, e3, rfl, e4⟩ hg hw
  cases e3
  cases e4
  refine lv_aload_n hC.1 hC.2.1 dX7_four_11 rfl (lv_at hl 0 rfl) ?_
  refine M_V (n := 0) (C := RX7) (T := TX7) hC hl.1 hK hX hw hrd kp (by decide) rfl (tX7_next l N ad K I R rd T n ((ntT T n b).1) (h0.1) (h0.2.1.2.2.1) (ntT_le h0.2.1.1)) (lw_V q486 q488 qs7 q77 q489) (by decide +kernel) ⟨by decide, by decide⟩ rfl rfl (Nat.le_of_ble_eq_true rfl) dX7_four_12 ⟨by simp only [gN]; omega, by simp only [gN]; omega⟩ ?_
  rintro _ N2 ad2 K2 I2 R2 H locs ⟨I3, R3, e3, rfl, tk, va, e4, e5⟩ hg hw
  cases e3
  cases e4
  have s1 := h0.nx (ntT_le h0.2.1.1) e5
  refine lv_iconst (v := (nI 0)) hC.1 hC.2.1 dX7_four_15 (by decide) ?_
  refine lv_istore_n (lv' := [(3, .int (nI 0)), (0, .ref (ad rd)), (1, .int (nI c)), (2, .ref (ad q))]) hC.1 hC.2.1 dX7_four_16 rfl hl (by decide) rfl (fun ls hl => ?_)
  refine W.loop (fun ls y H locs => ∃ I1 b2 rv2, lv_has ls 4 [(0, .ref (ad rd)), (2, .ref (ad q)), (3, .int (nI y))] ∧ gw D dA (nA (List.range N) ad s.heap.size) s.heap (List.range N) ad K I1 R H locs ∧ (y ≤ 4) ∧ (rdS N K I1 R rd T n b2 wk rv2) ∧ (pF4 T n at_ (4 - y) y b2 wk rv2 = .ok (b1, wk1, rv1)) ∧ (rOff rd I I1 R R)) 17 (fun _ => []) (fun y => 4 - y) ?_ 0 ⟨_, _, _, hl.sub' [1, 3, 0] (by rfl), hw, by omega, s1, (pFour_ok (pTake_t hL)).symm.trans h3, rOff.rd⟩
  rintro ls y H locs ⟨I1, b2, rv2, hl, hw, hy0, hy1, hy2, hy3⟩ ih17
  refine lv_iload_n hC.1 hC.2.1 dX7_four_17 rfl (lv_at hl 2 rfl) ?_
  refine lv_iconst (v := (nI 4)) hC.1 hC.2.1 dX7_four_18 (by decide) ?_
  refine k_ge (tgt := 54) hC (by omega) (by omega) dX7_four_19 (by decide) (fun c19 => ?_) (fun c19 => ?_)
  · obtain ⟨rfl, rfl, rfl⟩ := pF4_end hy2 c19
    exact M_vret hC hlk hw gGo.rf ⟨by simp only [gN]; omega, by simp only [gN]; omega⟩ hr (⟨_, _, rfl, rfl, _, rfl, hy1, hy3⟩) dX7_four_54
  · rcases pF4_step (T := T) (n := n) (a := at_) (b := b2) (wk := wk) (rv := rv2) (show y < 4 by omega) with ⟨w0, z1, z2⟩ | ⟨z1, ⟨j, hj, z3⟩, z4, z5 | ⟨z5, z6⟩⟩
    · exact (ok_no (z2.symm.trans hy2)).elim
    · exact (ok_no (z5.2.symm.trans hy2)).elim
    refine lv_aload_n hC.1 hC.2.1 dX7_four_22 rfl (lv_at hl 1 rfl) ?_
    refine lv_iload_n hC.1 hC.2.1 dX7_four_23 rfl (lv_at hl 2 rfl) ?_
    refine lv_aload_n hC.1 hC.2.1 dX7_four_24 rfl (lv_at hl 0 rfl) ?_
    refine lv_iconst (v := (nI 0)) hC.1 hC.2.1 dX7_four_25 (by decide) ?_
    refine lv_bipush (v := (nI 31)) hC.1 hC.2.1 dX7_four_26 (by decide) ?_
    refine M_V (n := 2) (C := RX7) (T := TX7) hC hl.1 hK hX hw hrd kp (by decide) rfl (tX7_figure l N ad K I1 R rd 0 (nI 31) T n b2 (hy1.1) (hy1.2.1) (z1) (z4)) (lw_V q540 q542 qs12 q77 q543) (by decide +kernel) ⟨by decide, by decide⟩ rfl rfl (Nat.le_of_ble_eq_true rfl) dX7_four_28 ⟨by simp only [gN]; omega, by simp only [gN]; omega⟩ ?_
    rintro _ N2 ad2 K2 I2 R2 H locs ⟨I3, R3, e3, rfl, tk, va, e4, e5⟩ hg hw
    cases e3
    cases e4
    have s2 := hy1.nx (ntT_le hy1.2.1.1) e5
    rw [z3]
    refine g_sti hC hK hw (List.mem_range.mpr hqN) hqK (by omega) (by omega) dX7_four_31 (fun H locs hw => ?_)
    have s3 := s2.row h1 (show y < 4 by omega) hj
    refine lv_aload_n hC.1 hC.2.1 dX7_four_32 rfl (lv_at hl 0 rfl) ?_
    refine lv_iload_n hC.1 hC.2.1 dX7_four_33 rfl (lv_at hl 2 rfl) ?_
    refine lv_iconst (v := (nI 3)) hC.1 hC.2.1 dX7_four_34 (by decide) ?_
    refine k_ge (tgt := 43) hC (by omega) (by omega) dX7_four_35 (by decide) (fun c35 => ?_) (fun c35 => ?_)
    · refine lv_bipush (v := (nI 59)) hC.1 hC.2.1 dX7_four_43 (by decide) ?_
      have hsg : sgY y = 59 := by unfold sgY; rw [if_pos (by omega)]
      rw [hsg] at z5
      refine M_V (n := 1) (C := RX7) (T := TX7) hC hl.1 hK hX hw hrd kp (by decide) rfl (tX7_sign l N ad K (g2 (rdI I1 rd (nI (ntT T n (ntT T n b2).1).1) tk (nI (ntT T n b2).1) va) q y (nI j)) R rd 59 T n (ntT T n b2).1 (s3.1) (s3.2.1) (Or.inr rfl) (z5)) (lw_V q544 q546 qs13 q77 q547) (by decide +kernel) ⟨by decide, by decide⟩ rfl rfl (Nat.le_of_ble_eq_true rfl) dX7_four_45 ⟨by simp only [gN]; omega, by simp only [gN]; omega⟩ ?_
      rintro _ N2 ad2 K2 I2 R2 H locs ⟨I3, R3, e3, rfl, tk2, va2, e6, e7⟩ hg hw
      cases e3
      cases e6
      have s4 := s3.nx (ntT_le s3.2.1.1) e7
      refine k_iinc (k := 2) (d := 1) (lv' := [(3, .int (nI (y + 1))), (0, .ref (ad rd)), (2, .ref (ad q))]) hC dX7_four_48 hl rfl (by decide) (by decide) rfl (fun ls hl => ?_)
      refine lv_goto (tgt := 17) hC.1 hC.2.1 dX7_four_51 (by decide) ?_
      exact ih17 ls (y + 1) H locs ⟨_, _, _, hl.sub' [1, 2, 0] (by rfl), hw, by omega, s4, by rw [← z3]; exact z6.symm.trans hy2, hy3.tr ((rOff.rd.tr (rOff.g2 hqr)).tr rOff.rd)⟩ (by omega)
    · refine lv_bipush (v := (nI 44)) hC.1 hC.2.1 dX7_four_38 (by decide) ?_
      refine lv_goto (tgt := 45) hC.1 hC.2.1 dX7_four_40 (by decide) ?_
      have hsg : sgY y = 44 := by unfold sgY; rw [if_neg (by omega)]
      rw [hsg] at z5
      refine M_V (n := 1) (C := RX7) (T := TX7) hC hl.1 hK hX hw hrd kp (by decide) rfl (tX7_sign l N ad K (g2 (rdI I1 rd (nI (ntT T n (ntT T n b2).1).1) tk (nI (ntT T n b2).1) va) q y (nI j)) R rd 44 T n (ntT T n b2).1 (s3.1) (s3.2.1) (Or.inl rfl) (z5)) (lw_V q544 q546 qs13 q77 q547) (by decide +kernel) ⟨by decide, by decide⟩ rfl rfl (Nat.le_of_ble_eq_true rfl) dX7_four_45 ⟨by simp only [gN]; omega, by simp only [gN]; omega⟩ ?_
      rintro _ N2 ad2 K2 I2 R2 H locs ⟨I3, R3, e3, rfl, tk2, va2, e6, e7⟩ hg hw
      cases e3
      cases e6
      have s4 := s3.nx (ntT_le s3.2.1.1) e7
      refine k_iinc (k := 2) (d := 1) (lv' := [(3, .int (nI (y + 1))), (0, .ref (ad rd)), (2, .ref (ad q))]) hC dX7_four_48 hl rfl (by decide) (by decide) rfl (fun ls hl => ?_)
      refine lv_goto (tgt := 17) hC.1 hC.2.1 dX7_four_51 (by decide) ?_
      exact ih17 ls (y + 1) H locs ⟨_, _, _, hl.sub' [1, 2, 0] (by rfl), hw, by omega, s4, by rw [← z3]; exact z6.symm.trans hy2, hy3.tr ((rOff.rd.tr (rOff.g2 hqr)).tr rOff.rd)⟩ (by omega)

set_option maxHeartbeats 800000 in
theorem tX7_four_t (l : Launch) (N : Nat) (ad : Nat → Nat) (K : gK) (I : mG) (R : gR) (rd : Nat) (c : Nat) (q : Nat) (T : vV) (n : Nat) (b : Nat) (wk : Nat) (rv : vV) (at_ : Nat) (b1 : Nat) (w : Int32) (h0 : rdS N K I R rd T n b wk rv) (h1 : rwR rd at_ q) (h2 : 97 ≤ c ∧ c ≤ 122) (h3 : pFour T n (nI c) at_ b wk rv = .error (w, b1)) : gMT l yX7_four (ws_ yX7_four cX7_four 4 none) ({ frames := 6, cells := 1, slots := 8, locals := 155 } : Room) [.ref (ad rd), .int (nI c), .ref (ad q)] N ad K I R RX8 (fun x S => rTh rd w b1 I R x S) := by
  refine gMT.of (by decide) (Nat.le_of_ble_eq_true rfl) ?_
  intro D dA p e s m args below meth cd ls hC hlk htb hK hX hZ hst hl hw
  have hl : lv_has ls 4 [(0, .ref (ad rd)), (1, .int (nI c)), (2, .ref (ad q))] := hl
  have hrd : rd < N := by have := h0.1.1; omega
  have kp := h0.1.1.2.2.1
  obtain ⟨hqN, hqK⟩ := h0.rk h1
  have hqr : rd ≤ q := by rcases h1 with ⟨-, rfl⟩ | ⟨-, rfl⟩ <;> omega
  cases hL : isL T n b (nI c)
  · refine lv_aload_n hC.1 hC.2.1 dX7_four_0 rfl (lv_at hl 0 rfl) ?_
    refine lv_aload_n hC.1 hC.2.1 dX7_four_1 rfl (lv_at hl 0 rfl) ?_
    refine lv_iconst (v := (nI 1)) hC.1 hC.2.1 dX7_four_2 (by decide) ?_
    refine lv_iload_n hC.1 hC.2.1 dX7_four_3 rfl (lv_at hl 1 rfl) ?_
    refine M_V (n := 2) (C := RX7) (T := TX7) hC hl.1 hK hX hw hrd kp (by decide) rfl (tX7_is l N ad K I R rd (nI 1) (nI c) (hrd) (kp)) (lw_V q504 q506 qs10 q77 q507) (by decide +kernel) ⟨by decide, by decide⟩ rfl rfl (Nat.le_of_ble_eq_true rfl) dX7_four_4 ⟨by simp only [gN]; omega, by simp only [gN]; omega⟩ ?_
    rintro _ N2 ad2 K2 I2 R2 H locs ⟨I3, R3, e3, rfl, e4⟩ hg hw
    cases e3
    cases e4
    rw [tk_let h0.2.1.2.2.2 h2, hL]
    refine lv_iconst (v := (nI 1)) hC.1 hC.2.1 dX7_four_7 (by decide) ?_
    refine T_V (n := 2) (C := RX7) (T := TX7) hC hl.1 hK hX hZ hst hw hrd kp (by decide) rfl (tX7_must_t l N ad K I R rd (nI 1) (hrd) (kp)) (lw_V q508 q510 qs11 q77 q511) (by decide +kernel) ⟨by decide, by decide⟩ rfl rfl (Nat.le_of_ble_eq_true rfl) dX7_four_8 ⟨by simp only [gN]; omega, by simp only [gN]; omega⟩ (fun x0 N2 ad2 K2 I2 R2 H locs e2 hg hw => ?_)
    cases e2
    cases (er_inj ((pFour_er (pTake_f hL)).symm.trans h3))
    exact T_out hlk htb hw hg ⟨by simp only [gN]; omega, by simp only [gN]; omega⟩ (rTh.of rOff.rf hrd h0.2.1.2.1)
  · refine lv_aload_n hC.1 hC.2.1 dX7_four_0 rfl (lv_at hl 0 rfl) ?_
    refine lv_aload_n hC.1 hC.2.1 dX7_four_1 rfl (lv_at hl 0 rfl) ?_
    refine lv_iconst (v := (nI 1)) hC.1 hC.2.1 dX7_four_2 (by decide) ?_
    refine lv_iload_n hC.1 hC.2.1 dX7_four_3 rfl (lv_at hl 1 rfl) ?_
    refine M_V (n := 2) (C := RX7) (T := TX7) hC hl.1 hK hX hw hrd kp (by decide) rfl (tX7_is l N ad K I R rd (nI 1) (nI c) (hrd) (kp)) (lw_V q504 q506 qs10 q77 q507) (by decide +kernel) ⟨by decide, by decide⟩ rfl rfl (Nat.le_of_ble_eq_true rfl) dX7_four_4 ⟨by simp only [gN]; omega, by simp only [gN]; omega⟩ ?_
    rintro _ N2 ad2 K2 I2 R2 H locs ⟨I3, R3, e3, rfl, e4⟩ hg hw
    cases e3
    cases e4
    rw [tk_let h0.2.1.2.2.2 h2, hL]
    refine lv_iconst (v := (nI 1)) hC.1 hC.2.1 dX7_four_7 (by decide) ?_
    refine M_V (n := 2) (C := RX7) (T := TX7) hC hl.1 hK hX hw hrd kp (by decide) rfl (tX7_must l N ad K I R rd (nI 1) ) (lw_V q508 q510 qs11 q77 q511) (by decide +kernel) ⟨by decide, by decide⟩ rfl rfl (Nat.le_of_ble_eq_true rfl) dX7_four_8 ⟨by simp only [gN]; omega, by simp only [gN]; omega⟩ ?_
    rintro _ N2 ad2 K2 I2 R2 H locs ⟨I3, R3, e3, rfl, e4⟩ hg hw
    cases e3
    cases e4
    refine lv_aload_n hC.1 hC.2.1 dX7_four_11 rfl (lv_at hl 0 rfl) ?_
    refine M_V (n := 0) (C := RX7) (T := TX7) hC hl.1 hK hX hw hrd kp (by decide) rfl (tX7_next l N ad K I R rd T n ((ntT T n b).1) (h0.1) (h0.2.1.2.2.1) (ntT_le h0.2.1.1)) (lw_V q486 q488 qs7 q77 q489) (by decide +kernel) ⟨by decide, by decide⟩ rfl rfl (Nat.le_of_ble_eq_true rfl) dX7_four_12 ⟨by simp only [gN]; omega, by simp only [gN]; omega⟩ ?_
    rintro _ N2 ad2 K2 I2 R2 H locs ⟨I3, R3, e3, rfl, tk, va, e4, e5⟩ hg hw
    cases e3
    cases e4
    have s1 := h0.nx (ntT_le h0.2.1.1) e5
    refine lv_iconst (v := (nI 0)) hC.1 hC.2.1 dX7_four_15 (by decide) ?_
    refine lv_istore_n (lv' := [(3, .int (nI 0)), (0, .ref (ad rd)), (1, .int (nI c)), (2, .ref (ad q))]) hC.1 hC.2.1 dX7_four_16 rfl hl (by decide) rfl (fun ls hl => ?_)
    refine W.loop (fun ls y H locs => ∃ I1 b2 rv2, lv_has ls 4 [(0, .ref (ad rd)), (2, .ref (ad q)), (3, .int (nI y))] ∧ gw D dA (nA (List.range N) ad s.heap.size) s.heap (List.range N) ad K I1 R H locs ∧ (y ≤ 4) ∧ (rdS N K I1 R rd T n b2 wk rv2) ∧ (pF4 T n at_ (4 - y) y b2 wk rv2 = .error (w, b1)) ∧ (rOff rd I I1 R R)) 17 (fun _ => []) (fun y => 4 - y) ?_ 0 ⟨_, _, _, hl.sub' [1, 3, 0] (by rfl), hw, by omega, s1, (pFour_ok (pTake_t hL)).symm.trans h3, rOff.rd⟩
    rintro ls y H locs ⟨I1, b2, rv2, hl, hw, hy0, hy1, hy2, hy3⟩ ih17
    refine lv_iload_n hC.1 hC.2.1 dX7_four_17 rfl (lv_at hl 2 rfl) ?_
    refine lv_iconst (v := (nI 4)) hC.1 hC.2.1 dX7_four_18 (by decide) ?_
    refine k_ge (tgt := 54) hC (by omega) (by omega) dX7_four_19 (by decide) (fun c19 => ?_) (fun c19 => ?_)
    · exact (no_ok ((pF4_4 c19).symm.trans hy2)).elim
    · rcases pF4_step (T := T) (n := n) (a := at_) (b := b2) (wk := wk) (rv := rv2) (show y < 4 by omega) with ⟨w0, z1, z2⟩ | ⟨z1, ⟨j, hj, z3⟩, z4, ⟨z5, z6⟩ | ⟨z5, z6⟩⟩
      · refine lv_aload_n hC.1 hC.2.1 dX7_four_22 rfl (lv_at hl 1 rfl) ?_
        refine lv_iload_n hC.1 hC.2.1 dX7_four_23 rfl (lv_at hl 2 rfl) ?_
        refine lv_aload_n hC.1 hC.2.1 dX7_four_24 rfl (lv_at hl 0 rfl) ?_
        refine lv_iconst (v := (nI 0)) hC.1 hC.2.1 dX7_four_25 (by decide) ?_
        refine lv_bipush (v := (nI 31)) hC.1 hC.2.1 dX7_four_26 (by decide) ?_
        refine T_V (n := 2) (C := RX7) (T := TX7) hC hl.1 hK hX hZ hst hw hrd kp (by decide) rfl (tX7_figure_t l N ad K I1 R rd 0 (nI 31) T n b2 w0 (hy1.1) (hy1.2.1) (z1)) (lw_V q540 q542 qs12 q77 q543) (by decide +kernel) ⟨by decide, by decide⟩ rfl rfl (Nat.le_of_ble_eq_true rfl) dX7_four_28 ⟨by simp only [gN]; omega, by simp only [gN]; omega⟩ (fun x0 N2 ad2 K2 I2 R2 H locs e2 hg hw => ?_)
        exact T_out hlk htb hw hg ⟨by simp only [gN]; omega, by simp only [gN]; omega⟩ (by cases (er_inj (z2.symm.trans hy2)); exact e2.tr hy3)
      · refine lv_aload_n hC.1 hC.2.1 dX7_four_22 rfl (lv_at hl 1 rfl) ?_
        refine lv_iload_n hC.1 hC.2.1 dX7_four_23 rfl (lv_at hl 2 rfl) ?_
        refine lv_aload_n hC.1 hC.2.1 dX7_four_24 rfl (lv_at hl 0 rfl) ?_
        refine lv_iconst (v := (nI 0)) hC.1 hC.2.1 dX7_four_25 (by decide) ?_
        refine lv_bipush (v := (nI 31)) hC.1 hC.2.1 dX7_four_26 (by decide) ?_
        refine M_V (n := 2) (C := RX7) (T := TX7) hC hl.1 hK hX hw hrd kp (by decide) rfl (tX7_figure l N ad K I1 R rd 0 (nI 31) T n b2 (hy1.1) (hy1.2.1) (z1) (z4)) (lw_V q540 q542 qs12 q77 q543) (by decide +kernel) ⟨by decide, by decide⟩ rfl rfl (Nat.le_of_ble_eq_true rfl) dX7_four_28 ⟨by simp only [gN]; omega, by simp only [gN]; omega⟩ ?_
        rintro _ N2 ad2 K2 I2 R2 H locs ⟨I3, R3, e3, rfl, tk, va, e4, e5⟩ hg hw
        cases e3
        cases e4
        have s2 := hy1.nx (ntT_le hy1.2.1.1) e5
        rw [z3]
        refine g_sti hC hK hw (List.mem_range.mpr hqN) hqK (by omega) (by omega) dX7_four_31 (fun H locs hw => ?_)
        have s3 := s2.row h1 (show y < 4 by omega) hj
        refine lv_aload_n hC.1 hC.2.1 dX7_four_32 rfl (lv_at hl 0 rfl) ?_
        refine lv_iload_n hC.1 hC.2.1 dX7_four_33 rfl (lv_at hl 2 rfl) ?_
        refine lv_iconst (v := (nI 3)) hC.1 hC.2.1 dX7_four_34 (by decide) ?_
        refine k_ge (tgt := 43) hC (by omega) (by omega) dX7_four_35 (by decide) (fun c35 => ?_) (fun c35 => ?_)
        · refine lv_bipush (v := (nI 59)) hC.1 hC.2.1 dX7_four_43 (by decide) ?_
          have hsg : sgY y = 59 := by unfold sgY; rw [if_pos (by omega)]
          rw [hsg] at z5
          refine T_V (n := 1) (C := RX7) (T := TX7) hC hl.1 hK hX hZ hst hw hrd kp (by decide) rfl (tX7_sign_t l N ad K (g2 (rdI I1 rd (nI (ntT T n (ntT T n b2).1).1) tk (nI (ntT T n b2).1) va) q y (nI j)) R rd 59 T n (ntT T n b2).1 (s3.1) (s3.2.1) (Or.inr rfl) (z5)) (lw_V q544 q546 qs13 q77 q547) (by decide +kernel) ⟨by decide, by decide⟩ rfl rfl (Nat.le_of_ble_eq_true rfl) dX7_four_45 ⟨by simp only [gN]; omega, by simp only [gN]; omega⟩ (fun x0 N2 ad2 K2 I2 R2 H locs e2 hg hw => ?_)
          exact T_out hlk htb hw hg ⟨by simp only [gN]; omega, by simp only [gN]; omega⟩ (by cases (er_inj (z6.symm.trans hy2)); exact e2.tr (hy3.tr (rOff.rd.tr (rOff.g2 hqr))))
        · refine lv_bipush (v := (nI 44)) hC.1 hC.2.1 dX7_four_38 (by decide) ?_
          refine lv_goto (tgt := 45) hC.1 hC.2.1 dX7_four_40 (by decide) ?_
          have hsg : sgY y = 44 := by unfold sgY; rw [if_neg (by omega)]
          rw [hsg] at z5
          refine T_V (n := 1) (C := RX7) (T := TX7) hC hl.1 hK hX hZ hst hw hrd kp (by decide) rfl (tX7_sign_t l N ad K (g2 (rdI I1 rd (nI (ntT T n (ntT T n b2).1).1) tk (nI (ntT T n b2).1) va) q y (nI j)) R rd 44 T n (ntT T n b2).1 (s3.1) (s3.2.1) (Or.inl rfl) (z5)) (lw_V q544 q546 qs13 q77 q547) (by decide +kernel) ⟨by decide, by decide⟩ rfl rfl (Nat.le_of_ble_eq_true rfl) dX7_four_45 ⟨by simp only [gN]; omega, by simp only [gN]; omega⟩ (fun x0 N2 ad2 K2 I2 R2 H locs e2 hg hw => ?_)
          exact T_out hlk htb hw hg ⟨by simp only [gN]; omega, by simp only [gN]; omega⟩ (by cases (er_inj (z6.symm.trans hy2)); exact e2.tr (hy3.tr (rOff.rd.tr (rOff.g2 hqr))))
      · refine lv_aload_n hC.1 hC.2.1 dX7_four_22 rfl (lv_at hl 1 rfl) ?_
        refine lv_iload_n hC.1 hC.2.1 dX7_four_23 rfl (lv_at hl 2 rfl) ?_
        refine lv_aload_n hC.1 hC.2.1 dX7_four_24 rfl (lv_at hl 0 rfl) ?_
        refine lv_iconst (v := (nI 0)) hC.1 hC.2.1 dX7_four_25 (by decide) ?_
        refine lv_bipush (v := (nI 31)) hC.1 hC.2.1 dX7_four_26 (by decide) ?_
        refine M_V (n := 2) (C := RX7) (T := TX7) hC hl.1 hK hX hw hrd kp (by decide) rfl (tX7_figure l N ad K I1 R rd 0 (nI 31) T n b2 (hy1.1) (hy1.2.1) (z1) (z4)) (lw_V q540 q542 qs12 q77 q543) (by decide +kernel) ⟨by decide, by decide⟩ rfl rfl (Nat.le_of_ble_eq_true rfl) dX7_four_28 ⟨by simp only [gN]; omega, by simp only [gN]; omega⟩ ?_
        rintro _ N2 ad2 K2 I2 R2 H locs ⟨I3, R3, e3, rfl, tk, va, e4, e5⟩ hg hw
        cases e3
        cases e4
        have s2 := hy1.nx (ntT_le hy1.2.1.1) e5
        rw [z3]
        refine g_sti hC hK hw (List.mem_range.mpr hqN) hqK (by omega) (by omega) dX7_four_31 (fun H locs hw => ?_)
        have s3 := s2.row h1 (show y < 4 by omega) hj
        refine lv_aload_n hC.1 hC.2.1 dX7_four_32 rfl (lv_at hl 0 rfl) ?_
        refine lv_iload_n hC.1 hC.2.1 dX7_four_33 rfl (lv_at hl 2 rfl) ?_
        refine lv_iconst (v := (nI 3)) hC.1 hC.2.1 dX7_four_34 (by decide) ?_
        refine k_ge (tgt := 43) hC (by omega) (by omega) dX7_four_35 (by decide) (fun c35 => ?_) (fun c35 => ?_)
        · refine lv_bipush (v := (nI 59)) hC.1 hC.2.1 dX7_four_43 (by decide) ?_
          have hsg : sgY y = 59 := by unfold sgY; rw [if_pos (by omega)]
          rw [hsg] at z5
          refine M_V (n := 1) (C := RX7) (T := TX7) hC hl.1 hK hX hw hrd kp (by decide) rfl (tX7_sign l N ad K (g2 (rdI I1 rd (nI (ntT T n (ntT T n b2).1).1) tk (nI (ntT T n b2).1) va) q y (nI j)) R rd 59 T n (ntT T n b2).1 (s3.1) (s3.2.1) (Or.inr rfl) (z5)) (lw_V q544 q546 qs13 q77 q547) (by decide +kernel) ⟨by decide, by decide⟩ rfl rfl (Nat.le_of_ble_eq_true rfl) dX7_four_45 ⟨by simp only [gN]; omega, by simp only [gN]; omega⟩ ?_
          rintro _ N2 ad2 K2 I2 R2 H locs ⟨I3, R3, e3, rfl, tk2, va2, e6, e7⟩ hg hw
          cases e3
          cases e6
          have s4 := s3.nx (ntT_le s3.2.1.1) e7
          refine k_iinc (k := 2) (d := 1) (lv' := [(3, .int (nI (y + 1))), (0, .ref (ad rd)), (2, .ref (ad q))]) hC dX7_four_48 hl rfl (by decide) (by decide) rfl (fun ls hl => ?_)
          refine lv_goto (tgt := 17) hC.1 hC.2.1 dX7_four_51 (by decide) ?_
          exact ih17 ls (y + 1) H locs ⟨_, _, _, hl.sub' [1, 2, 0] (by rfl), hw, by omega, s4, by rw [← z3]; exact z6.symm.trans hy2, hy3.tr ((rOff.rd.tr (rOff.g2 hqr)).tr rOff.rd)⟩ (by omega)
        · refine lv_bipush (v := (nI 44)) hC.1 hC.2.1 dX7_four_38 (by decide) ?_
          refine lv_goto (tgt := 45) hC.1 hC.2.1 dX7_four_40 (by decide) ?_
          have hsg : sgY y = 44 := by unfold sgY; rw [if_neg (by omega)]
          rw [hsg] at z5
          refine M_V (n := 1) (C := RX7) (T := TX7) hC hl.1 hK hX hw hrd kp (by decide) rfl (tX7_sign l N ad K (g2 (rdI I1 rd (nI (ntT T n (ntT T n b2).1).1) tk (nI (ntT T n b2).1) va) q y (nI j)) R rd 44 T n (ntT T n b2).1 (s3.1) (s3.2.1) (Or.inl rfl) (z5)) (lw_V q544 q546 qs13 q77 q547) (by decide +kernel) ⟨by decide, by decide⟩ rfl rfl (Nat.le_of_ble_eq_true rfl) dX7_four_45 ⟨by simp only [gN]; omega, by simp only [gN]; omega⟩ ?_
          rintro _ N2 ad2 K2 I2 R2 H locs ⟨I3, R3, e3, rfl, tk2, va2, e6, e7⟩ hg hw
          cases e3
          cases e6
          have s4 := s3.nx (ntT_le s3.2.1.1) e7
          refine k_iinc (k := 2) (d := 1) (lv' := [(3, .int (nI (y + 1))), (0, .ref (ad rd)), (2, .ref (ad q))]) hC dX7_four_48 hl rfl (by decide) (by decide) rfl (fun ls hl => ?_)
          refine lv_goto (tgt := 17) hC.1 hC.2.1 dX7_four_51 (by decide) ?_
          exact ih17 ls (y + 1) H locs ⟨_, _, _, hl.sub' [1, 2, 0] (by rfl), hw, by omega, s4, by rw [← z3]; exact z6.symm.trans hy2, hy3.tr ((rOff.rd.tr (rOff.g2 hqr)).tr rOff.rd)⟩ (by omega)
