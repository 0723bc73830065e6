/-! ===== Reader: look, is, must, next (by gen/w81.py) ===== -/
set_option maxHeartbeats 800000 in
theorem tX7_look (l : Launch) (N : Nat) (ad : Nat → Nat) (K : gK) (I : mG) (R : gR) (rd : Nat) (T : vV) (n : Nat) (pp : Nat) (h0 : rdB N K I R rd T n) (h1 : I rd 2 = nI pp) (h2 : pp ≤ n) : gA l yX7_look (ws_ yX7_look cX7_look 1 (some FieldType.int)) ({ frames := 0, cells := 0, slots := 0, locals := 0 } : Room) [.ref (ad rd)] N ad K I R (fun v S => v = some (.int (lkV T n pp)) ∧ S = (I, R)) := by
  refine gM.of (by decide) (Nat.le_of_ble_eq_true rfl) ?_
  intro D dA p e s m args below meth cd ls hC hlk hr hin hK hX hl hw
  have hl : lv_has ls 1 [(0, .ref (ad rd))] := hl
  have hrd : rd < N := by have := h0.1; omega
  have kp := h0.1.2.2.1
  have hn120 := h0.2.2.1
  by_cases hpn : pp < n
  · obtain ⟨c, hc, eT, eI⟩ := h0.2.2.2 pp hpn
    refine lv_aload_n hC.1 hC.2.1 dX7_look_0 rfl (lv_at hl 0 rfl) ?_
    refine g_get (C := RX7) (T := TX7) (ref := RX7) hC hK hw (List.mem_range.mpr hrd) kp (by decide) rfl in_X7 2 (by decide) q461 (fun x h => h) (v := .int (nI pp)) (by show Value.int _ = _; rw [h1]) dX7_look_1 ?_
    refine lv_aload_n hC.1 hC.2.1 dX7_look_4 rfl (lv_at hl 0 rfl) ?_
    refine g_get (C := RX7) (T := TX7) (ref := RX7) hC hK hw (List.mem_range.mpr hrd) kp (by decide) rfl in_X7 1 (by decide) q460 (fun x h => h) (v := .int (nI n)) (by show Value.int _ = _; rw [h0.2.1.2.2]) dX7_look_5 ?_
    refine k_ge (tgt := 27) hC (by omega) (by omega) dX7_look_8 (by decide) (fun c8 => ?_) (fun c8 => ?_)
    · exact absurd hpn (Nat.not_lt.mpr c8)
    · refine lv_aload_n hC.1 hC.2.1 dX7_look_11 rfl (lv_at hl 0 rfl) ?_
      refine g_get (C := RX7) (T := TX7) (ref := RX7) hC hK hw (List.mem_range.mpr hrd) kp (by decide) rfl in_X7 0 (by decide) q459 (fun x h => h) (v := .ref (ad 10)) (by show va_rf _ = _; rw [h0.2.1.1]; rfl) dX7_look_12 ?_
      refine lv_aload_n hC.1 hC.2.1 dX7_look_15 rfl (lv_at hl 0 rfl) ?_
      refine g_get (C := RX7) (T := TX7) (ref := RX7) hC hK hw (List.mem_range.mpr hrd) kp (by decide) rfl in_X7 2 (by decide) q461 (fun x h => h) (v := .int (nI pp)) (by show Value.int _ = _; rw [h1]) dX7_look_16 ?_
      refine g_ldb hC hK hw (List.mem_range.mpr (by have := h0.1; omega)) h0.1.2.2.2 (by have := h0.2.2.1; omega) (by omega) (v := asL (nI 0) (nI c)) (eI) dX7_look_19 ?_
      refine lv_sipush (v := (nI 255)) hC.1 hC.2.1 dX7_look_20 (by decide) ?_
      refine lv_iand hC.1 hC.2.1 dX7_look_23 ?_
      rw [lk_and c hc]
      refine lv_goto (tgt := 29) hC.1 hC.2.1 dX7_look_24 (by decide) ?_
      exact M_iret hC hlk hw gGo.rf ⟨by simp only [gN]; omega, by simp only [gN]; omega⟩ hr rfl (⟨_, _, rfl, by rw [lk_in hpn eT], rfl⟩) dX7_look_29
  · refine lv_aload_n hC.1 hC.2.1 dX7_look_0 rfl (lv_at hl 0 rfl) ?_
    refine g_get (C := RX7) (T := TX7) (ref := RX7) hC hK hw (List.mem_range.mpr hrd) kp (by decide) rfl in_X7 2 (by decide) q461 (fun x h => h) (v := .int (nI pp)) (by show Value.int _ = _; rw [h1]) dX7_look_1 ?_
    refine lv_aload_n hC.1 hC.2.1 dX7_look_4 rfl (lv_at hl 0 rfl) ?_
    refine g_get (C := RX7) (T := TX7) (ref := RX7) hC hK hw (List.mem_range.mpr hrd) kp (by decide) rfl in_X7 1 (by decide) q460 (fun x h => h) (v := .int (nI n)) (by show Value.int _ = _; rw [h0.2.1.2.2]) dX7_look_5 ?_
    refine k_ge (tgt := 27) hC (by omega) (by omega) dX7_look_8 (by decide) (fun c8 => ?_) (fun c8 => ?_)
    · refine lv_ldc hC.1 hC.2.1 hC.2.2.2.1 (hC.2.2.2.2 _ q494) dX7_look_27 ?_
      exact M_iret hC hlk hw gGo.rf ⟨by simp only [gN]; omega, by simp only [gN]; omega⟩ hr rfl (⟨_, _, rfl, by rw [lk_no hpn], rfl⟩) dX7_look_29
    · exact absurd c8 hpn

set_option maxHeartbeats 800000 in
theorem tX7_is (l : Launch) (N : Nat) (ad : Nat → Nat) (K : gK) (I : mG) (R : gR) (rd : Nat) (x : Int32) (y : Int32) (h0 : rd < N) (h1 : (K rd).1 = 10) : gA l yX7_is (ws_ yX7_is cX7_is 3 (some FieldType.boolean)) ({ frames := 0, cells := 0, slots := 0, locals := 0 } : Room) [.ref (ad rd), .int x, .int y] N ad K I R (fun v S => v = some (.int (bI (decide (I rd 3 = x) && decide (I rd 5 = y)))) ∧ S = (I, R)) := by
  refine gM.of (by decide) (Nat.le_of_ble_eq_true rfl) ?_
  intro D dA p e s m args below meth cd ls hC hlk hr hin hK hX hl hw
  have hl : lv_has ls 3 [(0, .ref (ad rd)), (1, .int x), (2, .int y)] := hl
  have hrd := h0
  have kp := h1
  refine lv_aload_n hC.1 hC.2.1 dX7_is_0 rfl (lv_at hl 0 rfl) ?_
  refine g_get (C := RX7) (T := TX7) (ref := RX7) hC hK hw (List.mem_range.mpr hrd) kp (by decide) rfl in_X7 3 (by decide) q462 (fun x h => h) (v := .int (I rd 3)) (by show Value.int _ = _; rw [show I rd 3 = I rd 3 from rfl]) dX7_is_1 ?_
  refine lv_iload_n hC.1 hC.2.1 dX7_is_4 rfl (lv_at hl 1 rfl) ?_
  refine lv_icmp_ne (tgt := 20) hC.1 hC.2.1 dX7_is_5 (by decide) (fun c5 => ?_) (fun c5 => ?_)
  · refine lv_iconst (v := (nI 0)) hC.1 hC.2.1 dX7_is_20 (by decide) ?_
    exact M_iret hC hlk hw gGo.rf ⟨by simp only [gN]; omega, by simp only [gN]; omega⟩ hr rfl (⟨_, _, rfl, by rw [decide_eq_false c5, Bool.false_and]; rfl, rfl⟩) dX7_is_21
  · refine lv_aload_n hC.1 hC.2.1 dX7_is_8 rfl (lv_at hl 0 rfl) ?_
    refine g_get (C := RX7) (T := TX7) (ref := RX7) hC hK hw (List.mem_range.mpr hrd) kp (by decide) rfl in_X7 5 (by decide) q464 (fun x h => h) (v := .int (I rd 5)) (by show Value.int _ = _; rw [show I rd 5 = I rd 5 from rfl]) dX7_is_9 ?_
    refine lv_iload_n hC.1 hC.2.1 dX7_is_12 rfl (lv_at hl 2 rfl) ?_
    refine lv_icmp_ne (tgt := 20) hC.1 hC.2.1 dX7_is_13 (by decide) (fun c13 => ?_) (fun c13 => ?_)
    · refine lv_iconst (v := (nI 0)) hC.1 hC.2.1 dX7_is_20 (by decide) ?_
      exact M_iret hC hlk hw gGo.rf ⟨by simp only [gN]; omega, by simp only [gN]; omega⟩ hr rfl (⟨_, _, rfl, by rw [decide_eq_true c5, decide_eq_false c13, Bool.and_false]; rfl, rfl⟩) dX7_is_21
    · refine lv_iconst (v := (nI 1)) hC.1 hC.2.1 dX7_is_16 (by decide) ?_
      refine lv_goto (tgt := 21) hC.1 hC.2.1 dX7_is_17 (by decide) ?_
      exact M_iret hC hlk hw gGo.rf ⟨by simp only [gN]; omega, by simp only [gN]; omega⟩ hr rfl (⟨_, _, rfl, by rw [decide_eq_true c5, decide_eq_true c13, Bool.and_true]; rfl, rfl⟩) dX7_is_21

set_option maxHeartbeats 800000 in
theorem tX7_must (l : Launch) (N : Nat) (ad : Nat → Nat) (K : gK) (I : mG) (R : gR) (rd : Nat) (x : Int32) : gA l yX7_must (ws_ yX7_must cX7_must 3 none) ({ frames := 0, cells := 0, slots := 0, locals := 0 } : Room) [.ref (ad rd), .int (nI 1), .int x] N ad K I R (fun v S => v = none ∧ S = (I, R)) := by
  refine gM.of (by decide) (Nat.le_of_ble_eq_true rfl) ?_
  intro D dA p e s m args below meth cd ls hC hlk hr hin hK hX hl hw
  have hl : lv_has ls 3 [(0, .ref (ad rd)), (1, .int (nI 1)), (2, .int x)] := hl
  refine lv_iload_n hC.1 hC.2.1 dX7_must_0 rfl (lv_at hl 1 rfl) ?_
  refine k_zne (tgt := 17) hC (by decide) dX7_must_1 (by decide) (fun c1 => ?_) (fun h => absurd h (by decide))
  exact M_vret hC hlk hw gGo.rf ⟨by simp only [gN]; omega, by simp only [gN]; omega⟩ hr (⟨_, _, rfl, rfl, rfl⟩) dX7_must_17

set_option maxHeartbeats 800000 in
theorem tX7_next (l : Launch) (N : Nat) (ad : Nat → Nat) (K : gK) (I : mG) (R : gR) (rd : Nat) (T : vV) (n : Nat) (pp : Nat) (h0 : rdB N K I R rd T n) (h1 : I rd 2 = nI pp) (h2 : pp ≤ n) : gA l yX7_next (ws_ yX7_next cX7_next 2 none) ({ frames := 1, cells := 0, slots := 0, locals := 25 } : Room) [.ref (ad rd)] N ad K I R (fun v S => v = none ∧ ∃ tk va, S = (rdI I rd (nI (ntT T n pp).1) tk (nI pp) va, R) ∧ tkR tk va (ntT T n pp)) := by
  refine gM.of (by decide) (Nat.le_of_ble_eq_true rfl) ?_
  intro D dA p e s m args below meth cd ls hC hlk hr hin hK hX hl hw
  have hl : lv_has ls 2 [(0, .ref (ad rd))] := hl
  have hrd : rd < N := by have := h0.1; omega
  have kp := h0.1.2.2.1
  have hn120 := h0.2.2.1
  replace hw := hw.eq (rdI_in h1 rfl rfl rfl) rfl
  refine lv_aload_n hC.1 hC.2.1 dX7_next_0 rfl (lv_at hl 0 rfl) ?_
  refine lv_aload_n hC.1 hC.2.1 dX7_next_1 rfl (lv_at hl 0 rfl) ?_
  refine g_get (C := RX7) (T := TX7) (ref := RX7) hC hK hw (List.mem_range.mpr hrd) kp (by decide) rfl in_X7 2 (by decide) q461 (fun x h => h) (v := .int (nI pp)) (by show Value.int _ = _; rw [rdI_2]) dX7_next_2 ?_
  refine g_puti (ci := 10) (C := RX7) (T := TX7) (ref := RX7) hC hK hw (List.mem_range.mpr hrd) kp (by decide) rfl in_X7 tyX7 tyX7_ok nmX7 4 (by decide) rfl q463 (fun x h => h) rfl rfl rfl rfl dX7_next_5 (fun H locs hw => ?_)
  replace hw := hw.eq (rdI_p4 _ _ _ _ _ _ _) rfl
  refine lv_aload_n hC.1 hC.2.1 dX7_next_8 rfl (lv_at hl 0 rfl) ?_
  refine M_V (n := 0) (C := RX7) (T := TX7) hC hl.1 hK hX hw hrd kp (by decide) rfl (tX7_look l N ad K (rdI I rd (nI pp) (I rd 3) (nI pp) (I rd 5)) R rd T n pp (h0.rdI _ _ _ _) (rdI_2 _ _ _ _ _ _) (by omega)) (lw_V q490 q492 qs8 q77 q493) (by decide +kernel) ⟨by decide, by decide⟩ rfl rfl (Nat.le_of_ble_eq_true rfl) dX7_next_9 ⟨by simp only [gN]; omega, by simp only [gN]; omega⟩ ?_
  rintro _ N2 ad2 K2 I2 R2 H locs ⟨I3, R3, e3, rfl, e4⟩ hg hw
  cases e3
  cases e4
  by_cases hpn : pp < n
  · obtain ⟨c, hc, eTc, -⟩ := h0.2.2.2 pp hpn
    rw [lk_in hpn eTc]
    refine lv_istore_n (lv' := [(1, .int (nI c)), (0, .ref (ad rd))]) hC.1 hC.2.1 dX7_next_12 rfl hl (by decide) rfl (fun ls hl => ?_)
    refine lv_aload_n hC.1 hC.2.1 dX7_next_13 rfl (lv_at hl 1 rfl) ?_
    refine lv_iload_n hC.1 hC.2.1 dX7_next_14 rfl (lv_at hl 0 rfl) ?_
    refine g_puti (ci := 10) (C := RX7) (T := TX7) (ref := RX7) hC hK hw (List.mem_range.mpr hrd) kp (by decide) rfl in_X7 tyX7 tyX7_ok nmX7 5 (by decide) rfl q464 (fun x h => h) rfl rfl rfl rfl dX7_next_15 (fun H locs hw => ?_)
    replace hw := hw.eq (rdI_p5 _ _ _ _ _ _ _) rfl
    refine lv_aload_n hC.1 hC.2.1 dX7_next_18 rfl (lv_at hl 1 rfl) ?_
    refine lv_dup hC.1 hC.2.1 dX7_next_19 rfl ?_
    refine g_get (C := RX7) (T := TX7) (ref := RX7) hC hK hw (List.mem_range.mpr hrd) kp (by decide) rfl in_X7 2 (by decide) q461 (fun x h => h) (v := .int (nI pp)) (by show Value.int _ = _; rw [rdI_2]) dX7_next_20 ?_
    refine lv_iload_n hC.1 hC.2.1 dX7_next_23 rfl (lv_at hl 0 rfl) ?_
    refine lv_ldc hC.1 hC.2.1 hC.2.2.2.1 (hC.2.2.2.2 _ q494) dX7_next_24 ?_
    refine lv_icmp_ne (tgt := 33) hC.1 hC.2.1 dX7_next_26 (by decide) (fun c26 => ?_) (fun c26 => ?_)
    · refine lv_iconst (v := (nI 1)) hC.1 hC.2.1 dX7_next_33 (by decide) ?_
      refine k_add hC dX7_next_34 ?_
      refine g_puti (ci := 10) (C := RX7) (T := TX7) (ref := RX7) hC hK hw (List.mem_range.mpr hrd) kp (by decide) rfl in_X7 tyX7 tyX7_ok nmX7 2 (by decide) rfl q461 (fun x h => h) rfl rfl rfl rfl dX7_next_35 (fun H locs hw => ?_)
      replace hw := hw.eq (rdI_p2 _ _ _ _ _ _ _) rfl
      refine lv_aload_n hC.1 hC.2.1 dX7_next_38 rfl (lv_at hl 1 rfl) ?_
      refine lv_iload_n hC.1 hC.2.1 dX7_next_39 rfl (lv_at hl 0 rfl) ?_
      refine lv_ldc hC.1 hC.2.1 hC.2.2.2.1 (hC.2.2.2.2 _ q494) dX7_next_40 ?_
      refine lv_icmp_ne (tgt := 49) hC.1 hC.2.1 dX7_next_42 (by decide) (fun c42 => ?_) (fun c42 => ?_)
      · refine lv_iload_n hC.1 hC.2.1 dX7_next_49 rfl (lv_at hl 0 rfl) ?_
        refine lv_i2l hC.1 hC.2.1 dX7_next_50 rfl ?_
        refine lv_ldc2 hC.1 hC.2.1 hC.2.2.2.1 (hC.2.2.2.2 _ q495) dX7_next_51 ?_
        refine lv_ldc2 hC.1 hC.2.1 hC.2.2.2.1 (hC.2.2.2.2 _ q496) dX7_next_54 ?_
        refine pS_callN (n := 3) hC hl.1 hX (tX0_isInI l (nI c) (nI 97) (nI 122)) q497 q334 q60 q335 rfl rfl (by decide +kernel) ⟨by decide, by decide⟩ rfl rfl (Nat.le_of_ble_eq_true rfl) dX7_next_57 ⟨Nat.zero_le _, Nat.zero_le _⟩ ?_
        refine k_beq (tgt := 67) hC dX7_next_60 (by decide) (fun c60 => ?_) (fun c60 => ?_)
        · refine lv_iload_n hC.1 hC.2.1 dX7_next_67 rfl (lv_at hl 0 rfl) ?_
          refine lv_i2l hC.1 hC.2.1 dX7_next_68 rfl ?_
          refine lv_ldc2 hC.1 hC.2.1 hC.2.2.2.1 (hC.2.2.2.2 _ q498) dX7_next_69 ?_
          refine lv_ldc2 hC.1 hC.2.1 hC.2.2.2.1 (hC.2.2.2.2 _ q499) dX7_next_72 ?_
          refine pS_callN (n := 3) hC hl.1 hX (tX0_isInI l (nI c) (nI 48) (nI 57)) q497 q334 q60 q335 rfl rfl (by decide +kernel) ⟨by decide, by decide⟩ rfl rfl (Nat.le_of_ble_eq_true rfl) dX7_next_75 ⟨Nat.zero_le _, Nat.zero_le _⟩ ?_
          refine k_beq (tgt := 85) hC dX7_next_78 (by decide) (fun c78 => ?_) (fun c78 => ?_)
          · refine lv_iload_n hC.1 hC.2.1 dX7_next_85 rfl (lv_at hl 0 rfl) ?_
            refine lv_bipush (v := (nI 44)) hC.1 hC.2.1 dX7_next_86 (by decide) ?_
            refine k_eq (tgt := 97) hC (by omega) (by omega) dX7_next_88 (by decide) (fun c88 => ?_) (fun c88 => ?_)
            · refine lv_iconst (v := (nI 3)) hC.1 hC.2.1 dX7_next_97 (by decide) ?_
              refine lv_goto (tgt := 102) hC.1 hC.2.1 dX7_next_98 (by decide) ?_
              refine g_puti (ci := 10) (C := RX7) (T := TX7) (ref := RX7) hC hK hw (List.mem_range.mpr hrd) kp (by decide) rfl in_X7 tyX7 tyX7_ok nmX7 3 (by decide) rfl q462 (fun x h => h) rfl rfl rfl rfl dX7_next_102 (fun H locs hw => ?_)
              replace hw := hw.eq (rdI_p3 _ _ _ _ _ _ _) rfl
              refine lv_aload_n hC.1 hC.2.1 dX7_next_105 rfl (lv_at hl 1 rfl) ?_
              refine g_get (C := RX7) (T := TX7) (ref := RX7) hC hK hw (List.mem_range.mpr hrd) kp (by decide) rfl in_X7 3 (by decide) q462 (fun x h => h) (v := .int (nI 3)) (by show Value.int _ = _; rw [rdI_3]) dX7_next_106 ?_
              refine lv_iconst (v := (nI 2)) hC.1 hC.2.1 dX7_next_109 (by decide) ?_
              refine k_eq (tgt := 114) hC (by omega) (by omega) dX7_next_110 (by decide) (fun c110 => ?_) (fun c110 => ?_)
              · exact absurd c110 (by decide)
              · exact M_vret hC hlk hw gGo.rf ⟨by simp only [gN]; omega, by simp only [gN]; omega⟩ hr (⟨_, _, rfl, rfl, _, _, by rw [nt_oth hpn eTc c78, (ch_sig c hc (Or.inl c88)).2], by rw [nt_oth hpn eTc c78, (ch_sig c hc (Or.inl c88)).2]; exact Or.inr (Or.inr (Or.inr (Or.inl ⟨c, Or.inl c88, rfl, rfl, rfl, rfl⟩)))⟩) dX7_next_113
            · refine lv_iload_n hC.1 hC.2.1 dX7_next_91 rfl (lv_at hl 0 rfl) ?_
              refine lv_bipush (v := (nI 59)) hC.1 hC.2.1 dX7_next_92 (by decide) ?_
              refine k_ne (tgt := 101) hC (by omega) (by omega) dX7_next_94 (by decide) (fun c94 => ?_) (fun c94 => ?_)
              · refine lv_iconst (v := (nI 4)) hC.1 hC.2.1 dX7_next_101 (by decide) ?_
                refine g_puti (ci := 10) (C := RX7) (T := TX7) (ref := RX7) hC hK hw (List.mem_range.mpr hrd) kp (by decide) rfl in_X7 tyX7 tyX7_ok nmX7 3 (by decide) rfl q462 (fun x h => h) rfl rfl rfl rfl dX7_next_102 (fun H locs hw => ?_)
                replace hw := hw.eq (rdI_p3 _ _ _ _ _ _ _) rfl
                refine lv_aload_n hC.1 hC.2.1 dX7_next_105 rfl (lv_at hl 1 rfl) ?_
                refine g_get (C := RX7) (T := TX7) (ref := RX7) hC hK hw (List.mem_range.mpr hrd) kp (by decide) rfl in_X7 3 (by decide) q462 (fun x h => h) (v := .int (nI 4)) (by show Value.int _ = _; rw [rdI_3]) dX7_next_106 ?_
                refine lv_iconst (v := (nI 2)) hC.1 hC.2.1 dX7_next_109 (by decide) ?_
                refine k_eq (tgt := 114) hC (by omega) (by omega) dX7_next_110 (by decide) (fun c110 => ?_) (fun c110 => ?_)
                · exact absurd c110 (by decide)
                · exact M_vret hC hlk hw gGo.rf ⟨by simp only [gN]; omega, by simp only [gN]; omega⟩ hr (⟨_, _, rfl, rfl, _, _, by rw [nt_oth hpn eTc c78, ch_str c hc c60 c88 c94], by rw [nt_oth hpn eTc c78, ch_str c hc c60 c88 c94]; exact Or.inr (Or.inr (Or.inr (Or.inr ⟨rfl, rfl⟩)))⟩) dX7_next_113
              · refine lv_iconst (v := (nI 3)) hC.1 hC.2.1 dX7_next_97 (by decide) ?_
                refine lv_goto (tgt := 102) hC.1 hC.2.1 dX7_next_98 (by decide) ?_
                refine g_puti (ci := 10) (C := RX7) (T := TX7) (ref := RX7) hC hK hw (List.mem_range.mpr hrd) kp (by decide) rfl in_X7 tyX7 tyX7_ok nmX7 3 (by decide) rfl q462 (fun x h => h) rfl rfl rfl rfl dX7_next_102 (fun H locs hw => ?_)
                replace hw := hw.eq (rdI_p3 _ _ _ _ _ _ _) rfl
                refine lv_aload_n hC.1 hC.2.1 dX7_next_105 rfl (lv_at hl 1 rfl) ?_
                refine g_get (C := RX7) (T := TX7) (ref := RX7) hC hK hw (List.mem_range.mpr hrd) kp (by decide) rfl in_X7 3 (by decide) q462 (fun x h => h) (v := .int (nI 3)) (by show Value.int _ = _; rw [rdI_3]) dX7_next_106 ?_
                refine lv_iconst (v := (nI 2)) hC.1 hC.2.1 dX7_next_109 (by decide) ?_
                refine k_eq (tgt := 114) hC (by omega) (by omega) dX7_next_110 (by decide) (fun c110 => ?_) (fun c110 => ?_)
                · exact absurd c110 (by decide)
                · exact M_vret hC hlk hw gGo.rf ⟨by simp only [gN]; omega, by simp only [gN]; omega⟩ hr (⟨_, _, rfl, rfl, _, _, by rw [nt_oth hpn eTc c78, (ch_sig c hc (Or.inr c94)).2], by rw [nt_oth hpn eTc c78, (ch_sig c hc (Or.inr c94)).2]; exact Or.inr (Or.inr (Or.inr (Or.inl ⟨c, Or.inr c94, rfl, rfl, rfl, rfl⟩)))⟩) dX7_next_113
          · refine lv_iconst (v := (nI 2)) hC.1 hC.2.1 dX7_next_81 (by decide) ?_
            refine lv_goto (tgt := 102) hC.1 hC.2.1 dX7_next_82 (by decide) ?_
            refine g_puti (ci := 10) (C := RX7) (T := TX7) (ref := RX7) hC hK hw (List.mem_range.mpr hrd) kp (by decide) rfl in_X7 tyX7 tyX7_ok nmX7 3 (by decide) rfl q462 (fun x h => h) rfl rfl rfl rfl dX7_next_102 (fun H locs hw => ?_)
            replace hw := hw.eq (rdI_p3 _ _ _ _ _ _ _) rfl
            refine lv_aload_n hC.1 hC.2.1 dX7_next_105 rfl (lv_at hl 1 rfl) ?_
            refine g_get (C := RX7) (T := TX7) (ref := RX7) hC hK hw (List.mem_range.mpr hrd) kp (by decide) rfl in_X7 3 (by decide) q462 (fun x h => h) (v := .int (nI 2)) (by show Value.int _ = _; rw [rdI_3]) dX7_next_106 ?_
            refine lv_iconst (v := (nI 2)) hC.1 hC.2.1 dX7_next_109 (by decide) ?_
            refine k_eq (tgt := 114) hC (by omega) (by omega) dX7_next_110 (by decide) (fun c110 => ?_) (fun c110 => ?_)
            · refine lv_aload_n hC.1 hC.2.1 dX7_next_114 rfl (lv_at hl 1 rfl) ?_
              refine lv_iload_n hC.1 hC.2.1 dX7_next_115 rfl (lv_at hl 0 rfl) ?_
              refine lv_bipush (v := (nI 48)) hC.1 hC.2.1 dX7_next_116 (by decide) ?_
              refine lv_isub hC.1 hC.2.1 dX7_next_118 ?_
              refine g_puti (ci := 10) (C := RX7) (T := TX7) (ref := RX7) hC hK hw (List.mem_range.mpr hrd) kp (by decide) rfl in_X7 tyX7 tyX7_ok nmX7 5 (by decide) rfl q464 (fun x h => h) rfl rfl rfl rfl dX7_next_119 (fun H locs hw => ?_)
              replace hw := hw.eq (rdI_p5 _ _ _ _ _ _ _) rfl
              refine W.loop (fun ls q H locs => ∃ w v, lv_has ls 2 [(0, .ref (ad rd))] ∧ gw D dA (nA (List.range N) ad s.heap.size) s.heap (List.range N) ad K (rdI I rd (nI q) (nI 2) (nI pp) w) R H locs ∧ (pp < q ∧ q ≤ n) ∧ (dgV T n pp (nI 0) = dgV T n q v) ∧ (q ≤ pp + 2 → w = v) ∧ (q = pp + 1 → v ≤ nI 99)) 122 (fun _ => []) (fun q => n - q) ?_ (pp + 1) ⟨_, _, hl.sub' [1] (by rfl), hw, ⟨by omega, by omega⟩, dgV_s hpn (by rw [eTc]; exact c78), fun _ => by rw [eTc]; exact (ch_dig c hc c78).1, fun _ => by rw [eTc]; exact (ch_dig c hc c78).2⟩
              rintro ls q H locs ⟨w, v, hl, hw, hq0, hq1, hq2, hq3⟩ ih122
              refine lv_aload_n hC.1 hC.2.1 dX7_next_122 rfl (lv_at hl 0 rfl) ?_
              refine M_V (n := 0) (C := RX7) (T := TX7) hC hl.1 hK hX hw hrd kp (by decide) rfl (tX7_look l N ad K (rdI I rd (nI q) (nI 2) (nI pp) w) R rd T n q (h0.rdI _ _ _ _) (rdI_2 _ _ _ _ _ _) (by omega)) (lw_V q490 q492 qs8 q77 q493) (by decide +kernel) ⟨by decide, by decide⟩ rfl rfl (Nat.le_of_ble_eq_true rfl) dX7_next_123 ⟨by simp only [gN]; omega, by simp only [gN]; omega⟩ ?_
              rintro _ N2 ad2 K2 I2 R2 H locs ⟨I3, R3, e3, rfl, e4⟩ hg hw
              cases e3
              cases e4
              by_cases hqn : q < n
              · obtain ⟨d, hd, eTd, -⟩ := h0.2.2.2 q hqn
                rw [lk_in hqn eTd]
                refine lv_i2l hC.1 hC.2.1 dX7_next_126 rfl ?_
                refine lv_ldc2 hC.1 hC.2.1 hC.2.2.2.1 (hC.2.2.2.2 _ q498) dX7_next_127 ?_
                refine lv_ldc2 hC.1 hC.2.1 hC.2.2.2.1 (hC.2.2.2.2 _ q499) dX7_next_130 ?_
                refine pS_callN (n := 3) hC hl.1 hX (tX0_isInI l (nI d) (nI 48) (nI 57)) q497 q334 q60 q335 rfl rfl (by decide +kernel) ⟨by decide, by decide⟩ rfl rfl (Nat.le_of_ble_eq_true rfl) dX7_next_133 ⟨Nat.zero_le _, Nat.zero_le _⟩ ?_
                refine k_beq (tgt := 191) hC dX7_next_136 (by decide) (fun c136 => ?_) (fun c136 => ?_)
                · have hdg : dgt T n q = false := dgt_no eTd c136
                  refine lv_aload_n hC.1 hC.2.1 dX7_next_191 rfl (lv_at hl 0 rfl) ?_
                  refine lv_aload_n hC.1 hC.2.1 dX7_next_192 rfl (lv_at hl 0 rfl) ?_
                  refine g_get (C := RX7) (T := TX7) (ref := RX7) hC hK hw (List.mem_range.mpr hrd) kp (by decide) rfl in_X7 2 (by decide) q461 (fun x h => h) (v := .int (nI q)) (by show Value.int _ = _; rw [rdI_2]) dX7_next_193 ?_
                  refine lv_aload_n hC.1 hC.2.1 dX7_next_196 rfl (lv_at hl 0 rfl) ?_
                  refine g_get (C := RX7) (T := TX7) (ref := RX7) hC hK hw (List.mem_range.mpr hrd) kp (by decide) rfl in_X7 4 (by decide) q463 (fun x h => h) (v := .int (nI pp)) (by show Value.int _ = _; rw [rdI_4]) dX7_next_197 ?_
                  refine k_sub hC (by omega) dX7_next_200 ?_
                  refine lv_iconst (v := (nI 2)) hC.1 hC.2.1 dX7_next_201 (by decide) ?_
                  refine k_le (tgt := 209) hC (by omega) (by omega) dX7_next_202 (by decide) (fun c202 => ?_) (fun c202 => ?_)
                  · refine lv_iconst (v := (nI 2)) hC.1 hC.2.1 dX7_next_209 (by decide) ?_
                    refine g_puti (ci := 10) (C := RX7) (T := TX7) (ref := RX7) hC hK hw (List.mem_range.mpr hrd) kp (by decide) rfl in_X7 tyX7 tyX7_ok nmX7 3 (by decide) rfl q462 (fun x h => h) rfl rfl rfl rfl dX7_next_210 (fun H locs hw => ?_)
                    replace hw := hw.eq (rdI_p3 _ _ _ _ _ _ _) rfl
                    exact M_vret hC hlk hw gGo.rf ⟨by simp only [gN]; omega, by simp only [gN]; omega⟩ hr (⟨_, _, rfl, rfl, _, _, by rw [nt_d (hq1.trans (dgV_e hdg)) hq0.1], by rw [nt_d (hq1.trans (dgV_e hdg)) hq0.1, if_neg (by omega)]; exact Or.inr (Or.inl ⟨rfl, rfl, hq2 (by omega)⟩)⟩) dX7_next_213
                  · refine lv_iconst (v := (nI 4)) hC.1 hC.2.1 dX7_next_205 (by decide) ?_
                    refine lv_goto (tgt := 210) hC.1 hC.2.1 dX7_next_206 (by decide) ?_
                    refine g_puti (ci := 10) (C := RX7) (T := TX7) (ref := RX7) hC hK hw (List.mem_range.mpr hrd) kp (by decide) rfl in_X7 tyX7 tyX7_ok nmX7 3 (by decide) rfl q462 (fun x h => h) rfl rfl rfl rfl dX7_next_210 (fun H locs hw => ?_)
                    replace hw := hw.eq (rdI_p3 _ _ _ _ _ _ _) rfl
                    exact M_vret hC hlk hw gGo.rf ⟨by simp only [gN]; omega, by simp only [gN]; omega⟩ hr (⟨_, _, rfl, rfl, _, _, by rw [nt_d (hq1.trans (dgV_e hdg)) hq0.1], by rw [nt_d (hq1.trans (dgV_e hdg)) hq0.1, if_pos (by omega)]; exact Or.inr (Or.inr (Or.inr (Or.inr ⟨rfl, rfl⟩)))⟩) dX7_next_213
                · refine lv_aload_n hC.1 hC.2.1 dX7_next_139 rfl (lv_at hl 0 rfl) ?_
                  refine lv_aload_n hC.1 hC.2.1 dX7_next_140 rfl (lv_at hl 0 rfl) ?_
                  refine g_get (C := RX7) (T := TX7) (ref := RX7) hC hK hw (List.mem_range.mpr hrd) kp (by decide) rfl in_X7 2 (by decide) q461 (fun x h => h) (v := .int (nI q)) (by show Value.int _ = _; rw [rdI_2]) dX7_next_141 ?_
                  refine lv_aload_n hC.1 hC.2.1 dX7_next_144 rfl (lv_at hl 0 rfl) ?_
                  refine g_get (C := RX7) (T := TX7) (ref := RX7) hC hK hw (List.mem_range.mpr hrd) kp (by decide) rfl in_X7 4 (by decide) q463 (fun x h => h) (v := .int (nI pp)) (by show Value.int _ = _; rw [rdI_4]) dX7_next_145 ?_
                  refine lv_iconst (v := (nI 1)) hC.1 hC.2.1 dX7_next_148 (by decide) ?_
                  refine k_add hC dX7_next_149 ?_
                  refine k_ne (tgt := 171) hC (by omega) (by omega) dX7_next_150 (by decide) (fun c150 => ?_) (fun c150 => ?_)
                  · refine lv_aload_n hC.1 hC.2.1 dX7_next_171 rfl (lv_at hl 0 rfl) ?_
                    refine g_get (C := RX7) (T := TX7) (ref := RX7) hC hK hw (List.mem_range.mpr hrd) kp (by decide) rfl in_X7 5 (by decide) q464 (fun x h => h) (v := .int w) (by show Value.int _ = _; rw [rdI_5]) dX7_next_172 ?_
                    refine g_puti (ci := 10) (C := RX7) (T := TX7) (ref := RX7) hC hK hw (List.mem_range.mpr hrd) kp (by decide) rfl in_X7 tyX7 tyX7_ok nmX7 5 (by decide) rfl q464 (fun x h => h) rfl rfl rfl rfl dX7_next_175 (fun H locs hw => ?_)
                    replace hw := hw.eq (rdI_p5 _ _ _ _ _ _ _) rfl
                    refine lv_aload_n hC.1 hC.2.1 dX7_next_178 rfl (lv_at hl 0 rfl) ?_
                    refine lv_dup hC.1 hC.2.1 dX7_next_179 rfl ?_
                    refine g_get (C := RX7) (T := TX7) (ref := RX7) hC hK hw (List.mem_range.mpr hrd) kp (by decide) rfl in_X7 2 (by decide) q461 (fun x h => h) (v := .int (nI q)) (by show Value.int _ = _; rw [rdI_2]) dX7_next_180 ?_
                    refine lv_iconst (v := (nI 1)) hC.1 hC.2.1 dX7_next_183 (by decide) ?_
                    refine k_add hC dX7_next_184 ?_
                    refine g_puti (ci := 10) (C := RX7) (T := TX7) (ref := RX7) hC hK hw (List.mem_range.mpr hrd) kp (by decide) rfl in_X7 tyX7 tyX7_ok nmX7 2 (by decide) rfl q461 (fun x h => h) rfl rfl rfl rfl dX7_next_185 (fun H locs hw => ?_)
                    replace hw := hw.eq (rdI_p2 _ _ _ _ _ _ _) rfl
                    refine lv_goto (tgt := 122) hC.1 hC.2.1 dX7_next_188 (by decide) ?_
                    exact ih122 ls (q + 1) H locs ⟨_, _, hl.sub' [0] (by rfl), hw, ⟨by omega, by omega⟩, hq1.trans (dgV_s hqn (by rw [eTd]; exact c136)), fun z => absurd z (by omega), fun z => absurd z (by omega)⟩ (by omega)
                  · refine lv_bipush (v := (nI 10)) hC.1 hC.2.1 dX7_next_153 (by decide) ?_
                    refine lv_aload_n hC.1 hC.2.1 dX7_next_155 rfl (lv_at hl 0 rfl) ?_
                    refine g_get (C := RX7) (T := TX7) (ref := RX7) hC hK hw (List.mem_range.mpr hrd) kp (by decide) rfl in_X7 5 (by decide) q464 (fun x h => h) (v := .int w) (by show Value.int _ = _; rw [rdI_5]) dX7_next_156 ?_
                    refine lv_imul hC.1 hC.2.1 dX7_next_159 ?_
                    refine lv_aload_n hC.1 hC.2.1 dX7_next_160 rfl (lv_at hl 0 rfl) ?_
                    refine M_V (n := 0) (C := RX7) (T := TX7) hC hl.1 hK hX hw hrd kp (by decide) rfl (tX7_look l N ad K (rdI I rd (nI q) (nI 2) (nI pp) w) R rd T n q (h0.rdI _ _ _ _) (rdI_2 _ _ _ _ _ _) (by omega)) (lw_V q490 q492 qs8 q77 q493) (by decide +kernel) ⟨by decide, by decide⟩ rfl rfl (Nat.le_of_ble_eq_true rfl) dX7_next_161 ⟨by simp only [gN]; omega, by simp only [gN]; omega⟩ ?_
                    rintro _ N2 ad2 K2 I2 R2 H locs ⟨I3, R3, e3, rfl, e4⟩ hg hw
                    cases e3
                    cases e4
                    rw [lk_in hqn eTd]
                    refine lv_iadd hC.1 hC.2.1 dX7_next_164 ?_
                    refine lv_bipush (v := (nI 48)) hC.1 hC.2.1 dX7_next_165 (by decide) ?_
                    refine lv_isub hC.1 hC.2.1 dX7_next_167 ?_
                    refine lv_goto (tgt := 175) hC.1 hC.2.1 dX7_next_168 (by decide) ?_
                    refine g_puti (ci := 10) (C := RX7) (T := TX7) (ref := RX7) hC hK hw (List.mem_range.mpr hrd) kp (by decide) rfl in_X7 tyX7 tyX7_ok nmX7 5 (by decide) rfl q464 (fun x h => h) rfl rfl rfl rfl dX7_next_175 (fun H locs hw => ?_)
                    replace hw := hw.eq (rdI_p5 _ _ _ _ _ _ _) rfl
                    refine lv_aload_n hC.1 hC.2.1 dX7_next_178 rfl (lv_at hl 0 rfl) ?_
                    refine lv_dup hC.1 hC.2.1 dX7_next_179 rfl ?_
                    refine g_get (C := RX7) (T := TX7) (ref := RX7) hC hK hw (List.mem_range.mpr hrd) kp (by decide) rfl in_X7 2 (by decide) q461 (fun x h => h) (v := .int (nI q)) (by show Value.int _ = _; rw [rdI_2]) dX7_next_180 ?_
                    refine lv_iconst (v := (nI 1)) hC.1 hC.2.1 dX7_next_183 (by decide) ?_
                    refine k_add hC dX7_next_184 ?_
                    refine g_puti (ci := 10) (C := RX7) (T := TX7) (ref := RX7) hC hK hw (List.mem_range.mpr hrd) kp (by decide) rfl in_X7 tyX7 tyX7_ok nmX7 2 (by decide) rfl q461 (fun x h => h) rfl rfl rfl rfl dX7_next_185 (fun H locs hw => ?_)
                    replace hw := hw.eq (rdI_p2 _ _ _ _ _ _ _) rfl
                    refine lv_goto (tgt := 122) hC.1 hC.2.1 dX7_next_188 (by decide) ?_
                    exact ih122 ls (q + 1) H locs ⟨_, _, hl.sub' [0] (by rfl), hw, ⟨by omega, by omega⟩, hq1.trans (dgV_s hqn (by rw [eTd]; exact c136)), fun _ => by rw [hq2 (by omega), eTd]; exact vst_le (hq3 c150), fun z => absurd z (by omega)⟩ (by omega)
              · rw [lk_no hqn]
                refine lv_i2l hC.1 hC.2.1 dX7_next_126 rfl ?_
                refine lv_ldc2 hC.1 hC.2.1 hC.2.2.2.1 (hC.2.2.2.2 _ q498) dX7_next_127 ?_
                refine lv_ldc2 hC.1 hC.2.1 hC.2.2.2.1 (hC.2.2.2.2 _ q499) dX7_next_130 ?_
                refine pS_callN (n := 3) hC hl.1 hX (tX0_isInI l (-1000000 : Int32) (nI 48) (nI 57)) q497 q334 q60 q335 rfl rfl (by decide +kernel) ⟨by decide, by decide⟩ rfl rfl (Nat.le_of_ble_eq_true rfl) dX7_next_133 ⟨Nat.zero_le _, Nat.zero_le _⟩ ?_
                refine k_beq (tgt := 191) hC dX7_next_136 (by decide) (fun c136 => ?_) (fun c136 => ?_)
                · have hdg : dgt T n q = false := dgt_e1 (by omega)
                  refine lv_aload_n hC.1 hC.2.1 dX7_next_191 rfl (lv_at hl 0 rfl) ?_
                  refine lv_aload_n hC.1 hC.2.1 dX7_next_192 rfl (lv_at hl 0 rfl) ?_
                  refine g_get (C := RX7) (T := TX7) (ref := RX7) hC hK hw (List.mem_range.mpr hrd) kp (by decide) rfl in_X7 2 (by decide) q461 (fun x h => h) (v := .int (nI q)) (by show Value.int _ = _; rw [rdI_2]) dX7_next_193 ?_
                  refine lv_aload_n hC.1 hC.2.1 dX7_next_196 rfl (lv_at hl 0 rfl) ?_
                  refine g_get (C := RX7) (T := TX7) (ref := RX7) hC hK hw (List.mem_range.mpr hrd) kp (by decide) rfl in_X7 4 (by decide) q463 (fun x h => h) (v := .int (nI pp)) (by show Value.int _ = _; rw [rdI_4]) dX7_next_197 ?_
                  refine k_sub hC (by omega) dX7_next_200 ?_
                  refine lv_iconst (v := (nI 2)) hC.1 hC.2.1 dX7_next_201 (by decide) ?_
                  refine k_le (tgt := 209) hC (by omega) (by omega) dX7_next_202 (by decide) (fun c202 => ?_) (fun c202 => ?_)
                  · refine lv_iconst (v := (nI 2)) hC.1 hC.2.1 dX7_next_209 (by decide) ?_
                    refine g_puti (ci := 10) (C := RX7) (T := TX7) (ref := RX7) hC hK hw (List.mem_range.mpr hrd) kp (by decide) rfl in_X7 tyX7 tyX7_ok nmX7 3 (by decide) rfl q462 (fun x h => h) rfl rfl rfl rfl dX7_next_210 (fun H locs hw => ?_)
                    replace hw := hw.eq (rdI_p3 _ _ _ _ _ _ _) rfl
                    exact M_vret hC hlk hw gGo.rf ⟨by simp only [gN]; omega, by simp only [gN]; omega⟩ hr (⟨_, _, rfl, rfl, _, _, by rw [nt_d (hq1.trans (dgV_e hdg)) hq0.1], by rw [nt_d (hq1.trans (dgV_e hdg)) hq0.1, if_neg (by omega)]; exact Or.inr (Or.inl ⟨rfl, rfl, hq2 (by omega)⟩)⟩) dX7_next_213
                  · refine lv_iconst (v := (nI 4)) hC.1 hC.2.1 dX7_next_205 (by decide) ?_
                    refine lv_goto (tgt := 210) hC.1 hC.2.1 dX7_next_206 (by decide) ?_
                    refine g_puti (ci := 10) (C := RX7) (T := TX7) (ref := RX7) hC hK hw (List.mem_range.mpr hrd) kp (by decide) rfl in_X7 tyX7 tyX7_ok nmX7 3 (by decide) rfl q462 (fun x h => h) rfl rfl rfl rfl dX7_next_210 (fun H locs hw => ?_)
                    replace hw := hw.eq (rdI_p3 _ _ _ _ _ _ _) rfl
                    exact M_vret hC hlk hw gGo.rf ⟨by simp only [gN]; omega, by simp only [gN]; omega⟩ hr (⟨_, _, rfl, rfl, _, _, by rw [nt_d (hq1.trans (dgV_e hdg)) hq0.1], by rw [nt_d (hq1.trans (dgV_e hdg)) hq0.1, if_pos (by omega)]; exact Or.inr (Or.inr (Or.inr (Or.inr ⟨rfl, rfl⟩)))⟩) dX7_next_213
                · exact absurd c136 (by decide)
            · exact absurd rfl c110
        · refine lv_iconst (v := (nI 1)) hC.1 hC.2.1 dX7_next_63 (by decide) ?_
          refine lv_goto (tgt := 102) hC.1 hC.2.1 dX7_next_64 (by decide) ?_
          refine g_puti (ci := 10) (C := RX7) (T := TX7) (ref := RX7) hC hK hw (List.mem_range.mpr hrd) kp (by decide) rfl in_X7 tyX7 tyX7_ok nmX7 3 (by decide) rfl q462 (fun x h => h) rfl rfl rfl rfl dX7_next_102 (fun H locs hw => ?_)
          replace hw := hw.eq (rdI_p3 _ _ _ _ _ _ _) rfl
          refine lv_aload_n hC.1 hC.2.1 dX7_next_105 rfl (lv_at hl 1 rfl) ?_
          refine g_get (C := RX7) (T := TX7) (ref := RX7) hC hK hw (List.mem_range.mpr hrd) kp (by decide) rfl in_X7 3 (by decide) q462 (fun x h => h) (v := .int (nI 1)) (by show Value.int _ = _; rw [rdI_3]) dX7_next_106 ?_
          refine lv_iconst (v := (nI 2)) hC.1 hC.2.1 dX7_next_109 (by decide) ?_
          refine k_eq (tgt := 114) hC (by omega) (by omega) dX7_next_110 (by decide) (fun c110 => ?_) (fun c110 => ?_)
          · exact absurd c110 (by decide)
          · exact M_vret hC hlk hw gGo.rf ⟨by simp only [gN]; omega, by simp only [gN]; omega⟩ hr (⟨_, _, rfl, rfl, _, _, by rw [nt_oth hpn eTc (ch_not c hc c60).1, (ch_not c hc c60).2.1], by rw [nt_oth hpn eTc (ch_not c hc c60).1, (ch_not c hc c60).2.1]; exact Or.inr (Or.inr (Or.inl ⟨c, (ch_not c hc c60).2.2, rfl, rfl, rfl, rfl⟩))⟩) dX7_next_113
      · exact absurd c42 (ch_ne c hc)
    · exact absurd c26 (ch_ne c hc)
  · rw [lk_no hpn]
    refine lv_istore_n (lv' := [(1, .int (-1000000 : Int32)), (0, .ref (ad rd))]) hC.1 hC.2.1 dX7_next_12 rfl hl (by decide) rfl (fun ls hl => ?_)
    refine lv_aload_n hC.1 hC.2.1 dX7_next_13 rfl (lv_at hl 1 rfl) ?_
    refine lv_iload_n hC.1 hC.2.1 dX7_next_14 rfl (lv_at hl 0 rfl) ?_
    refine g_puti (ci := 10) (C := RX7) (T := TX7) (ref := RX7) hC hK hw (List.mem_range.mpr hrd) kp (by decide) rfl in_X7 tyX7 tyX7_ok nmX7 5 (by decide) rfl q464 (fun x h => h) rfl rfl rfl rfl dX7_next_15 (fun H locs hw => ?_)
    replace hw := hw.eq (rdI_p5 _ _ _ _ _ _ _) rfl
    refine lv_aload_n hC.1 hC.2.1 dX7_next_18 rfl (lv_at hl 1 rfl) ?_
    refine lv_dup hC.1 hC.2.1 dX7_next_19 rfl ?_
    refine g_get (C := RX7) (T := TX7) (ref := RX7) hC hK hw (List.mem_range.mpr hrd) kp (by decide) rfl in_X7 2 (by decide) q461 (fun x h => h) (v := .int (nI pp)) (by show Value.int _ = _; rw [rdI_2]) dX7_next_20 ?_
    refine lv_iload_n hC.1 hC.2.1 dX7_next_23 rfl (lv_at hl 0 rfl) ?_
    refine lv_ldc hC.1 hC.2.1 hC.2.2.2.1 (hC.2.2.2.2 _ q494) dX7_next_24 ?_
    refine lv_icmp_ne (tgt := 33) hC.1 hC.2.1 dX7_next_26 (by decide) (fun c26 => ?_) (fun c26 => ?_)
    · exact absurd rfl c26
    · refine lv_iconst (v := (nI 0)) hC.1 hC.2.1 dX7_next_29 (by decide) ?_
      refine lv_goto (tgt := 34) hC.1 hC.2.1 dX7_next_30 (by decide) ?_
      refine k_add hC dX7_next_34 ?_
      refine g_puti (ci := 10) (C := RX7) (T := TX7) (ref := RX7) hC hK hw (List.mem_range.mpr hrd) kp (by decide) rfl in_X7 tyX7 tyX7_ok nmX7 2 (by decide) rfl q461 (fun x h => h) rfl rfl rfl rfl dX7_next_35 (fun H locs hw => ?_)
      replace hw := hw.eq (rdI_p2 _ _ _ _ _ _ _) rfl
      refine lv_aload_n hC.1 hC.2.1 dX7_next_38 rfl (lv_at hl 1 rfl) ?_
      refine lv_iload_n hC.1 hC.2.1 dX7_next_39 rfl (lv_at hl 0 rfl) ?_
      refine lv_ldc hC.1 hC.2.1 hC.2.2.2.1 (hC.2.2.2.2 _ q494) dX7_next_40 ?_
      refine lv_icmp_ne (tgt := 49) hC.1 hC.2.1 dX7_next_42 (by decide) (fun c42 => ?_) (fun c42 => ?_)
      · exact absurd rfl c42
      · refine lv_iconst (v := (nI 0)) hC.1 hC.2.1 dX7_next_45 (by decide) ?_
        refine lv_goto (tgt := 102) hC.1 hC.2.1 dX7_next_46 (by decide) ?_
        refine g_puti (ci := 10) (C := RX7) (T := TX7) (ref := RX7) hC hK hw (List.mem_range.mpr hrd) kp (by decide) rfl in_X7 tyX7 tyX7_ok nmX7 3 (by decide) rfl q462 (fun x h => h) rfl rfl rfl rfl dX7_next_102 (fun H locs hw => ?_)
        replace hw := hw.eq (rdI_p3 _ _ _ _ _ _ _) rfl
        refine lv_aload_n hC.1 hC.2.1 dX7_next_105 rfl (lv_at hl 1 rfl) ?_
        refine g_get (C := RX7) (T := TX7) (ref := RX7) hC hK hw (List.mem_range.mpr hrd) kp (by decide) rfl in_X7 3 (by decide) q462 (fun x h => h) (v := .int (nI 0)) (by show Value.int _ = _; rw [rdI_3]) dX7_next_106 ?_
        refine lv_iconst (v := (nI 2)) hC.1 hC.2.1 dX7_next_109 (by decide) ?_
        refine k_eq (tgt := 114) hC (by omega) (by omega) dX7_next_110 (by decide) (fun c110 => ?_) (fun c110 => ?_)
        · exact absurd c110 (by decide)
        · exact M_vret hC hlk hw gGo.rf ⟨by simp only [gN]; omega, by simp only [gN]; omega⟩ hr (⟨_, _, rfl, rfl, _, _, by rw [nt_end h2 hpn]; rfl, by rw [nt_end h2 hpn]; exact Or.inl ⟨rfl, rfl⟩⟩) dX7_next_113
