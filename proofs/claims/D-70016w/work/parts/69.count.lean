/-! ===== WindCarver: count, hiddenBy (by gen/w69.py) ===== -/
theorem wcR.blw {N : Nat} {K : gK} {I I' : mG} {R R' : gR} {G : mG} {b : Bool} (h : wcR N K I R G b) (ho : pOff 17 I I' R R') : wcR N K I' R' (blowG G) b := by
  refine h.ask ho rfl (fun n h6 h0 h19 h24 => ?_) (fun k h19 h20 => ?_)
  · unfold blowG setFL
    rw [va_up_ne _ _ h19, va_up_ne _ _ h0]
  · unfold blowG
    rw [setFL_0, upd_at, if_neg h19]
theorem wcR.ask0 {N : Nat} {K : gK} {I I' : mG} {R R' : gR} {G : mG} {b : Bool} (h : wcR N K I R G b) (ho : pOff 17 I I' R R') : wcR N K I' R' G b :=
  h.ask ho rfl (fun _ _ _ _ _ => rfl) (fun _ _ _ => rfl)
theorem wcR.more {N N' : Nat} {K K' : gK} {I I' : mG} {R R' : gR} {G : mG} {b : Bool} (h : wcR N K I R G b) (hN : N ≤ N') (ha : ∀ n, n < N → K' n = K n ∧ I' n = I n ∧ R' n = R n) : wcR N' K' I' R' G b := by
  have h44 := h.ge
  have hl := h.ps.1.lt
  refine h.step (u := 17) (Or.inr rfl) hN (fun n hn => (ha n hn).1) (fun n hn _ => (ha n hn).2) (ha 17 (by omega)).2.2 ⟨h.ps.ag hN (fun n hn => (ha n hn).1) (fun j hj => (ha _ (by omega)).2) (fun w _ hw _ _ _ => (ha w hw).2.1), ?_, h.st⟩ (fun _ _ _ _ _ => rfl) (fun _ _ _ => rfl)
  rw [(ha 11 (by omega)).2.1]
  exact h.told
theorem lvS_4 (f : vV) : lvS f 4 = f 16 + f 17 + f 18 + f 19 := by
  show nI 0 + f (16 + 0) + f (16 + 1) + f (16 + 2) + f (16 + 3) = _
  rw [nI_0, Int32.zero_add]
theorem cntR_n {sz : vV} {n : Nat} (h : sz n < 0) : cntR sz (n + 1) = cntR sz n + 0 := by
  show cntR sz n + (if sz n < 0 then 0 else 1) = _
  rw [if_pos h]
theorem cntR_s {sz : vV} {n : Nat} (h : ¬ sz n < 0) : cntR sz (n + 1) = cntR sz n + 1 := by
  show cntR sz n + (if sz n < 0 then 0 else 1) = _
  rw [if_neg h]
theorem m1_lt : (-1 : Int32) < 0 := by decide
theorem hd_a1 {P : Nat → Bool} {x : Nat} (h : P x = true) : bI (allB P x) &&& nI 1 = bI (allB P (x + 1)) := by
  cases hz : allB P x with
  | true => rw [all_t hz h]; decide
  | false => rw [all_f1 hz]; decide
theorem hd_a0 {P : Nat → Bool} {x : Nat} (h : P x = false) : bI (allB P x) &&& nI 0 = bI (allB P (x + 1)) := by
  rw [all_f2 h]
  cases allB P x <;> decide

set_option maxHeartbeats 800000 in
theorem tX0_count (l : Launch) (N : Nat) (ad : Nat → Nat) (K : gK) (I : mG) (R : gR) (what : Int32) (G : mG) (b : Bool) (h0 : wcR N K I R G b) : gM l yX0_count (ws_ yX0_count cX0_count 4 (some FieldType.int)) ({ frames := 6, cells := 0, slots := 0, locals := 145 } : Room) [.ref (ad 0), .int what] N ad K I R (fun v S => v = some (.int (mX6_count G what).1) ∧ wcR S.1 S.2.2.1 S.2.2.2.1 S.2.2.2.2 (mX6_count G what).2 b) := by
  refine gM.of (by decide) (Nat.le_of_ble_eq_true rfl) ?_
  intro D dA p e s m args below meth cd ls hC hlk hr hin hK hX hl hw
  have hl : lv_has ls 4 [(0, .ref (ad 0)), (1, .int what)] := hl
  have hge := h0.ge
  obtain ⟨am, ham, a7, g22, a4, a5⟩ := h0.2.2.2.1
  refine lv_iconst (v := (nI 0)) hC.1 hC.2.1 dX0_count_0 (by decide) ?_
  refine lv_istore_n (lv' := [(2, .int (nI 0)), (0, .ref (ad 0)), (1, .int what)]) hC.1 hC.2.1 dX0_count_1 rfl hl (by decide) rfl (fun ls hl => ?_)
  refine lv_iload_n hC.1 hC.2.1 dX0_count_2 rfl (lv_at hl 2 rfl) ?_
  by_cases t3_0 : what = nI 0
  · refine lv_tableIn (off := 41) (tgt := 44) hC.1 hC.2.1 dX0_count_3 (by rw [t3_0]; decide) (by rw [t3_0]; decide) (by rw [t3_0]; decide) (by decide) ?_
    refine lv_iconst (v := (nI 0)) hC.1 hC.2.1 dX0_count_44 (by decide) ?_
    refine lv_istore_n (lv' := [(3, .int (nI 0)), (2, .int (nI 0)), (0, .ref (ad 0)), (1, .int what)]) hC.1 hC.2.1 dX0_count_45 rfl hl (by decide) rfl (fun ls hl => ?_)
    refine W.loop (fun ls n H locs => lv_has ls 4 [(0, .ref (ad 0)), (1, .int what), (2, .int (nI (cntR (G 2) n))), (3, .int (nI n))] ∧ gw D dA (nA (List.range N) ad s.heap.size) s.heap (List.range N) ad K I R H locs ∧ (n ≤ 8)) 46 (fun _ => []) (fun n => 8 - n) ?_ 0 ⟨hl.sub' [2, 3, 1, 0] (by rfl), hw, by omega⟩
    rintro ls n H locs ⟨hl, hw, hn⟩ ih46
    refine lv_iload_n hC.1 hC.2.1 dX0_count_46 rfl (lv_at hl 3 rfl) ?_
    refine lv_bipush (v := (nI 8)) hC.1 hC.2.1 dX0_count_47 (by decide) ?_
    refine k_ge (tgt := 78) hC (by omega) (by omega) dX0_count_49 (by decide) (fun c49 => ?_) (fun c49 => ?_)
    · have eN : 8 = n := by omega
      subst eN
      refine lv_iload_n hC.1 hC.2.1 dX0_count_78 rfl (lv_at hl 2 rfl) ?_
      exact M_iret hC hlk hw gGo.rf ⟨by simp only [gN]; omega, by simp only [gN]; omega⟩ hr rfl (by have eq : mX6_count G what = ((nI (cntR (G 2) 8)), blowG G) := if_pos t3_0; rw [eq]; exact ⟨rfl, h0.blw pOff.rf⟩) dX0_count_79
    · refine lv_iload_n hC.1 hC.2.1 dX0_count_52 rfl (lv_at hl 2 rfl) ?_
      refine lv_aload_n hC.1 hC.2.1 dX0_count_53 rfl (lv_at hl 0 rfl) ?_
      refine x_ga hC hK hw (by omega) h0.k0 0 1 h0.r0 (by decide) rfl q202 rfl dX0_count_54 ?_
      refine lv_iload_n hC.1 hC.2.1 dX0_count_57 rfl (lv_at hl 3 rfl) ?_
      refine g_ldr (t := 0) (v := .ref (ad (2 + n))) hC hK hw (List.mem_range.mpr (by omega)) h0.1.2.2.2.2.1.1 rfl (by omega) (by omega) (by rw [(h0.1.2.2.2.2.2.2 n (by omega)).1]; rfl) dX0_count_58 ?_
      have hks : (K (2 + n)).1 = 1 := (h0.1.2.2.2.2.2.2 n (by omega)).2
      rcases h0.2.2.2.2.2.1.1 n (by omega) with ⟨z1, z2⟩ | ⟨a, len, t, z1, z3, z4, z5, z6, z7, z8, z9, z10, z11⟩
      · refine g_getX (C := RX1) (T := TX1) (ref := RX1) hC hK hX hw (List.mem_range.mpr (by omega)) hks (by decide) rfl in_X1 0 (by decide) q110 (fun x h => h) (v := .null) (by show va_rf _ = _; rw [z1]; rfl) dX0_count_59 ?_
        refine lv_ifnonnullN hC.1 hC.2.1 dX0_count_62 ?_
        refine lv_iconst (v := (nI 0)) hC.1 hC.2.1 dX0_count_65 (by decide) ?_
        refine lv_goto (tgt := 70) hC.1 hC.2.1 dX0_count_66 (by decide) ?_
        refine k_add hC dX0_count_70 ?_
        refine lv_istore_n (lv' := [(2, .int (nI ((cntR (G 2) n) + 0))), (0, .ref (ad 0)), (1, .int what), (3, .int (nI n))]) hC.1 hC.2.1 dX0_count_71 rfl hl (by decide) rfl (fun ls hl => ?_)
        refine k_iinc (k := 3) (d := 1) (lv' := [(3, .int (nI (n + 1))), (2, .int (nI ((cntR (G 2) n) + 0))), (0, .ref (ad 0)), (1, .int what)]) hC dX0_count_72 hl rfl (by decide) (by decide) rfl (fun ls hl => ?_)
        refine lv_goto (tgt := 46) hC.1 hC.2.1 dX0_count_75 (by decide) ?_
        exact ih46 ls (n + 1) H locs ⟨hl.sub' [2, 3, 1, 0] (by rw [cntR_n (by rw [z2]; exact m1_lt)]; rfl), hw, by omega⟩ (by omega)
      · refine g_getX (C := RX1) (T := TX1) (ref := RX1) hC hK hX hw (List.mem_range.mpr (by omega)) hks (by decide) rfl in_X1 0 (by decide) q110 (fun x h => h) (v := .ref (ad a)) (by show va_rf _ = _; rw [z1]; rfl) dX0_count_59 ?_
        refine lv_ifnonnull (tgt := 69) hC.1 hC.2.1 dX0_count_62 (by decide) ?_
        refine lv_iconst (v := (nI 1)) hC.1 hC.2.1 dX0_count_69 (by decide) ?_
        refine k_add hC dX0_count_70 ?_
        refine lv_istore_n (lv' := [(2, .int (nI ((cntR (G 2) n) + 1))), (0, .ref (ad 0)), (1, .int what), (3, .int (nI n))]) hC.1 hC.2.1 dX0_count_71 rfl hl (by decide) rfl (fun ls hl => ?_)
        refine k_iinc (k := 3) (d := 1) (lv' := [(3, .int (nI (n + 1))), (2, .int (nI ((cntR (G 2) n) + 1))), (0, .ref (ad 0)), (1, .int what)]) hC dX0_count_72 hl rfl (by decide) (by decide) rfl (fun ls hl => ?_)
        refine lv_goto (tgt := 46) hC.1 hC.2.1 dX0_count_75 (by decide) ?_
        exact ih46 ls (n + 1) H locs ⟨hl.sub' [2, 3, 1, 0] (by rw [cntR_s (by rw [z8]; exact nI_pos (by omega))]; rfl), hw, by omega⟩ (by omega)
  by_cases t3_1 : what = nI 1
  · refine lv_tableIn (off := 77) (tgt := 80) hC.1 hC.2.1 dX0_count_3 (by rw [t3_1]; decide) (by rw [t3_1]; decide) (by rw [t3_1]; decide) (by decide) ?_
    refine lv_aload_n hC.1 hC.2.1 dX0_count_80 rfl (lv_at hl 1 rfl) ?_
    refine x_ga hC hK hw (by omega) h0.k0 4 11 h0.r4 (by decide) rfl q206 rfl dX0_count_81 ?_
    refine g_calli (n := 0) (C := RX2) (T := TX2) hC hl.1 hK hX hw (h0.ps.1).1.1 (h0.ps.1).2.1.1 (by decide) rfl (tX2_many l (List.range N) ad K I R 11 (h0.ps.1)) (lw_V q694 q640 q641 q62 q642) rfl rfl (by decide +kernel) ⟨by decide, by decide⟩ rfl rfl (Nat.le_of_ble_eq_true rfl) dX0_count_84 ⟨Nat.zero_le _, Nat.zero_le _⟩ ?_
    rintro r_2 I2 R2 H locs ⟨hr2, hS2⟩ hw
    rw [hr2]
    replace hw := hw.eq (Prod.mk.inj hS2).1 (Prod.mk.inj hS2).2
    clear hS2
    rw [wk_cnt h0.ps 16 (Nat.le_refl _)]
    exact M_iret hC hlk hw gGo.rf ⟨by simp only [gN]; omega, by simp only [gN]; omega⟩ hr rfl (by have eq : mX6_count G what = ((nI (cntW (G 6) 16)), blowG G) := (if_neg t3_0).trans (if_pos t3_1); rw [eq]; exact ⟨rfl, h0.blw pOff.rf⟩) dX0_count_87
  by_cases t3_2 : what = nI 2
  · refine lv_tableIn (off := 85) (tgt := 88) hC.1 hC.2.1 dX0_count_3 (by rw [t3_2]; decide) (by rw [t3_2]; decide) (by rw [t3_2]; decide) (by decide) ?_
    refine lv_aload_n hC.1 hC.2.1 dX0_count_88 rfl (lv_at hl 1 rfl) ?_
    refine x_ga hC hK hw (by omega) h0.k0 4 11 h0.r4 (by decide) rfl q206 rfl dX0_count_89 ?_
    refine p_gi hC hK hw h0.ps.1 1 (by decide) rfl q126 rfl (v := (G 6 0)) (h0.ps.2.1) dX0_count_92 ?_
    exact M_iret hC hlk hw gGo.rf ⟨by simp only [gN]; omega, by simp only [gN]; omega⟩ hr rfl (by have eq : mX6_count G what = ((G 6 0), blowG G) := (if_neg t3_0).trans ((if_neg t3_1).trans (if_pos t3_2)); rw [eq]; exact ⟨rfl, h0.blw pOff.rf⟩) dX0_count_95
  by_cases t3_3 : what = nI 3
  · refine lv_tableIn (off := 93) (tgt := 96) hC.1 hC.2.1 dX0_count_3 (by rw [t3_3]; decide) (by rw [t3_3]; decide) (by rw [t3_3]; decide) (by decide) ?_
    refine lv_aload_n hC.1 hC.2.1 dX0_count_96 rfl (lv_at hl 1 rfl) ?_
    refine M_V (n := 0) (C := RX0) (T := TX0) hC hl.1 hK hX hw (by omega) h0.k0 (by decide) rfl (tX0_blown l N ad K I R (G 6) b (h0.wb)) (lw_V q832 q834 qs18 q60 q835) (by decide +kernel) ⟨by decide, by decide⟩ rfl rfl (Nat.le_of_ble_eq_true rfl) dX0_count_97 ⟨by simp only [gN]; omega, by simp only [gN]; omega⟩ ?_
    rintro _ N2 ad2 K2 I97 R97 H locs ⟨I3, R3, e3, rfl, o97, a97, f97, g97⟩ hg hw
    cases e3
    dsimp only at o97 a97 f97 g97
    have w97 := (h0.wb).off o97
    refine p_gi hC hK hw w97.p17 8 (by decide) rfl q144 rfl (v := ((bl (G 6)).2)) (a97) dX0_count_100 ?_
    exact M_iret hC hlk hw gGo.rf ⟨by simp only [gN]; omega, by simp only [gN]; omega⟩ hr rfl (by have eq : mX6_count G what = (((bl (G 6)).2), blowG G) := (if_neg t3_0).trans ((if_neg t3_1).trans ((if_neg t3_2).trans (if_pos t3_3))); rw [eq]; exact ⟨rfl, h0.blw o97⟩) dX0_count_103
  by_cases t3_4 : what = nI 4
  · refine lv_tableIn (off := 101) (tgt := 104) hC.1 hC.2.1 dX0_count_3 (by rw [t3_4]; decide) (by rw [t3_4]; decide) (by rw [t3_4]; decide) (by decide) ?_
    refine lv_aload_n hC.1 hC.2.1 dX0_count_104 rfl (lv_at hl 1 rfl) ?_
    refine M_V (n := 0) (C := RX0) (T := TX0) hC hl.1 hK hX hw (by omega) h0.k0 (by decide) rfl (tX0_leavesNow l N ad K I R (G 6) b (h0.wb)) (lw_V q1102 q1104 qs27 q60 q1105) (by decide +kernel) ⟨by decide, by decide⟩ rfl rfl (Nat.le_of_ble_eq_true rfl) dX0_count_105 ⟨by simp only [gN]; omega, by simp only [gN]; omega⟩ ?_
    rintro _ N2 ad2 K2 I105 R105 H locs ⟨I3, R3, e3, rfl, o105⟩ hg hw
    cases e3
    dsimp only at o105
    rw [lvS_4]
    exact M_iret hC hlk hw gGo.rf ⟨by simp only [gN]; omega, by simp only [gN]; omega⟩ hr rfl (by have eq : mX6_count G what = (((bl (G 6)).1 16 + (bl (G 6)).1 17 + (bl (G 6)).1 18 + (bl (G 6)).1 19), blowG G) := (if_neg t3_0).trans ((if_neg t3_1).trans ((if_neg t3_2).trans ((if_neg t3_3).trans (if_pos t3_4)))); rw [eq]; exact ⟨rfl, h0.blw o105⟩) dX0_count_108
  by_cases t3_5 : what = nI 5
  · refine lv_tableIn (off := 106) (tgt := 109) hC.1 hC.2.1 dX0_count_3 (by rw [t3_5]; decide) (by rw [t3_5]; decide) (by rw [t3_5]; decide) (by decide) ?_
    refine lv_aload_n hC.1 hC.2.1 dX0_count_109 rfl (lv_at hl 1 rfl) ?_
    refine x_gi hC hK hw (by omega) h0.k0 7 (by decide) rfl q209 rfl (v := (G 0 22)) (a7.trans g22.symm) dX0_count_110 ?_
    exact M_iret hC hlk hw gGo.rf ⟨by simp only [gN]; omega, by simp only [gN]; omega⟩ hr rfl (by have eq : mX6_count G what = ((G 0 22), blowG G) := (if_neg t3_0).trans ((if_neg t3_1).trans ((if_neg t3_2).trans ((if_neg t3_3).trans ((if_neg t3_4).trans (if_pos t3_5))))); rw [eq]; exact ⟨rfl, h0.blw pOff.rf⟩) dX0_count_113
  by_cases t3_6 : what = nI 6
  · refine lv_tableIn (off := 111) (tgt := 114) hC.1 hC.2.1 dX0_count_3 (by rw [t3_6]; decide) (by rw [t3_6]; decide) (by rw [t3_6]; decide) (by decide) ?_
    refine lv_aload_n hC.1 hC.2.1 dX0_count_114 rfl (lv_at hl 1 rfl) ?_
    refine x_gi hC hK hw (by omega) h0.k0 2 (by decide) rfl q204 rfl (v := (G 0 8)) (h0.2.2.2.2.2.2.2.1) dX0_count_115 ?_
    exact M_iret hC hlk hw gGo.rf ⟨by simp only [gN]; omega, by simp only [gN]; omega⟩ hr rfl (by have eq : mX6_count G what = ((G 0 8), blowG G) := (if_neg t3_0).trans ((if_neg t3_1).trans ((if_neg t3_2).trans ((if_neg t3_3).trans ((if_neg t3_4).trans ((if_neg t3_5).trans (if_pos t3_6)))))); rw [eq]; exact ⟨rfl, h0.blw pOff.rf⟩) dX0_count_118
  refine lv_tableOut (tgt := 119) hC.1 hC.2.1 dX0_count_3 (tsw0_6 t3_0 t3_1 t3_2 t3_3 t3_4 t3_5 t3_6) (by decide) ?_
  refine lv_ldc hC.1 hC.2.1 hC.2.2.2.1 (hC.2.2.2.2 _ q337) dX0_count_119 ?_
  exact M_iret hC hlk hw gGo.rf ⟨by simp only [gN]; omega, by simp only [gN]; omega⟩ hr rfl (by have eq : mX6_count G what = ((-1000001 : Int32), blowG G) := (if_neg t3_0).trans ((if_neg t3_1).trans ((if_neg t3_2).trans ((if_neg t3_3).trans ((if_neg t3_4).trans ((if_neg t3_5).trans (if_neg t3_6)))))); rw [eq]; exact ⟨rfl, h0.blw pOff.rf⟩) dX0_count_121

set_option maxHeartbeats 800000 in
theorem tX0_hiddenBy (l : Launch) (N : Nat) (ad : Nat → Nat) (K : gK) (I : mG) (R : gR) (kind : Nat) (y : Nat) (t : Nat) (G : mG) (b : Bool) (it : vV) (o : Nat) (h0 : wcR N K I R G b) (h1 : 1 ≤ kind ∧ kind ≤ 5) (h2 : y < 4) (h3 : t < N) (h4 : K t = (20, 4)) (h5 : t < 17 ∨ 23 ≤ t) (h6 : ∀ c, c < 4 → I t c = it (o + c)) : gM l yX0_hiddenBy (ws_ yX0_hiddenBy cX0_hiddenBy 9 (some FieldType.int)) ({ frames := 5, cells := 16, slots := 32, locals := 128 } : Room) [.ref (ad 0), .int (nI kind), .int (nI y), .ref (ad t)] N ad K I R (fun v S => v = some (.int (hdF it (G 6) (nI kind) o y 16)) ∧ wcR S.1 S.2.2.1 S.2.2.2.1 S.2.2.2.2 G b) := by
  refine gM.of (by decide) (Nat.le_of_ble_eq_true rfl) ?_
  intro D dA p e s m args below meth cd ls hC hlk hr hin hK hX hl hw
  have hl : lv_has ls 9 [(0, .ref (ad 0)), (1, .int (nI kind)), (2, .int (nI y)), (3, .ref (ad t))] := hl
  have hge := h0.ge
  obtain ⟨hh, hh9, eh⟩ := h0.st.2
  refine lv_iconst (v := (nI 0)) hC.1 hC.2.1 dX0_hiddenBy_0 (by decide) ?_
  refine lv_istore (lv' := [(4, .int (nI 0)), (0, .ref (ad 0)), (1, .int (nI kind)), (2, .int (nI y)), (3, .ref (ad t))]) hC.1 hC.2.1 dX0_hiddenBy_1 hl (by decide) rfl (fun ls hl => ?_)
  refine lv_iconst (v := (nI 0)) hC.1 hC.2.1 dX0_hiddenBy_3 (by decide) ?_
  refine lv_istore (lv' := [(5, .int (nI 0)), (4, .int (nI 0)), (0, .ref (ad 0)), (1, .int (nI kind)), (2, .int (nI y)), (3, .ref (ad t))]) hC.1 hC.2.1 dX0_hiddenBy_4 hl (by decide) rfl (fun ls hl => ?_)
  refine W.loopC (fun ls n H locs => ∃ Nx adx Kx Ix Rx, lv_has ls 9 [(0, .ref (adx 0)), (1, .int (nI kind)), (2, .int (nI y)), (3, .ref (adx t)), (4, .int (hdF it (G 6) (nI kind) o y n)), (5, .int (nI n))] ∧ gw D dA (nA (List.range N) ad s.heap.size) s.heap (List.range Nx) adx Kx Ix Rx H locs ∧ (gGo N ad K (Nx, adx, Kx, Ix, Rx)) ∧ (wcR Nx Kx Ix Rx G b) ∧ (Ix t = I t) ∧ (n ≤ 16)) 6 (fun _ => []) (fun n => 16 - n) (fun n => n) (fun n => 2 * n) ?_ 0 ⟨_, _, _, _, _, hl.sub' [2, 3, 4, 5, 1, 0] (by rfl), hw, gGo.rf, h0, rfl, Nat.zero_le _⟩
  rintro ls n H locs ⟨Nx, adx, Kx, Ix, Rx, hl, hw, gx, hx, ix, hn⟩ ih6
  have gex := hx.ge
  have tN : t < Nx := Nat.lt_of_lt_of_le h3 gx.1
  refine lv_iload hC.1 hC.2.1 dX0_hiddenBy_6 (lv_at hl 5 rfl) ?_
  refine lv_bipush (v := (nI 16)) hC.1 hC.2.1 dX0_hiddenBy_8 (by decide) ?_
  refine k_ge (tgt := 126) hC (by omega) (by omega) dX0_hiddenBy_10 (by decide) (fun c10 => ?_) (fun c10 => ?_)
  · have eN : 16 = n := by omega
    subst eN
    refine lv_iload hC.1 hC.2.1 dX0_hiddenBy_126 (lv_at hl 4 rfl) ?_
    exact M_iret hC hlk hw gx ⟨by simp only [gN]; omega, by simp only [gN]; omega⟩ hr rfl (⟨rfl, hx⟩) dX0_hiddenBy_128
  · refine lv_aload_n hC.1 hC.2.1 dX0_hiddenBy_13 rfl (lv_at hl 0 rfl) ?_
    refine x_ga hC hK hw (by omega) hx.k0 4 11 hx.r4 (by decide) rfl q206 rfl dX0_hiddenBy_14 ?_
    refine lv_iload hC.1 hC.2.1 dX0_hiddenBy_17 (lv_at hl 5 rfl) ?_
    refine g_calli (n := 1) (C := RX2) (T := TX2) hC hl.1 hK hX hw (hx.ps.1).1.1 (hx.ps.1).2.1.1 (by decide) rfl (tX2_has l (List.range Nx) adx Kx Ix Rx 11 n (hx.ps.1) (by omega)) (lw_V q713 q644 q645 q62 q646) rfl rfl (by decide +kernel) ⟨by decide, by decide⟩ rfl rfl (Nat.le_of_ble_eq_true rfl) dX0_hiddenBy_19 ⟨by simp only [gN]; omega, by simp only [gN]; omega⟩ ?_
    rintro r_2 I2 R2 H locs ⟨hr2, hS2⟩ hw
    rw [hr2]
    replace hw := hw.eq (Prod.mk.inj hS2).1 (Prod.mk.inj hS2).2
    clear hS2
    refine k_beq (tgt := 28) hC dX0_hiddenBy_22 (by decide) (fun c22 => ?_) (fun c22 => ?_)
    · have ew : isWk (G 6) n = false := by rw [hx.ps.wk (by omega)]; exact c22
      refine lv_aload_n hC.1 hC.2.1 dX0_hiddenBy_28 rfl (lv_at hl 0 rfl) ?_
      refine M_V (n := 0) (C := RX0) (T := TX0) hC hl.1 hK hX hw (by omega) hx.k0 (by decide) rfl (tX0_asNow l Nx adx Kx Ix Rx (G 6) b (hx.wb)) (lw_V q836 q838 qs19 q60 q839) (by decide +kernel) ⟨by decide, by decide⟩ rfl rfl (Nat.le_of_ble_eq_true rfl) dX0_hiddenBy_29 ⟨by simp only [gN]; omega, by simp only [gN]; omega⟩ ?_
      rintro _ N2 ad2 K2 I29 R29 H locs ⟨I3, R3, e3, rfl, b29, o29⟩ hg hw
      cases e3
      dsimp only at b29 o29
      have w29 := (hx.wb).off o29
      have h29 := hx.ask0 o29
      refine lv_astore (lv' := [(6, .ref (adx 17)), (0, .ref (adx 0)), (1, .int (nI kind)), (2, .int (nI y)), (3, .ref (adx t)), (4, .int (hdF it (G 6) (nI kind) o y n)), (5, .int (nI n))]) hC.1 hC.2.1 dX0_hiddenBy_32 hl (by decide) rfl (fun ls hl => ?_)
      refine lv_aload hC.1 hC.2.1 dX0_hiddenBy_34 (lv_at hl 0 rfl) ?_
      refine p_ga hC hK hw h29.p17 4 3 h29.p17.2.2.2.2.1 (by decide) rfl q135 rfl dX0_hiddenBy_36 ?_
      refine lv_iload hC.1 hC.2.1 dX0_hiddenBy_39 (lv_at hl 6 rfl) ?_
      refine lv_iload_n hC.1 hC.2.1 dX0_hiddenBy_41 rfl (lv_at hl 2 rfl) ?_
      refine lv_iload hC.1 hC.2.1 dX0_hiddenBy_42 (lv_at hl 6 rfl) ?_
      refine lv_bipush (v := (nI 99)) hC.1 hC.2.1 dX0_hiddenBy_44 (by decide) ?_
      refine M_S (n := 3) hC hl.1 hK hX hw (tX0_workBy l Nx adx Kx I29 R29 kind n (nI 99) (h1)) (lw_S q718 q650 q60 q651) (by decide +kernel) ⟨by decide, by decide⟩ rfl rfl (Nat.le_of_ble_eq_true rfl) dX0_hiddenBy_46 ⟨by simp only [gN]; omega, by simp only [gN]; omega⟩ ?_
      rintro _ Nw adw Kw Iw Rw H locs ⟨rfl, eN, wk1, wk2, wk3, wk4⟩ hgw hw
      dsimp only at eN wk1 wk2 wk3 wk4
      subst eN
      have e_adw : adx 17 = adw 17 := (hgw.2 17 (by omega)).1.symm
      rw [e_adw] at hl
      have e_adw : adx 0 = adw 0 := (hgw.2 0 (by omega)).1.symm
      rw [e_adw] at hl
      have e_adw : adx t = adw t := (hgw.2 t (by omega)).1.symm
      rw [e_adw] at hl
      have e_adw : adx (17 + 3) = adw (17 + 3) := (hgw.2 (17 + 3) (by omega)).1.symm
      rw [e_adw]
      have gw2 := gGo.tr gx hgw
      have kA : ∀ n, n < Nx → Kw n = Kx n := fun n hn => (hgw.2 n hn).2
      have h46 := h29.more (N' := Nx + 1) (K' := Kw) (I' := Iw) (R' := Rw) (by omega) (fun n hn => ⟨kA n hn, wk4 n hn⟩)
      have b46 := b29.ag (N' := Nx + 1) (by omega) kA (fun j hj => wk4 _ (by have := b29.1.lt; omega)) (fun w _ hw _ _ _ => (wk4 w hw).1)
      refine g_str (t := 2) hC hK hw b46.1.1.2.2.2.1 b46.1.2.1.2.2.2.1 rfl (by omega) (by omega) (List.mem_range.mpr (by omega)) (g_any (k := kind) hK hX hw (List.mem_range.mpr (by omega)) (by rw [wk1]) h1) dX0_hiddenBy_49 (fun H locs hw => ?_)
      have b49 := b46.put (a := n) (w := Nx) (k := kind) (x := nI 99) (by omega) (List.mem_range.mpr (by omega)) (by rw [wk1]) h1.1 h1.2 wk2 wk3
      have h49 := h46.ask0 (pOff_r2 17 n Iw Rw (some Nx))
      refine lv_aload hC.1 hC.2.1 dX0_hiddenBy_50 (lv_at hl 0 rfl) ?_
      refine g_callv (n := 0) (C := RX2) (T := TX2) hC hl.1 hK hX hw (h49.p17).1.1 (h49.p17).2.1.1 (by decide) rfl (tX2_blow l (List.range (Nx + 1)) adw Kw Iw (r2 Rw (17 + 3) n (some Nx)) 17 (upd (upd (G 6) (9 + n) (nI kind)) (25 + n) (nI 99)) hh (b49) (by rw [upd_at, if_neg (by omega), upd_at, if_neg (by omega)]; exact eh) (by omega)) (lw_V q840 q768 q769 q62 q770) rfl rfl (by decide +kernel) ⟨by decide, by decide⟩ rfl rfl (Nat.le_of_ble_eq_true rfl) dX0_hiddenBy_52 ⟨by simp only [gN]; omega, by simp only [gN]; omega⟩ ?_
      rintro I2 R2 H locs hS2 hw
      replace hw := hw.eq (Prod.mk.inj hS2).1 (Prod.mk.inj hS2).2
      clear hS2
      have h55 := h49.ask0 (pOff_fl 17 Iw (r2 Rw (17 + 3) n (some Nx)) (bl (upd (upd (G 6) (9 + n) (nI kind)) (25 + n) (nI 99))))
      have kt : Kw t = (20, 4) := ((gw2.2 t h3).2).trans h4
      have it5 : Iw t = I t := by rw [(wk4 t (by omega)).1, (o29.1 t (by omega)).1, ix]
      refine lv_iconst (v := (nI 1)) hC.1 hC.2.1 dX0_hiddenBy_55 (by decide) ?_
      refine lv_istore (lv' := [(7, .int (nI 1)), (6, .ref (adw 17)), (0, .ref (adw 0)), (1, .int (nI kind)), (2, .int (nI y)), (3, .ref (adw t)), (4, .int (hdF it (G 6) (nI kind) o y n)), (5, .int (nI n))]) hC.1 hC.2.1 dX0_hiddenBy_56 hl (by decide) rfl (fun ls hl => ?_)
      refine lv_iconst (v := (nI 0)) hC.1 hC.2.1 dX0_hiddenBy_58 (by decide) ?_
      refine lv_istore (lv' := [(8, .int (nI 0)), (7, .int (nI 1)), (6, .ref (adw 17)), (0, .ref (adw 0)), (1, .int (nI kind)), (2, .int (nI y)), (3, .ref (adw t)), (4, .int (hdF it (G 6) (nI kind) o y n)), (5, .int (nI n))]) hC.1 hC.2.1 dX0_hiddenBy_59 hl (by decide) rfl (fun ls hl => ?_)
      refine W.loop (fun ls x H locs => lv_has ls 9 [(0, .ref (adw 0)), (1, .int (nI kind)), (2, .int (nI y)), (3, .ref (adw t)), (4, .int (hdF it (G 6) (nI kind) o y n)), (5, .int (nI n)), (6, .ref (adw 17)), (7, .int (bI (allB (hdP it (G 6) (nI kind) o y n) x))), (8, .int (nI x))] ∧ gw D dA (nA (List.range N) ad s.heap.size) s.heap (List.range (Nx + 1)) adw Kw (pFL Iw 17 (bl (upd (upd (G 6) (9 + n) (nI kind)) (25 + n) (nI 99)))) (r2 Rw (17 + 3) n (some Nx)) H locs ∧ (x ≤ 4)) 61 (fun _ => []) (fun x => 4 - x) ?_ 0 ⟨hl.sub' [3, 4, 5, 6, 7, 8, 2, 1, 0] (by rw [← bI_of_t (b := allB (hdP it (G 6) (nI kind) o y n) 0) rfl]; rfl), hw, by omega⟩
      rintro ls x H locs ⟨hl, hw, hx4⟩ ih61
      refine lv_iload hC.1 hC.2.1 dX0_hiddenBy_61 (lv_at hl 8 rfl) ?_
      refine lv_iconst (v := (nI 4)) hC.1 hC.2.1 dX0_hiddenBy_63 (by decide) ?_
      refine k_ge (tgt := 102) hC (by omega) (by omega) dX0_hiddenBy_64 (by decide) (fun c64 => ?_) (fun c64 => ?_)
      · have eN : 4 = x := by omega
        subst eN
        refine lv_iload hC.1 hC.2.1 dX0_hiddenBy_102 (lv_at hl 4 rfl) ?_
        refine lv_iload hC.1 hC.2.1 dX0_hiddenBy_104 (lv_at hl 7 rfl) ?_
        refine k_beq (tgt := 116) hC dX0_hiddenBy_106 (by decide) (fun c106 => ?_) (fun c106 => ?_)
        · refine lv_iconst (v := (nI 0)) hC.1 hC.2.1 dX0_hiddenBy_116 (by decide) ?_
          refine lv_ior hC.1 hC.2.1 dX0_hiddenBy_117 ?_
          refine lv_istore (lv' := [(4, .int ((hdF it (G 6) (nI kind) o y n) ||| (nI 0))), (0, .ref (adw 0)), (1, .int (nI kind)), (2, .int (nI y)), (3, .ref (adw t)), (5, .int (nI n)), (6, .ref (adw 17)), (7, .int (bI (allB (hdP it (G 6) (nI kind) o y n) 4))), (8, .int (nI 4))]) hC.1 hC.2.1 dX0_hiddenBy_118 hl (by decide) rfl (fun ls hl => ?_)
          refine k_iinc (k := 5) (d := 1) (lv' := [(5, .int (nI (n + 1))), (4, .int ((hdF it (G 6) (nI kind) o y n) ||| (nI 0))), (0, .ref (adw 0)), (1, .int (nI kind)), (2, .int (nI y)), (3, .ref (adw t)), (6, .ref (adw 17)), (7, .int (bI (allB (hdP it (G 6) (nI kind) o y n) 4))), (8, .int (nI 4))]) hC dX0_hiddenBy_120 hl rfl (by decide) (by decide) rfl (fun ls hl => ?_)
          refine lv_goto (tgt := 6) hC.1 hC.2.1 dX0_hiddenBy_123 (by decide) ?_
          exact ih6 ls (n + 1) H locs ⟨_, _, _, _, _, hl.sub' [2, 3, 4, 5, 1, 0] (by rw [hd_f ew c106]; rfl), hw, gw2.to, h55, by rw [pFL_ne _ _ _ (by omega) (by omega) (by omega)]; exact it5, by omega⟩ (by omega)
        · refine lv_iconst (v := (nI 1)) hC.1 hC.2.1 dX0_hiddenBy_109 (by decide) ?_
          refine lv_iload hC.1 hC.2.1 dX0_hiddenBy_110 (lv_at hl 5 rfl) ?_
          refine lv_ishl hC.1 hC.2.1 dX0_hiddenBy_112 ?_
          refine lv_goto (tgt := 117) hC.1 hC.2.1 dX0_hiddenBy_113 (by decide) ?_
          refine lv_ior hC.1 hC.2.1 dX0_hiddenBy_117 ?_
          refine lv_istore (lv' := [(4, .int ((hdF it (G 6) (nI kind) o y n) ||| ((nI 1) <<< ((nI n) &&& 31)))), (0, .ref (adw 0)), (1, .int (nI kind)), (2, .int (nI y)), (3, .ref (adw t)), (5, .int (nI n)), (6, .ref (adw 17)), (7, .int (bI (allB (hdP it (G 6) (nI kind) o y n) 4))), (8, .int (nI 4))]) hC.1 hC.2.1 dX0_hiddenBy_118 hl (by decide) rfl (fun ls hl => ?_)
          refine k_iinc (k := 5) (d := 1) (lv' := [(5, .int (nI (n + 1))), (4, .int ((hdF it (G 6) (nI kind) o y n) ||| ((nI 1) <<< ((nI n) &&& 31)))), (0, .ref (adw 0)), (1, .int (nI kind)), (2, .int (nI y)), (3, .ref (adw t)), (6, .ref (adw 17)), (7, .int (bI (allB (hdP it (G 6) (nI kind) o y n) 4))), (8, .int (nI 4))]) hC dX0_hiddenBy_120 hl rfl (by decide) (by decide) rfl (fun ls hl => ?_)
          refine lv_goto (tgt := 6) hC.1 hC.2.1 dX0_hiddenBy_123 (by decide) ?_
          exact ih6 ls (n + 1) H locs ⟨_, _, _, _, _, hl.sub' [2, 3, 4, 5, 1, 0] (by rw [hd_t ew c106]; rfl), hw, gw2.to, h55, by rw [pFL_ne _ _ _ (by omega) (by omega) (by omega)]; exact it5, by omega⟩ (by omega)
      · refine lv_iload hC.1 hC.2.1 dX0_hiddenBy_67 (lv_at hl 7 rfl) ?_
        refine lv_aload hC.1 hC.2.1 dX0_hiddenBy_69 (lv_at hl 6 rfl) ?_
        refine p_ga hC hK hw h55.p17 6 4 h55.p17.2.2.2.2.2.1 (by decide) rfl q140 rfl dX0_hiddenBy_71 ?_
        refine lv_iconst (v := (nI 4)) hC.1 hC.2.1 dX0_hiddenBy_74 (by decide) ?_
        refine lv_iload hC.1 hC.2.1 dX0_hiddenBy_75 (lv_at hl 8 rfl) ?_
        refine k_mul hC dX0_hiddenBy_77 ?_
        refine lv_iload_n hC.1 hC.2.1 dX0_hiddenBy_78 rfl (lv_at hl 2 rfl) ?_
        refine k_add hC dX0_hiddenBy_79 ?_
        refine g_ldi hC hK hw h55.p17.1.2.2.2.2.1 h55.p17.2.1.2.2.2.2.1 (by omega) (by omega) (v := ((bl (upd (G 6) (9 + n) (nI kind))).1 (4 * x + y))) (by rw [pFL_4, bl_try1 (by omega)]) dX0_hiddenBy_80 ?_
        refine lv_aload_n hC.1 hC.2.1 dX0_hiddenBy_81 rfl (lv_at hl 3 rfl) ?_
        refine lv_iload hC.1 hC.2.1 dX0_hiddenBy_82 (lv_at hl 8 rfl) ?_
        refine g_ldi hC hK hw (List.mem_range.mpr (by omega)) kt (by omega) (by omega) (v := (it (o + x))) (by rw [pFL_ne _ _ _ (by omega) (by omega) (by omega), it5]; exact h6 x (by omega)) dX0_hiddenBy_84 ?_
        refine lv_icmp_ne (tgt := 92) hC.1 hC.2.1 dX0_hiddenBy_85 (by decide) (fun c85 => ?_) (fun c85 => ?_)
        · refine lv_iconst (v := (nI 0)) hC.1 hC.2.1 dX0_hiddenBy_92 (by decide) ?_
          refine lv_iand hC.1 hC.2.1 dX0_hiddenBy_93 ?_
          refine lv_istore (lv' := [(7, .int ((bI (allB (hdP it (G 6) (nI kind) o y n) x)) &&& (nI 0))), (0, .ref (adw 0)), (1, .int (nI kind)), (2, .int (nI y)), (3, .ref (adw t)), (4, .int (hdF it (G 6) (nI kind) o y n)), (5, .int (nI n)), (6, .ref (adw 17)), (8, .int (nI x))]) hC.1 hC.2.1 dX0_hiddenBy_94 hl (by decide) rfl (fun ls hl => ?_)
          refine k_iinc (k := 8) (d := 1) (lv' := [(8, .int (nI (x + 1))), (7, .int ((bI (allB (hdP it (G 6) (nI kind) o y n) x)) &&& (nI 0))), (0, .ref (adw 0)), (1, .int (nI kind)), (2, .int (nI y)), (3, .ref (adw t)), (4, .int (hdF it (G 6) (nI kind) o y n)), (5, .int (nI n)), (6, .ref (adw 17))]) hC dX0_hiddenBy_96 hl rfl (by decide) (by decide) rfl (fun ls hl => ?_)
          refine lv_goto (tgt := 61) hC.1 hC.2.1 dX0_hiddenBy_99 (by decide) ?_
          exact ih61 ls (x + 1) H locs ⟨hl.sub' [2, 3, 4, 5, 6, 7, 8, 1, 0] (by rw [← hd_a0 (P := hdP it (G 6) (nI kind) o y n) (decide_eq_false (fun z => c85 z.symm))]; rfl), hw, by omega⟩ (by omega)
        · refine lv_iconst (v := (nI 1)) hC.1 hC.2.1 dX0_hiddenBy_88 (by decide) ?_
          refine lv_goto (tgt := 93) hC.1 hC.2.1 dX0_hiddenBy_89 (by decide) ?_
          refine lv_iand hC.1 hC.2.1 dX0_hiddenBy_93 ?_
          refine lv_istore (lv' := [(7, .int ((bI (allB (hdP it (G 6) (nI kind) o y n) x)) &&& (nI 1))), (0, .ref (adw 0)), (1, .int (nI kind)), (2, .int (nI y)), (3, .ref (adw t)), (4, .int (hdF it (G 6) (nI kind) o y n)), (5, .int (nI n)), (6, .ref (adw 17)), (8, .int (nI x))]) hC.1 hC.2.1 dX0_hiddenBy_94 hl (by decide) rfl (fun ls hl => ?_)
          refine k_iinc (k := 8) (d := 1) (lv' := [(8, .int (nI (x + 1))), (7, .int ((bI (allB (hdP it (G 6) (nI kind) o y n) x)) &&& (nI 1))), (0, .ref (adw 0)), (1, .int (nI kind)), (2, .int (nI y)), (3, .ref (adw t)), (4, .int (hdF it (G 6) (nI kind) o y n)), (5, .int (nI n)), (6, .ref (adw 17))]) hC dX0_hiddenBy_96 hl rfl (by decide) (by decide) rfl (fun ls hl => ?_)
          refine lv_goto (tgt := 61) hC.1 hC.2.1 dX0_hiddenBy_99 (by decide) ?_
          exact ih61 ls (x + 1) H locs ⟨hl.sub' [2, 3, 4, 5, 6, 7, 8, 1, 0] (by rw [← hd_a1 (P := hdP it (G 6) (nI kind) o y n) (decide_eq_true c85.symm)]; rfl), hw, by omega⟩ (by omega)
    · have ew : isWk (G 6) n = true := by rw [hx.ps.wk (by omega)]; exact c22
      refine lv_goto (tgt := 120) hC.1 hC.2.1 dX0_hiddenBy_25 (by decide) ?_
      refine k_iinc (k := 5) (d := 1) (lv' := [(5, .int (nI (n + 1))), (0, .ref (adx 0)), (1, .int (nI kind)), (2, .int (nI y)), (3, .ref (adx t)), (4, .int (hdF it (G 6) (nI kind) o y n))]) hC dX0_hiddenBy_120 hl rfl (by decide) (by decide) rfl (fun ls hl => ?_)
      refine lv_goto (tgt := 6) hC.1 hC.2.1 dX0_hiddenBy_123 (by decide) ?_
      refine W.more (show n ≤ n + 1 by omega) (show 2 * n ≤ 2 * (n + 1) by omega) ?_
      exact ih6 ls (n + 1) H locs ⟨_, _, _, _, _, hl.sub' [1, 2, 3, 4, 5, 0] (by rw [hd_w ew]; rfl), hw, gx, hx, ix, by omega⟩ (by omega)
