/-! ===== WindCarver: leavesNow, most, stands, lots (by gen/w47.py) ===== -/
theorem gcd_ne : ∀ (n : Nat) (x y : Int32), y.toInt.natAbs < n → ¬ (x = 0 ∧ y = 0) → ¬ gcdI n x y = 0
  | 0, x, y, h, _ => by omega
  | n + 1, x, y, h, hz => by
    show ¬ (if y = 0 then x else gcdI n y (irem x y)) = 0
    by_cases c : y = 0
    · rw [if_pos c]; exact fun e => hz ⟨e, c⟩
    · rw [if_neg c]
      exact gcd_ne n y (irem x y) (by have := irem_lt (x := x) c; omega) (fun e => c e.1)
theorem gcdV_ne {a b : Int32} (h : ¬ b = 0) : ¬ gcdV a b = 0 := gcd_ne _ _ _ (Nat.lt_succ_self _) (fun e => h e.2)

set_option maxHeartbeats 4000000 in
theorem tX0_common (l : Launch) (a : Int32) (b : Int32) : pS l yX0_common cX0_common 5 .int ({ frames := 0, cells := 0, slots := 0, locals := 0 } : Room) [.int a, .int b] (gcdV a b) := by
  refine pS.of (by decide) (Nat.le_of_ble_eq_true rfl) ?_
  intro p e s m below meth cd ls hC hlk hr hl
  have hl : lv_has ls 5 [(0, .int a), (1, .int b)] := hl
  refine lv_iload_n hC.1 hC.2.1 dX0_common_0 rfl (lv_at hl 0 rfl) ?_
  refine lv_istore_n (lv' := [(2, .int a), (0, .int a), (1, .int b)]) hC.1 hC.2.1 dX0_common_1 rfl hl (by decide) rfl (fun ls hl => ?_)
  refine lv_iload_n hC.1 hC.2.1 dX0_common_2 rfl (lv_at hl 2 rfl) ?_
  refine lv_istore_n (lv' := [(3, .int b), (2, .int a), (0, .int a), (1, .int b)]) hC.1 hC.2.1 dX0_common_3 rfl hl (by decide) rfl (fun ls hl => ?_)
  refine W.loop (fun ls z H locs => lv_has ls 5 [(2, .int z.1), (3, .int z.2)] ∧ (H = s.heap ∧ locs = []) ∧ (∃ n, z.2.toInt.natAbs < n ∧ gcdV a b = gcdI n z.1 z.2)) 4 (fun _ => []) (fun z => z.2.toInt.natAbs) ?_ ((a, b) : Int32 × Int32) ⟨hl.sub' [1, 0] (by rfl), ⟨rfl, rfl⟩, ⟨_, Nat.lt_succ_self _, rfl⟩⟩
  rintro ls z H locs ⟨hl, ⟨rfl, rfl⟩, hg⟩ ih4
  refine lv_iload_n hC.1 hC.2.1 dX0_common_4 rfl (lv_at hl 1 rfl) ?_
  refine lv_if_eq (tgt := 21) hC.1 hC.2.1 dX0_common_5 (by decide) (fun c5 => ?_) (fun c5 => ?_)
  · refine lv_iload_n hC.1 hC.2.1 dX0_common_21 rfl (lv_at hl 0 rfl) ?_
    exact pS_ret hC hlk hr ((gcd_end hg c5).symm) rfl dX0_common_22
  · refine lv_iload_n hC.1 hC.2.1 dX0_common_8 rfl (lv_at hl 0 rfl) ?_
    refine lv_iload_n hC.1 hC.2.1 dX0_common_9 rfl (lv_at hl 1 rfl) ?_
    refine lv_irem hC.1 hC.2.1 dX0_common_10 c5 ?_
    refine lv_istore (lv' := [(4, .int (irem z.1 z.2)), (2, .int z.1), (3, .int z.2)]) hC.1 hC.2.1 dX0_common_11 hl (by decide) rfl (fun ls hl => ?_)
    refine lv_iload_n hC.1 hC.2.1 dX0_common_13 rfl (lv_at hl 2 rfl) ?_
    refine lv_istore_n (lv' := [(2, .int z.2), (4, .int (irem z.1 z.2)), (3, .int z.2)]) hC.1 hC.2.1 dX0_common_14 rfl hl (by decide) rfl (fun ls hl => ?_)
    refine lv_iload hC.1 hC.2.1 dX0_common_15 (lv_at hl 1 rfl) ?_
    refine lv_istore_n (lv' := [(3, .int (irem z.1 z.2)), (2, .int z.2), (4, .int (irem z.1 z.2))]) hC.1 hC.2.1 dX0_common_17 rfl hl (by decide) rfl (fun ls hl => ?_)
    refine lv_goto (tgt := 4) hC.1 hC.2.1 dX0_common_18 (by decide) ?_
    exact ih4 ls (z.2, irem z.1 z.2) _ _ ⟨hl.sub' [1, 0] (by rfl), ⟨rfl, rfl⟩, gcd_step (n := 0) hg c5⟩ (irem_lt c5)

def lvS (f : vV) : Nat → Int32
  | 0 => nI 0
  | n + 1 => lvS f n + f (16 + n)

set_option maxHeartbeats 800000 in
theorem tX0_leavesNow (l : Launch) (N : Nat) (ad : Nat → Nat) (K : gK) (I : mG) (R : gR) (st : vV) (b : Bool) (h0 : wB N K I R st b) : gA l yX0_leavesNow (ws_ yX0_leavesNow cX0_leavesNow 4 (some FieldType.int)) ({ frames := 5, cells := 0, slots := 0, locals := 122 } : Room) [.ref (ad 0)] N ad K I R (fun v S => v = some (.int (lvS (bl st).1 4)) ∧ pOff 17 I S.1 R S.2) := by
  refine gM.of (by decide) (Nat.le_of_ble_eq_true rfl) ?_
  intro D dA p e s m args below meth cd ls hC hlk hr hin hK hX hl hw
  have hl : lv_has ls 4 [(0, .ref (ad 0))] := hl
  have hge := h0.ge
  refine lv_aload_n hC.1 hC.2.1 dX0_leavesNow_0 rfl (lv_at hl 0 rfl) ?_
  refine M_V (n := 0) (C := RX0) (T := TX0) hC hl.1 hK hX hw (by omega) h0.k0 (by decide) rfl (tX0_blown l N ad K I R st b (h0)) (lw_V q832 q834 qs18 q60 q835) (by decide +kernel) ⟨by decide, by decide⟩ rfl rfl (Nat.le_of_ble_eq_true rfl) dX0_leavesNow_1 ⟨by simp only [gN]; omega, by simp only [gN]; omega⟩ ?_
  rintro _ N2 ad2 K2 I1 R1 H locs ⟨I3, R3, e3, rfl, o1, a1, f1, g1⟩ hg hw
  cases e3
  dsimp only at o1 a1 f1 g1
  have w1 := (h0).off o1
  refine lv_astore_n (lv' := [(1, .ref (ad 17)), (0, .ref (ad 0))]) hC.1 hC.2.1 dX0_leavesNow_4 rfl hl (by decide) rfl (fun ls hl => ?_)
  refine lv_iconst (v := (nI 0)) hC.1 hC.2.1 dX0_leavesNow_5 (by decide) ?_
  refine lv_istore_n (lv' := [(2, .int (nI 0)), (1, .ref (ad 17)), (0, .ref (ad 0))]) hC.1 hC.2.1 dX0_leavesNow_6 rfl hl (by decide) rfl (fun ls hl => ?_)
  refine lv_iconst (v := (nI 0)) hC.1 hC.2.1 dX0_leavesNow_7 (by decide) ?_
  refine lv_istore_n (lv' := [(3, .int (nI 0)), (2, .int (nI 0)), (1, .ref (ad 17)), (0, .ref (ad 0))]) hC.1 hC.2.1 dX0_leavesNow_8 rfl hl (by decide) rfl (fun ls hl => ?_)
  refine W.loop (fun ls n H locs => lv_has ls 4 [(1, .ref (ad 17)), (2, .int (lvS (bl st).1 n)), (3, .int (nI n))] ∧ gw D dA (nA (List.range N) ad s.heap.size) s.heap (List.range N) ad K I1 R1 H locs ∧ (n ≤ 4)) 9 (fun _ => []) (fun n => 4 - n) ?_ 0 ⟨hl.sub' [2, 1, 0] (by rfl), hw, by omega⟩
  rintro ls n H locs ⟨hl, hw, hn⟩ ih9
  refine lv_iload_n hC.1 hC.2.1 dX0_leavesNow_9 rfl (lv_at hl 2 rfl) ?_
  refine lv_iconst (v := (nI 4)) hC.1 hC.2.1 dX0_leavesNow_10 (by decide) ?_
  refine k_ge (tgt := 29) hC (by omega) (by omega) dX0_leavesNow_11 (by decide) (fun c11 => ?_) (fun c11 => ?_)
  · have eN : 4 = n := by omega
    subst eN
    refine lv_iload_n hC.1 hC.2.1 dX0_leavesNow_29 rfl (lv_at hl 1 rfl) ?_
    exact M_iret hC hlk hw gGo.rf ⟨by simp only [gN]; omega, by simp only [gN]; omega⟩ hr rfl (⟨_, _, rfl, rfl, o1⟩) dX0_leavesNow_30
  · refine lv_iload_n hC.1 hC.2.1 dX0_leavesNow_14 rfl (lv_at hl 1 rfl) ?_
    refine lv_aload_n hC.1 hC.2.1 dX0_leavesNow_15 rfl (lv_at hl 0 rfl) ?_
    refine p_ga hC hK hw w1.p17 7 5 w1.p17.2.2.2.2.2.2 (by decide) rfl q142 rfl dX0_leavesNow_16 ?_
    refine lv_iload_n hC.1 hC.2.1 dX0_leavesNow_19 rfl (lv_at hl 2 rfl) ?_
    refine g_ldi hC hK hw w1.p17.1.2.2.2.2.2 w1.p17.2.1.2.2.2.2.2 (by omega) (by omega) (v := ((bl st).1 (16 + n))) (by rw [g1]) dX0_leavesNow_20 ?_
    refine lv_iadd hC.1 hC.2.1 dX0_leavesNow_21 ?_
    refine lv_istore_n (lv' := [(2, .int ((lvS (bl st).1 n) + ((bl st).1 (16 + n)))), (1, .ref (ad 17)), (3, .int (nI n))]) hC.1 hC.2.1 dX0_leavesNow_22 rfl hl (by decide) rfl (fun ls hl => ?_)
    refine k_iinc (k := 2) (d := 1) (lv' := [(3, .int (nI (n + 1))), (2, .int ((lvS (bl st).1 n) + ((bl st).1 (16 + n)))), (1, .ref (ad 17))]) hC dX0_leavesNow_23 hl rfl (by decide) (by decide) rfl (fun ls hl => ?_)
    refine lv_goto (tgt := 9) hC.1 hC.2.1 dX0_leavesNow_26 (by decide) ?_
    exact ih9 ls (n + 1) H locs ⟨hl.sub' [2, 1, 0] (by rfl), hw, by omega⟩ (by omega)

theorem msC_0 (st : vV) (y : Nat) : msC st y 0 = (-1000000 : Int32) := if_pos rfl
theorem gOk.g {st : vV} (h : gOk st) : ∀ y, y < 4 → ∃ g, g < 32 ∧ st (1 + y) = nI g := fun y hy => (h y hy).1

set_option maxHeartbeats 800000 in
theorem tX0_most (l : Launch) (N : Nat) (ad : Nat → Nat) (K : gK) (I : mG) (R : gR) (y : Int32) (what : Int32) (G : mG) (b : Bool) (h0 : wB N K I R (G 6) b) (h1 : G 0 4 = bI b) (h2 : gOk (G 6)) : gA l yX0_most (ws_ yX0_most cX0_most 7 (some FieldType.int)) ({ frames := 4, cells := 0, slots := 0, locals := 101 } : Room) [.ref (ad 0), .int y, .int what] N ad K I R (fun v S => v = some (.int (mX6_most G y what).1) ∧ pOff 17 I S.1 R S.2) := by
  refine gM.of (by decide) (Nat.le_of_ble_eq_true rfl) ?_
  intro D dA p e s m args below meth cd ls hC hlk hr hin hK hX hl hw
  have hl : lv_has ls 7 [(0, .ref (ad 0)), (1, .int y), (2, .int what)] := hl
  have hge := h0.ge
  obtain ⟨h, hh, eh⟩ := h0.hr
  refine lv_aload_n hC.1 hC.2.1 dX0_most_0 rfl (lv_at hl 0 rfl) ?_
  refine x_ga hC hK hw (by omega) h0.k0 4 11 h0.r4 (by decide) rfl q206 rfl dX0_most_1 ?_
  refine p_gi hC hK hw h0.ps.1 0 (by decide) rfl q124 rfl (v := (bI b)) (h0.told) dX0_most_4 ?_
  refine k_bne (tgt := 13) hC dX0_most_7 (by decide) (fun c7 => ?_) (fun c7 => ?_)
  · refine lv_iload_n hC.1 hC.2.1 dX0_most_13 rfl (lv_at hl 1 rfl) ?_
    refine pS_call (n := 1) hC hl.1 (tX0_isSide l y ) (lw_S q753 q754 q60 q755) rfl rfl (by decide +kernel) ⟨by decide, by decide⟩ rfl rfl (Nat.le_of_ble_eq_true rfl) dX0_most_14 ⟨Nat.zero_le _, Nat.zero_le _⟩ ?_
    refine k_beq (tgt := 27) hC dX0_most_17 (by decide) (fun c17 => ?_) (fun c17 => ?_)
    · refine lv_ldc hC.1 hC.2.1 hC.2.2.2.1 (hC.2.2.2.2 _ q337) dX0_most_27 ?_
      exact M_iret hC hlk hw gGo.rf ⟨by simp only [gN]; omega, by simp only [gN]; omega⟩ hr rfl (⟨_, _, rfl, congrArg (fun z => some (Value.int z)) (by simp [mX6_most, h1, bI_t0, bI_f0, inc01, inc11, inc03, inc13, inc23, inc10, inc20, inc21, c7, c17]), pOff.rf⟩) dX0_most_29
    · obtain ⟨k, hk, rfl⟩ := inB_nat (n := 3) (by decide) c17
      refine lv_iload_n hC.1 hC.2.1 dX0_most_20 rfl (lv_at hl 2 rfl) ?_
      refine pS_call (n := 1) hC hl.1 (tX0_isHalf l what ) (lw_S q847 q848 q60 q849) rfl rfl (by decide +kernel) ⟨by decide, by decide⟩ rfl rfl (Nat.le_of_ble_eq_true rfl) dX0_most_21 ⟨Nat.zero_le _, Nat.zero_le _⟩ ?_
      refine k_bne (tgt := 30) hC dX0_most_24 (by decide) (fun c24 => ?_) (fun c24 => ?_)
      · refine lv_ldc hC.1 hC.2.1 hC.2.2.2.1 (hC.2.2.2.2 _ q841) dX0_most_30 ?_
        refine lv_istore_n (lv' := [(3, .int (-1000000 : Int32)), (0, .ref (ad 0)), (1, .int (nI k)), (2, .int what)]) hC.1 hC.2.1 dX0_most_32 rfl hl (by decide) rfl (fun ls hl => ?_)
        refine lv_ldc hC.1 hC.2.1 hC.2.2.2.1 (hC.2.2.2.2 _ q841) dX0_most_33 ?_
        refine lv_istore (lv' := [(4, .int (-1000000 : Int32)), (3, .int (-1000000 : Int32)), (0, .ref (ad 0)), (1, .int (nI k)), (2, .int what)]) hC.1 hC.2.1 dX0_most_35 hl (by decide) rfl (fun ls hl => ?_)
        refine lv_iconst (v := (nI 0)) hC.1 hC.2.1 dX0_most_37 (by decide) ?_
        refine lv_istore (lv' := [(5, .int (nI 0)), (4, .int (-1000000 : Int32)), (3, .int (-1000000 : Int32)), (0, .ref (ad 0)), (1, .int (nI k)), (2, .int what)]) hC.1 hC.2.1 dX0_most_38 hl (by decide) rfl (fun ls hl => ?_)
        refine W.loop (fun ls n H locs => ∃ Ix Rx, lv_has ls 7 [(0, .ref (ad 0)), (1, .int (nI k)), (2, .int what), (3, .int ((msF (G 6) k n).1)), (4, .int (msC (G 6) k n)), (5, .int (nI n))] ∧ gw D dA (nA (List.range N) ad s.heap.size) s.heap (List.range N) ad K Ix Rx H locs ∧ (pOff 17 I Ix R Rx) ∧ (n ≤ 16)) 40 (fun _ => []) (fun n => 16 - n) ?_ 0 ⟨_, _, hl.sub' [3, 4, 5, 2, 1, 0] (by rw [msC_0]; rfl), hw, pOff.rf, by omega⟩
        rintro ls n H locs ⟨Ix, Rx, hl, hw, ox, hn⟩ ih40
        have wx := h0.off ox
        have hq := h2.g
        refine lv_iload hC.1 hC.2.1 dX0_most_40 (lv_at hl 5 rfl) ?_
        refine lv_bipush (v := (nI 16)) hC.1 hC.2.1 dX0_most_42 (by decide) ?_
        refine k_ge (tgt := 127) hC (by omega) (by omega) dX0_most_44 (by decide) (fun c44 => ?_) (fun c44 => ?_)
        · have eN : 16 = n := by omega
          subst eN
          refine lv_iload_n hC.1 hC.2.1 dX0_most_127 rfl (lv_at hl 2 rfl) ?_
          refine lv_if_ne (tgt := 135) hC.1 hC.2.1 dX0_most_128 (by decide) (fun c128 => ?_) (fun c128 => ?_)
          · refine lv_iload hC.1 hC.2.1 dX0_most_135 (lv_at hl 4 rfl) ?_
            exact M_iret hC hlk hw gGo.rf ⟨by simp only [gN]; omega, by simp only [gN]; omega⟩ hr rfl (⟨_, _, rfl, congrArg (fun z => some (Value.int z)) (by rw [(show (mX6_most G (nI k) what).1 = mostV (G 6) k what from by simp [mX6_most, h1, bI_t0, c7, c17, c24, ix_nI (show k < 2147483648 by omega)])]; unfold mostV; exact Or.elim (ms_end h2.g k) (fun e => by rw [if_pos e.1, if_pos c128]; exact e.2) (fun e => by rw [if_neg e.1]; exact e.2.2)), ox⟩) dX0_most_137
          · refine lv_iload_n hC.1 hC.2.1 dX0_most_131 rfl (lv_at hl 3 rfl) ?_
            refine lv_goto (tgt := 137) hC.1 hC.2.1 dX0_most_132 (by decide) ?_
            exact M_iret hC hlk hw gGo.rf ⟨by simp only [gN]; omega, by simp only [gN]; omega⟩ hr rfl (⟨_, _, rfl, congrArg (fun z => some (Value.int z)) (by rw [(show (mX6_most G (nI k) what).1 = mostV (G 6) k what from by simp [mX6_most, h1, bI_t0, c7, c17, c24, ix_nI (show k < 2147483648 by omega)])]; unfold mostV; exact Or.elim (ms_end h2.g k) (fun e => by rw [if_pos e.1, if_neg (not_not_intro c128)]) (fun e => by rw [if_neg e.1]; exact e.2.1)), ox⟩) dX0_most_137
        · refine lv_aload_n hC.1 hC.2.1 dX0_most_47 rfl (lv_at hl 0 rfl) ?_
          refine x_ga hC hK hw (by omega) wx.k0 4 11 wx.r4 (by decide) rfl q206 rfl dX0_most_48 ?_
          refine lv_iload hC.1 hC.2.1 dX0_most_51 (lv_at hl 5 rfl) ?_
          refine g_calli (n := 1) (C := RX2) (T := TX2) hC hl.1 hK hX hw (wx.ps.1).1.1 (wx.ps.1).2.1.1 (by decide) rfl (tX2_has l (List.range N) ad K Ix Rx 11 n (wx.ps.1) (by omega)) (lw_V q713 q644 q645 q62 q646) rfl rfl (by decide +kernel) ⟨by decide, by decide⟩ rfl rfl (Nat.le_of_ble_eq_true rfl) dX0_most_53 ⟨Nat.zero_le _, Nat.zero_le _⟩ ?_
          rintro r_2 I2 R2 H locs ⟨hr2, hS2⟩ hw
          rw [hr2]
          replace hw := hw.eq (Prod.mk.inj hS2).1 (Prod.mk.inj hS2).2
          clear hS2
          refine k_beq (tgt := 62) hC dX0_most_56 (by decide) (fun c56 => ?_) (fun c56 => ?_)
          · have ew : isWk (G 6) n = false := by rw [wx.ps.wk (by omega)]; exact c56
            refine lv_aload_n hC.1 hC.2.1 dX0_most_62 rfl (lv_at hl 0 rfl) ?_
            refine M_V (n := 0) (C := RX0) (T := TX0) hC hl.1 hK hX hw (by omega) wx.k0 (by decide) rfl (tX0_asNow l N ad K Ix Rx (G 6) b (wx)) (lw_V q836 q838 qs19 q60 q839) (by decide +kernel) ⟨by decide, by decide⟩ rfl rfl (Nat.le_of_ble_eq_true rfl) dX0_most_63 ⟨by simp only [gN]; omega, by simp only [gN]; omega⟩ ?_
            rintro _ N2 ad2 K2 I63 R63 H locs ⟨I3, R3, e3, rfl, b63, o63⟩ hg hw
            cases e3
            dsimp only at b63 o63
            have w63 := (wx).off o63
            refine lv_astore (lv' := [(6, .ref (ad 17)), (0, .ref (ad 0)), (1, .int (nI k)), (2, .int what), (3, .int ((msF (G 6) k n).1)), (4, .int (msC (G 6) k n)), (5, .int (nI n))]) hC.1 hC.2.1 dX0_most_66 hl (by decide) rfl (fun ls hl => ?_)
            refine lv_aload hC.1 hC.2.1 dX0_most_68 (lv_at hl 0 rfl) ?_
            refine p_ga hC hK hw b63.1 4 3 b63.1.2.2.2.2.1 (by decide) rfl q135 rfl dX0_most_70 ?_
            refine lv_iload hC.1 hC.2.1 dX0_most_73 (lv_at hl 6 rfl) ?_
            refine lv_aload_n hC.1 hC.2.1 dX0_most_75 rfl (lv_at hl 1 rfl) ?_
            refine x_ga hC hK hw (by omega) w63.k0 11 27 w63.r11 (by decide) rfl q213 rfl dX0_most_76 ?_
            refine lv_iload hC.1 hC.2.1 dX0_most_79 (lv_at hl 6 rfl) ?_
            refine g_ldr (t := 2) (v := .ref (ad (28 + n))) hC hK hw (List.mem_range.mpr (by omega)) w63.k27 rfl (by omega) (by omega) (by rw [(w63.tr (show n < 16 by omega)).1]; rfl) dX0_most_81 ?_
            refine g_str (t := 2) hC hK hw b63.1.1.2.2.2.1 b63.1.2.1.2.2.2.1 rfl (by omega) (by omega) (List.mem_range.mpr (by omega)) (g_any (k := 1) hK hX hw (List.mem_range.mpr (by omega)) (w63.tr (show n < 16 by omega)).2.1 ⟨by decide, by decide⟩) dX0_most_82 (fun H locs hw => ?_)
            have b82 := (b63).put (x := nI 99) (k := 1) (show n < 16 by omega) (List.mem_range.mpr (by omega)) (w63.tr (show n < 16 by omega)).2.1 (by decide) (by decide) (w63.tr (show n < 16 by omega)).2.2.1 (w63.tr (show n < 16 by omega)).2.2.2
            have o82 := ((ox.tr o63)).tr (pOff_r2 17 n I63 R63 (some (28 + n)))
            have w82 := h0.off o82
            refine lv_aload hC.1 hC.2.1 dX0_most_83 (lv_at hl 0 rfl) ?_
            refine g_callv (n := 0) (C := RX2) (T := TX2) hC hl.1 hK hX hw (b82.1).1.1 (b82.1).2.1.1 (by decide) rfl (tX2_blow l (List.range N) ad K I63 (r2 R63 (17 + 3) n (some (28 + n))) 17 (upd (upd (G 6) (9 + n) (nI 1)) (25 + n) (nI 99)) h (b82) (by rw [upd_at, if_neg (by omega), upd_at, if_neg (by omega)]; exact eh) (by omega)) (lw_V q840 q768 q769 q62 q770) rfl rfl (by decide +kernel) ⟨by decide, by decide⟩ rfl rfl (Nat.le_of_ble_eq_true rfl) dX0_most_85 ⟨Nat.zero_le _, Nat.zero_le _⟩ ?_
            rintro I2 R2 H locs hS2 hw
            replace hw := hw.eq (Prod.mk.inj hS2).1 (Prod.mk.inj hS2).2
            clear hS2
            refine lv_aload hC.1 hC.2.1 dX0_most_88 (lv_at hl 0 rfl) ?_
            refine p_ga hC hK hw b82.1 7 5 b82.1.2.2.2.2.2.2 (by decide) rfl q142 rfl dX0_most_90 ?_
            refine lv_iload_n hC.1 hC.2.1 dX0_most_93 rfl (lv_at hl 2 rfl) ?_
            refine g_ldi hC hK hw b82.1.1.2.2.2.2.2 b82.1.2.1.2.2.2.2.2 (by omega) (by omega) (v := (msV (G 6) k n)) (by rw [pFL_5]; show (bl _).1 (16 + k) = _; rw [bl_try1 (by omega)]; rfl) dX0_most_94 ?_
            refine lv_iload hC.1 hC.2.1 dX0_most_95 (lv_at hl 5 rfl) ?_
            refine lv_icmp_le (tgt := 105) hC.1 hC.2.1 dX0_most_97 (by decide) (fun c97 => ?_) (fun c97 => ?_)
            · refine lv_iload_n hC.1 hC.2.1 dX0_most_105 rfl (lv_at hl 4 rfl) ?_
              refine lv_istore_n (lv' := [(3, .int ((msF (G 6) k n).1)), (6, .ref (ad 17)), (0, .ref (ad 0)), (1, .int (nI k)), (2, .int what), (4, .int (msC (G 6) k n)), (5, .int (nI n))]) hC.1 hC.2.1 dX0_most_106 rfl hl (by decide) rfl (fun ls hl => ?_)
              refine lv_iload hC.1 hC.2.1 dX0_most_107 (lv_at hl 5 rfl) ?_
              refine lv_aload hC.1 hC.2.1 dX0_most_109 (lv_at hl 1 rfl) ?_
              refine p_ga hC hK hw b82.1 7 5 b82.1.2.2.2.2.2.2 (by decide) rfl q142 rfl dX0_most_111 ?_
              refine lv_iload_n hC.1 hC.2.1 dX0_most_114 rfl (lv_at hl 3 rfl) ?_
              refine g_ldi hC hK hw b82.1.1.2.2.2.2.2 b82.1.2.1.2.2.2.2.2 (by omega) (by omega) (v := (msV (G 6) k n)) (by rw [pFL_5]; show (bl _).1 (16 + k) = _; rw [bl_try1 (by omega)]; rfl) dX0_most_115 ?_
              refine va_mmax hC.1 hC.2.1 (hC.2.2.1.trans hl.1.symm) hC.2.2.2.1 (hC.2.2.2.2 _ q923) (hC.2.2.2.2 _ q578) (hC.2.2.2.2 _ q80) (hC.2.2.2.2 _ q579) (by decide) (by decide) (Nat.zero_le _) (Nat.zero_le _) dX0_most_116 ?_
              refine lv_istore (lv' := [(4, .int (if (msC (G 6) k n) < (msV (G 6) k n) then (msV (G 6) k n) else (msC (G 6) k n))), (3, .int ((msF (G 6) k n).1)), (6, .ref (ad 17)), (0, .ref (ad 0)), (1, .int (nI k)), (2, .int what), (5, .int (nI n))]) hC.1 hC.2.1 dX0_most_119 hl (by decide) rfl (fun ls hl => ?_)
              refine k_iinc (k := 6) (d := 1) (lv' := [(5, .int (nI (n + 1))), (4, .int (if (msC (G 6) k n) < (msV (G 6) k n) then (msV (G 6) k n) else (msC (G 6) k n))), (3, .int ((msF (G 6) k n).1)), (6, .ref (ad 17)), (0, .ref (ad 0)), (1, .int (nI k)), (2, .int what)]) hC dX0_most_121 hl rfl (by decide) (by decide) rfl (fun ls hl => ?_)
              refine lv_goto (tgt := 40) hC.1 hC.2.1 dX0_most_124 (by decide) ?_
              exact ih40 ls (n + 1) H locs ⟨_, _, hl.sub' [4, 5, 6, 2, 1, 0] (by rw [(ms_step hq (by omega) ew).1, (ms_step hq (by omega) ew).2, if_pos c97]; rfl), hw, (o82.tr (pOff_fl 17 _ _ _)), by omega⟩ (by omega)
            · refine lv_iload hC.1 hC.2.1 dX0_most_100 (lv_at hl 6 rfl) ?_
              refine lv_goto (tgt := 106) hC.1 hC.2.1 dX0_most_102 (by decide) ?_
              refine lv_istore_n (lv' := [(3, .int (nI n)), (6, .ref (ad 17)), (0, .ref (ad 0)), (1, .int (nI k)), (2, .int what), (4, .int (msC (G 6) k n)), (5, .int (nI n))]) hC.1 hC.2.1 dX0_most_106 rfl hl (by decide) rfl (fun ls hl => ?_)
              refine lv_iload hC.1 hC.2.1 dX0_most_107 (lv_at hl 5 rfl) ?_
              refine lv_aload hC.1 hC.2.1 dX0_most_109 (lv_at hl 1 rfl) ?_
              refine p_ga hC hK hw b82.1 7 5 b82.1.2.2.2.2.2.2 (by decide) rfl q142 rfl dX0_most_111 ?_
              refine lv_iload_n hC.1 hC.2.1 dX0_most_114 rfl (lv_at hl 3 rfl) ?_
              refine g_ldi hC hK hw b82.1.1.2.2.2.2.2 b82.1.2.1.2.2.2.2.2 (by omega) (by omega) (v := (msV (G 6) k n)) (by rw [pFL_5]; show (bl _).1 (16 + k) = _; rw [bl_try1 (by omega)]; rfl) dX0_most_115 ?_
              refine va_mmax hC.1 hC.2.1 (hC.2.2.1.trans hl.1.symm) hC.2.2.2.1 (hC.2.2.2.2 _ q923) (hC.2.2.2.2 _ q578) (hC.2.2.2.2 _ q80) (hC.2.2.2.2 _ q579) (by decide) (by decide) (Nat.zero_le _) (Nat.zero_le _) dX0_most_116 ?_
              refine lv_istore (lv' := [(4, .int (if (msC (G 6) k n) < (msV (G 6) k n) then (msV (G 6) k n) else (msC (G 6) k n))), (3, .int (nI n)), (6, .ref (ad 17)), (0, .ref (ad 0)), (1, .int (nI k)), (2, .int what), (5, .int (nI n))]) hC.1 hC.2.1 dX0_most_119 hl (by decide) rfl (fun ls hl => ?_)
              refine k_iinc (k := 6) (d := 1) (lv' := [(5, .int (nI (n + 1))), (4, .int (if (msC (G 6) k n) < (msV (G 6) k n) then (msV (G 6) k n) else (msC (G 6) k n))), (3, .int (nI n)), (6, .ref (ad 17)), (0, .ref (ad 0)), (1, .int (nI k)), (2, .int what)]) hC dX0_most_121 hl rfl (by decide) (by decide) rfl (fun ls hl => ?_)
              refine lv_goto (tgt := 40) hC.1 hC.2.1 dX0_most_124 (by decide) ?_
              exact ih40 ls (n + 1) H locs ⟨_, _, hl.sub' [4, 5, 6, 2, 1, 0] (by rw [(ms_step hq (by omega) ew).1, (ms_step hq (by omega) ew).2, if_neg c97]; rfl), hw, (o82.tr (pOff_fl 17 _ _ _)), by omega⟩ (by omega)
          · have ew : isWk (G 6) n = true := by rw [wx.ps.wk (by omega)]; exact c56
            refine lv_goto (tgt := 121) hC.1 hC.2.1 dX0_most_59 (by decide) ?_
            refine k_iinc (k := 5) (d := 1) (lv' := [(5, .int (nI (n + 1))), (0, .ref (ad 0)), (1, .int (nI k)), (2, .int what), (3, .int ((msF (G 6) k n).1)), (4, .int (msC (G 6) k n))]) hC dX0_most_121 hl rfl (by decide) (by decide) rfl (fun ls hl => ?_)
            refine lv_goto (tgt := 40) hC.1 hC.2.1 dX0_most_124 (by decide) ?_
            exact ih40 ls (n + 1) H locs ⟨_, _, hl.sub' [1, 2, 3, 4, 5, 0] (by rw [← (ms_wk ew).1, ← (ms_wk ew).2]; rfl), hw, ox, by omega⟩ (by omega)
      · refine lv_ldc hC.1 hC.2.1 hC.2.2.2.1 (hC.2.2.2.2 _ q337) dX0_most_27 ?_
        exact M_iret hC hlk hw gGo.rf ⟨by simp only [gN]; omega, by simp only [gN]; omega⟩ hr rfl (⟨_, _, rfl, congrArg (fun z => some (Value.int z)) (by simp [mX6_most, h1, bI_t0, bI_f0, inc01, inc11, inc03, inc13, inc23, inc10, inc20, inc21, c7, c17, c24, ix_nI (show k < 2147483648 by omega)]), pOff.rf⟩) dX0_most_29
  · refine lv_ldc hC.1 hC.2.1 hC.2.2.2.1 (hC.2.2.2.2 _ q703) dX0_most_10 ?_
    exact M_iret hC hlk hw gGo.rf ⟨by simp only [gN]; omega, by simp only [gN]; omega⟩ hr rfl (⟨_, _, rfl, congrArg (fun z => some (Value.int z)) (by simp [mX6_most, h1, bI_t0, bI_f0, inc01, inc11, inc03, inc13, inc23, inc10, inc20, inc21, c7]), pOff.rf⟩) dX0_most_12

set_option maxHeartbeats 800000 in
theorem tX0_standsBy (l : Launch) (N : Nat) (ad : Nat → Nat) (K : gK) (I : mG) (R : gR) (t : Nat) (st : vV) (b : Bool) (it : vV) (o : Nat) (h0 : wB N K I R st b) (h1 : t < N) (h2 : K t = (20, 16)) (h3 : t < 17 ∨ 23 ≤ t) (h4 : ∀ c, c < 16 → I t c = it (o + c)) : gA l yX0_standsBy (ws_ yX0_standsBy cX0_standsBy 5 (some FieldType.int)) ({ frames := 5, cells := 0, slots := 0, locals := 113 } : Room) [.ref (ad 0), .ref (ad t)] N ad K I R (fun v S => v = some (.int (nI (sdV it st o))) ∧ pOff 17 I S.1 R S.2) := by
  refine gM.of (by decide) (Nat.le_of_ble_eq_true rfl) ?_
  intro D dA p e s m args below meth cd ls hC hlk hr hin hK hX hl hw
  have hl : lv_has ls 5 [(0, .ref (ad 0)), (1, .ref (ad t))] := hl
  have hge := h0.ge
  obtain ⟨h, hh, eh⟩ := h0.hr
  refine lv_aload_n hC.1 hC.2.1 dX0_standsBy_0 rfl (lv_at hl 0 rfl) ?_
  refine M_V (n := 0) (C := RX0) (T := TX0) hC hl.1 hK hX hw (by omega) h0.k0 (by decide) rfl (tX0_asNow l N ad K I R st b (h0)) (lw_V q836 q838 qs19 q60 q839) (by decide +kernel) ⟨by decide, by decide⟩ rfl rfl (Nat.le_of_ble_eq_true rfl) dX0_standsBy_1 ⟨by simp only [gN]; omega, by simp only [gN]; omega⟩ ?_
  rintro _ N2 ad2 K2 I1 R1 H locs ⟨I3, R3, e3, rfl, b1, o1⟩ hg hw
  cases e3
  dsimp only at b1 o1
  have w1 := (h0).off o1
  refine lv_astore_n (lv' := [(2, .ref (ad 17)), (0, .ref (ad 0)), (1, .ref (ad t))]) hC.1 hC.2.1 dX0_standsBy_4 rfl hl (by decide) rfl (fun ls hl => ?_)
  refine lv_iconst (v := (nI 0)) hC.1 hC.2.1 dX0_standsBy_5 (by decide) ?_
  refine lv_istore_n (lv' := [(3, .int (nI 0)), (2, .ref (ad 17)), (0, .ref (ad 0)), (1, .ref (ad t))]) hC.1 hC.2.1 dX0_standsBy_6 rfl hl (by decide) rfl (fun ls hl => ?_)
  refine W.loop (fun ls d H locs => ∃ Ix Rx, lv_has ls 5 [(0, .ref (ad 0)), (1, .ref (ad t)), (2, .ref (ad 17)), (3, .int (nI d))] ∧ gw D dA (nA (List.range N) ad s.heap.size) s.heap (List.range N) ad K Ix Rx H locs ∧ (pOff 17 I Ix R Rx) ∧ (psR (List.range N) K Ix Rx 17 (stN st d)) ∧ (d ≤ 40) ∧ (fstP (sdE it st o) 40 0 = fstP (sdE it st o) (40 - d) d)) 7 (fun _ => []) (fun d => 40 - d) ?_ 0 ⟨_, _, hl.sub' [2, 3, 1, 0] (by rfl), hw, o1, b1, by omega, rfl⟩
  rintro ls d H locs ⟨Ix, Rx, hl, hw, ox, bx, hd, hE⟩ ih7
  have wx := h0.off ox
  refine lv_iload_n hC.1 hC.2.1 dX0_standsBy_7 rfl (lv_at hl 3 rfl) ?_
  refine lv_bipush (v := (nI 40)) hC.1 hC.2.1 dX0_standsBy_8 (by decide) ?_
  refine k_ge (tgt := 60) hC (by omega) (by omega) dX0_standsBy_10 (by decide) (fun c10 => ?_) (fun c10 => ?_)
  · refine lv_bipush (v := (nI 40)) hC.1 hC.2.1 dX0_standsBy_60 (by decide) ?_
    exact M_iret hC hlk hw gGo.rf ⟨by simp only [gN]; omega, by simp only [gN]; omega⟩ hr rfl (⟨_, _, rfl, congrArg (fun z => some (Value.int z)) (by unfold sdV; rw [fst_end hE (by omega)]; rfl), ox⟩) dX0_standsBy_62
  · refine lv_aload_n hC.1 hC.2.1 dX0_standsBy_13 rfl (lv_at hl 2 rfl) ?_
    refine g_callv (n := 0) (C := RX2) (T := TX2) hC hl.1 hK hX hw (bx.1).1.1 (bx.1).2.1.1 (by decide) rfl (tX2_blow l (List.range N) ad K Ix Rx 17 (stN st d) (h + d) (bx) (stN_hr eh d) (by omega)) (lw_V q840 q768 q769 q62 q770) rfl rfl (by decide +kernel) ⟨by decide, by decide⟩ rfl rfl (Nat.le_of_ble_eq_true rfl) dX0_standsBy_14 ⟨Nat.zero_le _, Nat.zero_le _⟩ ?_
    rintro I2 R2 H locs hS2 hw
    replace hw := hw.eq (Prod.mk.inj hS2).1 (Prod.mk.inj hS2).2
    clear hS2
    refine lv_iconst (v := (nI 0)) hC.1 hC.2.1 dX0_standsBy_17 (by decide) ?_
    refine lv_istore (lv' := [(4, .int (nI 0)), (0, .ref (ad 0)), (1, .ref (ad t)), (2, .ref (ad 17)), (3, .int (nI d))]) hC.1 hC.2.1 dX0_standsBy_18 hl (by decide) rfl (fun ls hl => ?_)
    refine W.loop (fun ls c H locs => lv_has ls 5 [(0, .ref (ad 0)), (1, .ref (ad t)), (2, .ref (ad 17)), (3, .int (nI d)), (4, .int (nI c))] ∧ gw D dA (nA (List.range N) ad s.heap.size) s.heap (List.range N) ad K (pFL Ix 17 (bl (stN st d))) Rx H locs ∧ (c ≤ 16) ∧ (allB (sdP it st o d) c = true)) 20 (fun _ => []) (fun c => 16 - c) ?_ 0 ⟨hl.sub' [1, 2, 3, 4, 0] (by rfl), hw, by omega, rfl⟩
    rintro ls c H locs ⟨hl, hw, hc, hA⟩ ih20
    refine lv_iload hC.1 hC.2.1 dX0_standsBy_20 (lv_at hl 4 rfl) ?_
    refine lv_bipush (v := (nI 16)) hC.1 hC.2.1 dX0_standsBy_22 (by decide) ?_
    refine k_ge (tgt := 49) hC (by omega) (by omega) dX0_standsBy_24 (by decide) (fun c24 => ?_) (fun c24 => ?_)
    · have eN : 16 = c := by omega
      subst eN
      refine lv_aload_n hC.1 hC.2.1 dX0_standsBy_49 rfl (lv_at hl 2 rfl) ?_
      refine g_calli (n := 0) (C := RX2) (T := TX2) hC hl.1 hK hX hw (bx.1).1.1 (bx.1).2.1.1 (by decide) rfl (tX2_goOn l (List.range N) ad K (pFL Ix 17 (bl (stN st d))) Rx 17 (stN st d) (h + d) (bx.fl _) (stN_hr eh d) (by omega)) (lw_V q763 q764 q765 q62 q766) rfl rfl (by decide +kernel) ⟨by decide, by decide⟩ rfl rfl (Nat.le_of_ble_eq_true rfl) dX0_standsBy_50 ⟨Nat.zero_le _, Nat.zero_le _⟩ ?_
      rintro r50 I50 R50 H locs ⟨e50, b50, q50, t50⟩ hw
      dsimp only at b50 q50 t50
      have w50 := (((wx).off (pOff_fl 17 _ _ _))).off q50
      refine lv_pop hC.1 hC.2.1 dX0_standsBy_53 rfl ?_
      refine k_iinc (k := 3) (d := 1) (lv' := [(3, .int (nI (d + 1))), (0, .ref (ad 0)), (1, .ref (ad t)), (2, .ref (ad 17)), (4, .int (nI 16))]) hC dX0_standsBy_54 hl rfl (by decide) (by decide) rfl (fun ls hl => ?_)
      refine lv_goto (tgt := 7) hC.1 hC.2.1 dX0_standsBy_57 (by decide) ?_
      exact ih7 ls (d + 1) H locs ⟨_, _, hl.sub' [1, 2, 3, 0] (by rfl), hw, (ox.tr (pOff_fl 17 _ _ _)).tr q50, by rw [← stN_s]; exact b50, by omega, fst_next hE (by omega) (sd_t hA)⟩ (by omega)
    · refine lv_aload_n hC.1 hC.2.1 dX0_standsBy_27 rfl (lv_at hl 2 rfl) ?_
      refine p_ga hC hK hw bx.1 6 4 bx.1.2.2.2.2.2.1 (by decide) rfl q140 rfl dX0_standsBy_28 ?_
      refine lv_iload hC.1 hC.2.1 dX0_standsBy_31 (lv_at hl 4 rfl) ?_
      refine g_ldi hC hK hw bx.1.1.2.2.2.2.1 bx.1.2.1.2.2.2.2.1 (by omega) (by omega) (v := ((bl (stN st d)).1 c)) (by rw [pFL_4]) dX0_standsBy_33 ?_
      refine lv_aload_n hC.1 hC.2.1 dX0_standsBy_34 rfl (lv_at hl 1 rfl) ?_
      refine lv_iload hC.1 hC.2.1 dX0_standsBy_35 (lv_at hl 4 rfl) ?_
      refine g_ldi hC hK hw (List.mem_range.mpr h1) h2 (by omega) (by omega) (v := (it (o + c))) (by rw [pFL_ne _ _ _ (by omega) (by omega) (by omega), (ox.1 t (by omega)).1]; exact h4 c (by omega)) dX0_standsBy_37 ?_
      refine lv_icmp_eq (tgt := 43) hC.1 hC.2.1 dX0_standsBy_38 (by decide) (fun c38 => ?_) (fun c38 => ?_)
      · refine k_iinc (k := 4) (d := 1) (lv' := [(4, .int (nI (c + 1))), (0, .ref (ad 0)), (1, .ref (ad t)), (2, .ref (ad 17)), (3, .int (nI d))]) hC dX0_standsBy_43 hl rfl (by decide) (by decide) rfl (fun ls hl => ?_)
        refine lv_goto (tgt := 20) hC.1 hC.2.1 dX0_standsBy_46 (by decide) ?_
        exact ih20 ls (c + 1) H locs ⟨hl.sub' [1, 2, 3, 4, 0] (by rfl), hw, by omega, all_t hA (decide_eq_true c38.symm)⟩ (by omega)
      · refine lv_iload_n hC.1 hC.2.1 dX0_standsBy_41 rfl (lv_at hl 3 rfl) ?_
        exact M_iret hC hlk hw gGo.rf ⟨by simp only [gN]; omega, by simp only [gN]; omega⟩ hr rfl (⟨_, _, rfl, congrArg (fun z => some (Value.int z)) (by unfold sdV; rw [fst_hit hE (by omega) (sd_f (allB_f (c := c) (decide_eq_false (fun z => c38 z.symm)) 16 (by omega)))]; rfl), (ox.tr (pOff_fl 17 _ _ _))⟩) dX0_standsBy_42

theorem psR.cleared {dom : List Nat} {K : gK} {I : mG} {R : gR} {u a : Nat} {st : vV} (h : psR dom K I R u st) (ha : a < 16) : psR dom K (g2 I u 5 (opC (I u 5) a)) (r2 R (u + 3) a none) u (clr st a) := by
  obtain ⟨p1, p2, p3, p4⟩ := h
  have e0 : ∀ j, j < 9 → clr st a j = st j := fun j hj => by
    show upd (upd (upd st (9 + a) (nI 0)) (25 + a) (nI 0)) (41 + a) (nI 0) j = _
    rw [upd_at, if_neg (by omega), upd_at, if_neg (by omega), upd_at, if_neg (by omega)]
  refine ⟨p1.r2 (by omega), ?_, fun y hy => ?_, fun c hc => ?_⟩
  · rw [g2_s, upd_at, if_neg (by decide), e0 _ (by omega)]; exact p2
  · rw [g2_ne _ _ _ (by omega), g2_ne _ _ _ (by omega), e0 _ (by omega), e0 _ (by omega)]; exact p3 y hy
  · obtain ⟨g1, g2, g3, g4⟩ := p4 c hc
    rw [g2_s, upd_at, if_pos rfl, has_opC (by omega) (by omega), g1]
    by_cases hca : c = a
    · subst hca
      have e9 : clr st c (9 + c) = nI 0 := by
        show upd (upd (upd st (9 + c) (nI 0)) (25 + c) (nI 0)) (41 + c) (nI 0) (9 + c) = _
        rw [upd_at, if_neg (by omega), upd_at, if_neg (by omega), upd_at, if_pos rfl]
      have e41 : clr st c (41 + c) = nI 0 := by
        show upd (upd (upd st (9 + c) (nI 0)) (25 + c) (nI 0)) (41 + c) (nI 0) (41 + c) = _
        rw [upd_at, if_pos rfl]
      rw [e41]
      refine ⟨by simp [show ¬ nI 0 = nI 1 by decide], Or.inl rfl, fun _ => rfl, Or.inl ⟨?_, e9⟩⟩
      unfold _root_.Jvm.Pilot.CWindCarverLaw_law_r1084_15bd83.r2
      rw [va_up_self, va_up_self]
    · have e : ∀ j, j ≠ 9 + a → j ≠ 25 + a → j ≠ 41 + a → clr st a j = st j := fun j h1 h2 h3 => by
        show upd (upd (upd st (9 + a) (nI 0)) (25 + a) (nI 0)) (41 + a) (nI 0) j = _
        rw [upd_at, if_neg h3, upd_at, if_neg h2, upd_at, if_neg h1]
      have eR : r2 R (u + 3) a none (u + 3) c = R (u + 3) c := by unfold _root_.Jvm.Pilot.CWindCarverLaw_law_r1084_15bd83.r2; rw [va_up_self, va_up_ne _ _ hca]
      rw [e (41 + c) (by omega) (by omega) (by omega), e (9 + c) (by omega) (by omega) (by omega), eR]
      refine ⟨by simp [hca], g2, g3, ?_⟩
      rcases g4 with ⟨z1, z2⟩ | ⟨w, k, z1, z2, z3, z4, z5, z6, z7, z8⟩
      · exact Or.inl ⟨z1, by rw [e (9 + c) (by omega) (by omega) (by omega)]; exact z2⟩
      · have hw := p1.wk z5 z3 z4
        exact Or.inr ⟨w, k, z1, z2, z3, z4, z5, by rw [e (9 + c) (by omega) (by omega) (by omega)]; exact z6, by rw [g2_ne _ _ _ (by omega)]; exact z7, by rw [g2_ne _ _ _ (by omega), e (25 + c) (by omega) (by omega) (by omega)]; exact z8⟩
theorem pOff_clr (u i : Nat) (I : mG) (R : gR) (x : Int32) : pOff u I (g2 I u 5 x) R (r2 R (u + 3) i none) := ⟨fun n hn => ⟨g2_ne _ _ _ (by omega), va_up_ne _ _ (by omega)⟩, fun n hn => va_up_ne _ _ hn⟩
theorem clr_0 (st : vV) (a : Nat) : clr st a 0 = st 0 := by
  show upd (upd (upd st (9 + a) (nI 0)) (25 + a) (nI 0)) (41 + a) (nI 0) 0 = _
  rw [upd_at, if_neg (by omega), upd_at, if_neg (by omega), upd_at, if_neg (by omega)]
theorem ltF_0 (st : vV) (c s : Int32) : ∀ x, (ltF st c s x).2.2 0 = st 0
  | 0 => rfl
  | x + 1 => by
    have ih := ltF_0 st c s x
    have hs : ltF st c s (x + 1) = if isWk (ltF st c s x).2.2 x = true then ((ltF st c s x).1 * (if hasB s (nI (ltF st c s x).2.1) = true then c else nI 10 - c), (ltF st c s x).2.1 + 1, if hasB s (nI (ltF st c s x).2.1) = true then clr (ltF st c s x).2.2 x else (ltF st c s x).2.2) else ltF st c s x := rfl
    rw [hs]
    split
    · dsimp only
      split
      · rw [clr_0]; exact ih
      · exact ih
    · exact ih

set_option maxHeartbeats 800000 in
theorem tX0_isFelt (l : Launch) (N : Nat) (ad : Nat → Nat) (K : gK) (I : mG) (R : gR) (cell : Nat) (v : Int32) (g : Nat) (st : vV) (b : Bool) (c : Int32) (h0 : wB N K I R st b) (h1 : cell < 16) : gA l yX0_isFelt (ws_ yX0_isFelt cX0_isFelt 7 (some FieldType.boolean)) ({ frames := 4, cells := 0, slots := 0, locals := 101 } : Room) [.ref (ad 0), .int (nI cell), .int v, .int (nI g)] N ad K I R (fun rv S => rv = some (.int (bI (decide (¬ (bl (ltF st c (nI g) 16).2.2).1 cell < v)))) ∧ pOff 17 I S.1 R S.2) := by
  refine gM.of (by decide) (Nat.le_of_ble_eq_true rfl) ?_
  intro D dA p e s m args below meth cd ls hC hlk hr hin hK hX hl hw
  have hl : lv_has ls 7 [(0, .ref (ad 0)), (1, .int (nI cell)), (2, .int v), (3, .int (nI g))] := hl
  have hge := h0.ge
  obtain ⟨h, hh, eh⟩ := h0.hr
  refine lv_aload_n hC.1 hC.2.1 dX0_isFelt_0 rfl (lv_at hl 0 rfl) ?_
  refine M_V (n := 0) (C := RX0) (T := TX0) hC hl.1 hK hX hw (by omega) h0.k0 (by decide) rfl (tX0_asNow l N ad K I R st b (h0)) (lw_V q836 q838 qs19 q60 q839) (by decide +kernel) ⟨by decide, by decide⟩ rfl rfl (Nat.le_of_ble_eq_true rfl) dX0_isFelt_1 ⟨by simp only [gN]; omega, by simp only [gN]; omega⟩ ?_
  rintro _ N2 ad2 K2 I1 R1 H locs ⟨I3, R3, e3, rfl, b1, o1⟩ hg hw
  cases e3
  dsimp only at b1 o1
  have w1 := (h0).off o1
  refine lv_astore (lv' := [(4, .ref (ad 17)), (0, .ref (ad 0)), (1, .int (nI cell)), (2, .int v), (3, .int (nI g))]) hC.1 hC.2.1 dX0_isFelt_4 hl (by decide) rfl (fun ls hl => ?_)
  refine lv_iconst (v := (nI 0)) hC.1 hC.2.1 dX0_isFelt_6 (by decide) ?_
  refine lv_istore (lv' := [(5, .int (nI 0)), (4, .ref (ad 17)), (0, .ref (ad 0)), (1, .int (nI cell)), (2, .int v), (3, .int (nI g))]) hC.1 hC.2.1 dX0_isFelt_7 hl (by decide) rfl (fun ls hl => ?_)
  refine lv_iconst (v := (nI 0)) hC.1 hC.2.1 dX0_isFelt_9 (by decide) ?_
  refine lv_istore (lv' := [(6, .int (nI 0)), (5, .int (nI 0)), (4, .ref (ad 17)), (0, .ref (ad 0)), (1, .int (nI cell)), (2, .int v), (3, .int (nI g))]) hC.1 hC.2.1 dX0_isFelt_10 hl (by decide) rfl (fun ls hl => ?_)
  refine W.loop (fun ls x H locs => ∃ Ix Rx, lv_has ls 7 [(0, .ref (ad 0)), (1, .int (nI cell)), (2, .int v), (3, .int (nI g)), (4, .ref (ad 17)), (5, .int (nI ((ltF st c (nI g) x).2.1))), (6, .int (nI x))] ∧ gw D dA (nA (List.range N) ad s.heap.size) s.heap (List.range N) ad K Ix Rx H locs ∧ (pOff 17 I Ix R Rx) ∧ (psR (List.range N) K Ix Rx 17 (ltF st c (nI g) x).2.2) ∧ (x ≤ 16)) 12 (fun _ => []) (fun x => 16 - x) ?_ 0 ⟨_, _, hl.sub' [3, 4, 5, 6, 2, 1, 0] (by rfl), hw, o1, b1, by omega⟩
  rintro ls x H locs ⟨Ix, Rx, hl, hw, ox, bx, hx⟩ ih12
  have wx := h0.off ox
  have hk := ltk_le st c (nI g) x
  refine lv_iload hC.1 hC.2.1 dX0_isFelt_12 (lv_at hl 6 rfl) ?_
  refine lv_bipush (v := (nI 16)) hC.1 hC.2.1 dX0_isFelt_14 (by decide) ?_
  refine k_ge (tgt := 59) hC (by omega) (by omega) dX0_isFelt_16 (by decide) (fun c16 => ?_) (fun c16 => ?_)
  · have eN : 16 = x := by omega
    subst eN
    refine lv_aload hC.1 hC.2.1 dX0_isFelt_59 (lv_at hl 4 rfl) ?_
    refine g_callv (n := 0) (C := RX2) (T := TX2) hC hl.1 hK hX hw (bx.1).1.1 (bx.1).2.1.1 (by decide) rfl (tX2_blow l (List.range N) ad K Ix Rx 17 ((ltF st c (nI g) 16).2.2) h (bx) (by rw [ltF_0]; exact eh) (by omega)) (lw_V q840 q768 q769 q62 q770) rfl rfl (by decide +kernel) ⟨by decide, by decide⟩ rfl rfl (Nat.le_of_ble_eq_true rfl) dX0_isFelt_61 ⟨Nat.zero_le _, Nat.zero_le _⟩ ?_
    rintro I2 R2 H locs hS2 hw
    replace hw := hw.eq (Prod.mk.inj hS2).1 (Prod.mk.inj hS2).2
    clear hS2
    refine lv_aload hC.1 hC.2.1 dX0_isFelt_64 (lv_at hl 4 rfl) ?_
    refine p_ga hC hK hw bx.1 6 4 bx.1.2.2.2.2.2.1 (by decide) rfl q140 rfl dX0_isFelt_66 ?_
    refine lv_iload_n hC.1 hC.2.1 dX0_isFelt_69 rfl (lv_at hl 1 rfl) ?_
    refine g_ldi hC hK hw bx.1.1.2.2.2.2.1 bx.1.2.1.2.2.2.2.1 (by omega) (by omega) (v := ((bl (ltF st c (nI g) 16).2.2).1 cell)) (by rw [pFL_4]) dX0_isFelt_70 ?_
    refine lv_iload_n hC.1 hC.2.1 dX0_isFelt_71 rfl (lv_at hl 2 rfl) ?_
    refine lv_icmp_lt (tgt := 79) hC.1 hC.2.1 dX0_isFelt_72 (by decide) (fun c72 => ?_) (fun c72 => ?_)
    · refine lv_iconst (v := (nI 0)) hC.1 hC.2.1 dX0_isFelt_79 (by decide) ?_
      exact M_iret hC hlk hw gGo.rf ⟨by simp only [gN]; omega, by simp only [gN]; omega⟩ hr rfl (⟨_, _, rfl, congrArg (fun z => some (Value.int z)) (bI_of_f (decide_eq_false (not_not_intro c72))), ox.tr (pOff_fl 17 _ _ _)⟩) dX0_isFelt_80
    · refine lv_iconst (v := (nI 1)) hC.1 hC.2.1 dX0_isFelt_75 (by decide) ?_
      refine lv_goto (tgt := 80) hC.1 hC.2.1 dX0_isFelt_76 (by decide) ?_
      exact M_iret hC hlk hw gGo.rf ⟨by simp only [gN]; omega, by simp only [gN]; omega⟩ hr rfl (⟨_, _, rfl, congrArg (fun z => some (Value.int z)) (bI_of_t (decide_eq_true c72)), ox.tr (pOff_fl 17 _ _ _)⟩) dX0_isFelt_80
  · refine lv_aload_n hC.1 hC.2.1 dX0_isFelt_19 rfl (lv_at hl 0 rfl) ?_
    refine x_ga hC hK hw (by omega) wx.k0 4 11 wx.r4 (by decide) rfl q206 rfl dX0_isFelt_20 ?_
    refine lv_iload hC.1 hC.2.1 dX0_isFelt_23 (lv_at hl 6 rfl) ?_
    refine g_calli (n := 1) (C := RX2) (T := TX2) hC hl.1 hK hX hw (wx.ps.1).1.1 (wx.ps.1).2.1.1 (by decide) rfl (tX2_has l (List.range N) ad K Ix Rx 11 x (wx.ps.1) (by omega)) (lw_V q713 q644 q645 q62 q646) rfl rfl (by decide +kernel) ⟨by decide, by decide⟩ rfl rfl (Nat.le_of_ble_eq_true rfl) dX0_isFelt_25 ⟨Nat.zero_le _, Nat.zero_le _⟩ ?_
    rintro r_2 I2 R2 H locs ⟨hr2, hS2⟩ hw
    rw [hr2]
    replace hw := hw.eq (Prod.mk.inj hS2).1 (Prod.mk.inj hS2).2
    clear hS2
    refine k_bne (tgt := 34) hC dX0_isFelt_28 (by decide) (fun c28 => ?_) (fun c28 => ?_)
    · have ew : isWk (ltF st c (nI g) x).2.2 x = true := by rw [lt_wk (by omega), wx.ps.wk (by omega)]; exact c28
      refine lv_iload_n hC.1 hC.2.1 dX0_isFelt_34 rfl (lv_at hl 3 rfl) ?_
      refine lv_iload hC.1 hC.2.1 dX0_isFelt_35 (lv_at hl 5 rfl) ?_
      refine pS_call (n := 2) hC hl.1 (tX0_has l (nI g) (nI ((ltF st c (nI g) x).2.1)) ) (lw_S q929 q776 q60 q777) rfl rfl (by decide +kernel) ⟨by decide, by decide⟩ rfl rfl (Nat.le_of_ble_eq_true rfl) dX0_isFelt_37 ⟨Nat.zero_le _, Nat.zero_le _⟩ ?_
      refine k_beq (tgt := 50) hC dX0_isFelt_40 (by decide) (fun c40 => ?_) (fun c40 => ?_)
      · refine k_iinc (k := 5) (d := 1) (lv' := [(5, .int (nI (((ltF st c (nI g) x).2.1) + 1))), (0, .ref (ad 0)), (1, .int (nI cell)), (2, .int v), (3, .int (nI g)), (4, .ref (ad 17)), (6, .int (nI x))]) hC dX0_isFelt_50 hl rfl (by decide) (by decide) rfl (fun ls hl => ?_)
        refine k_iinc (k := 6) (d := 1) (lv' := [(6, .int (nI (x + 1))), (5, .int (nI (((ltF st c (nI g) x).2.1) + 1))), (0, .ref (ad 0)), (1, .int (nI cell)), (2, .int v), (3, .int (nI g)), (4, .ref (ad 17))]) hC dX0_isFelt_53 hl rfl (by decide) (by decide) rfl (fun ls hl => ?_)
        refine lv_goto (tgt := 12) hC.1 hC.2.1 dX0_isFelt_56 (by decide) ?_
        exact ih12 ls (x + 1) H locs ⟨_, _, hl.sub' [2, 3, 4, 5, 6, 1, 0] (by rw [lt_n ew c40]; rfl), hw, ox, by rw [lt_n ew c40]; exact bx, by omega⟩ (by omega)
      · refine lv_aload hC.1 hC.2.1 dX0_isFelt_43 (lv_at hl 4 rfl) ?_
        refine lv_iload hC.1 hC.2.1 dX0_isFelt_45 (lv_at hl 6 rfl) ?_
        refine g_callv (n := 1) (C := RX2) (T := TX2) hC hl.1 hK hX hw (bx.1).1.1 (bx.1).2.1.1 (by decide) rfl (tX2_clear l (List.range N) ad K Ix Rx 17 x (bx.1) (by omega)) (lw_V q723 q724 q725 q62 q726) rfl rfl (by decide +kernel) ⟨by decide, by decide⟩ rfl rfl (Nat.le_of_ble_eq_true rfl) dX0_isFelt_47 ⟨Nat.zero_le _, Nat.zero_le _⟩ ?_
        rintro I2 R2 H locs hS2 hw
        replace hw := hw.eq (Prod.mk.inj hS2).1 (Prod.mk.inj hS2).2
        have b47 := bx.cleared (a := x) (by omega)
        have o47 := ox.tr (pOff_clr 17 x Ix Rx (opC (Ix 17 5) x))
        have w47 := h0.off o47
        refine k_iinc (k := 5) (d := 1) (lv' := [(5, .int (nI (((ltF st c (nI g) x).2.1) + 1))), (0, .ref (ad 0)), (1, .int (nI cell)), (2, .int v), (3, .int (nI g)), (4, .ref (ad 17)), (6, .int (nI x))]) hC dX0_isFelt_50 hl rfl (by decide) (by decide) rfl (fun ls hl => ?_)
        refine k_iinc (k := 6) (d := 1) (lv' := [(6, .int (nI (x + 1))), (5, .int (nI (((ltF st c (nI g) x).2.1) + 1))), (0, .ref (ad 0)), (1, .int (nI cell)), (2, .int v), (3, .int (nI g)), (4, .ref (ad 17))]) hC dX0_isFelt_53 hl rfl (by decide) (by decide) rfl (fun ls hl => ?_)
        refine lv_goto (tgt := 12) hC.1 hC.2.1 dX0_isFelt_56 (by decide) ?_
        exact ih12 ls (x + 1) H locs ⟨_, _, hl.sub' [2, 3, 4, 5, 6, 1, 0] (by rw [lt_y ew c40]; rfl), hw, o47, by rw [lt_y ew c40]; exact b47, by omega⟩ (by omega)
    · have ew : isWk (ltF st c (nI g) x).2.2 x = false := by rw [lt_wk (by omega), wx.ps.wk (by omega)]; exact c28
      refine lv_goto (tgt := 53) hC.1 hC.2.1 dX0_isFelt_31 (by decide) ?_
      refine k_iinc (k := 6) (d := 1) (lv' := [(6, .int (nI (x + 1))), (0, .ref (ad 0)), (1, .int (nI cell)), (2, .int v), (3, .int (nI g)), (4, .ref (ad 17)), (5, .int (nI ((ltF st c (nI g) x).2.1)))]) hC dX0_isFelt_53 hl rfl (by decide) (by decide) rfl (fun ls hl => ?_)
      refine lv_goto (tgt := 12) hC.1 hC.2.1 dX0_isFelt_56 (by decide) ?_
      exact ih12 ls (x + 1) H locs ⟨_, _, hl.sub' [1, 2, 3, 4, 5, 6, 0] (by rw [lt_no ew]; rfl), hw, ox, by rw [lt_no ew]; exact bx, by omega⟩ (by omega)
