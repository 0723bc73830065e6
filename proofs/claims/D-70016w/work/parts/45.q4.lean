/-! ===== WindCarver: walls, most, leavesNow, standsBy (by gen/w45.py) ===== -/
theorem fst_lt {P : Nat → Bool} : ∀ (n s a : Nat), fstP P n s = some a → a < n + s
  | 0, s, a, h => by cases h
  | n + 1, s, a, h => by
    unfold fstP at h
    split at h
    · cases h; omega
    · have := fst_lt n (s + 1) a h
      omega
theorem nI_neN {n : Nat} (h : n < 2 ^ 31) : ¬ nI n = (-1000000 : Int32) := by
  intro e
  have := congrArg Int32.toInt e
  rw [nI_toInt h, show (-1000000 : Int32).toInt = -1000000 by decide] at this
  omega
theorem in3 {k : Int32} (h : inB k (-1) (nI 1) = true) : k = -1 ∨ k = nI 0 ∨ k = nI 1 := by
  simp only [inB, Bool.and_eq_true, decide_eq_true_eq, Int32.le_iff_toInt_le] at h
  rw [show (-1 : Int32).toInt = -1 by decide, show (nI 1).toInt = 1 by decide] at h
  have : k.toInt = -1 ∨ k.toInt = 0 ∨ k.toInt = 1 := by omega
  rcases this with e | e | e
  · exact Or.inl (Int32.toInt_inj.mp (by rw [e]; decide))
  · exact Or.inr (Or.inl (Int32.toInt_inj.mp (by rw [e]; decide)))
  · exact Or.inr (Or.inr (Int32.toInt_inj.mp (by rw [e]; decide)))
theorem kc1 : ¬ (0 : Int32) ≤ -1 := by decide
theorem kc2 : (0 : Int32) ≤ nI 0 := by decide
theorem kc3 : (0 : Int32) ≤ nI 1 := by decide
theorem kc4 : nI 0 = 0 := by decide
theorem kc5 : ¬ nI 1 = 0 := by decide
theorem kc6 : inB (-1) (-1) (nI 1) = true := by decide
theorem kc7 : inB (nI 0) (-1) (nI 1) = true := by decide
theorem kc8 : inB (nI 1) (-1) (nI 1) = true := by decide
theorem kc9 : inB 0 (-1) (nI 1) = true := by decide
theorem kc10 : (0 : Int32) ≤ 0 := by decide
theorem wl2_lt {st : vV} {cell a t : Nat} {v : Int32} (h : wl2b st cell v a = some t) : t < 15 - a := by
  have := fst_lt _ _ _ h
  omega

theorem fst_true {P : Nat → Bool} : ∀ {n s a : Nat}, fstP P n s = some a → P a = true
  | 0, s, a, h => by cases h
  | n + 1, s, a, h => by
    unfold fstP at h
    split at h
    · cases h; assumption
    · exact fst_true h

set_option maxHeartbeats 800000 in
theorem tX0_walls_2 (l : Launch) (N : Nat) (ad : Nat → Nat) (K : gK) (I : mG) (R : gR) (cell : Int32) (v : Int32) (k : Int32) (G : mG) (b : Bool) (h0 : wB N K I R (G 6) b) (h1 : G 0 4 = bI b) : gA l yX0_walls_2 (ws_ yX0_walls_2 cX0_walls_2 6 (some FieldType.int)) ({ frames := 6, cells := 0, slots := 0, locals := 150 } : Room) [.ref (ad 0), .int cell, .int v, .int k] N ad K I R (fun rv S => rv = some (.int (mX6_walls G cell v k).1) ∧ pOff 17 I S.1 R S.2) := by
  refine gM.of (by decide) (Nat.le_of_ble_eq_true rfl) ?_
  intro D dA p e s m args below meth cd ls hC hlk hr hin hK hX hl hw
  have hl : lv_has ls 6 [(0, .ref (ad 0)), (1, .int cell), (2, .int v), (3, .int k)] := hl
  have hge := h0.ge
  refine lv_aload_n hC.1 hC.2.1 dX0_walls_2_0 rfl (lv_at hl 0 rfl) ?_
  refine x_ga hC hK hw (by omega) h0.k0 4 11 h0.r4 (by decide) rfl q206 rfl dX0_walls_2_1 ?_
  refine p_gi hC hK hw h0.ps.1 0 (by decide) rfl q124 rfl (v := (bI b)) (h0.told) dX0_walls_2_4 ?_
  refine k_bne (tgt := 13) hC dX0_walls_2_7 (by decide) (fun c7 => ?_) (fun c7 => ?_)
  · refine lv_iload_n hC.1 hC.2.1 dX0_walls_2_13 rfl (lv_at hl 1 rfl) ?_
    refine pS_call (n := 1) hC hl.1 (tX0_isCell l cell ) (lw_S q704 q705 q60 q706) rfl rfl (by decide +kernel) ⟨by decide, by decide⟩ rfl rfl (Nat.le_of_ble_eq_true rfl) dX0_walls_2_14 ⟨Nat.zero_le _, Nat.zero_le _⟩ ?_
    refine k_beq (tgt := 44) hC dX0_walls_2_17 (by decide) (fun c17 => ?_) (fun c17 => ?_)
    · refine lv_ldc hC.1 hC.2.1 hC.2.2.2.1 (hC.2.2.2.2 _ q337) dX0_walls_2_44 ?_
      exact M_iret hC hlk hw gGo.rf ⟨by simp only [gN]; omega, by simp only [gN]; omega⟩ hr rfl (⟨_, _, rfl, congrArg (fun z => some (Value.int z)) (by simp [mX6_walls, h1, bI_t0, bI_f0, inc01, inc11, inc03, inc13, inc23, inc10, inc20, inc21, c7, c17, wallsV, kc1, kc2, kc3, kc4, kc5, kc6, kc7, kc8, kc9, kc10, nI_0]), pOff.rf⟩) dX0_walls_2_46
    · obtain ⟨q, hq, rfl⟩ := inB_nat (n := 15) (by decide) c17
      refine lv_iload_n hC.1 hC.2.1 dX0_walls_2_20 rfl (lv_at hl 2 rfl) ?_
      refine lv_i2l hC.1 hC.2.1 dX0_walls_2_21 rfl ?_
      refine lv_lconst (v := 0) hC.1 hC.2.1 dX0_walls_2_22 (by decide) ?_
      refine lv_ldc2 hC.1 hC.2.1 hC.2.2.2.1 (hC.2.2.2.2 _ q712) dX0_walls_2_23 ?_
      refine pS_call (n := 3) hC hl.1 (tX0_isInI l v 0 (nI 99)) (lw_S q333 q334 q60 q335) rfl rfl (by decide +kernel) ⟨by decide, by decide⟩ rfl rfl (Nat.le_of_ble_eq_true rfl) dX0_walls_2_26 ⟨Nat.zero_le _, Nat.zero_le _⟩ ?_
      refine k_beq (tgt := 44) hC dX0_walls_2_29 (by decide) (fun c29 => ?_) (fun c29 => ?_)
      · refine lv_ldc hC.1 hC.2.1 hC.2.2.2.1 (hC.2.2.2.2 _ q337) dX0_walls_2_44 ?_
        exact M_iret hC hlk hw gGo.rf ⟨by simp only [gN]; omega, by simp only [gN]; omega⟩ hr rfl (⟨_, _, rfl, congrArg (fun z => some (Value.int z)) (by simp [mX6_walls, h1, bI_t0, bI_f0, inc01, inc11, inc03, inc13, inc23, inc10, inc20, inc21, c7, c17, c29, ix_nI (show q < 2147483648 by omega), wallsV, kc1, kc2, kc3, kc4, kc5, kc6, kc7, kc8, kc9, kc10, nI_0]), pOff.rf⟩) dX0_walls_2_46
      · refine lv_iload_n hC.1 hC.2.1 dX0_walls_2_32 rfl (lv_at hl 3 rfl) ?_
        refine lv_i2l hC.1 hC.2.1 dX0_walls_2_33 rfl ?_
        refine lv_ldc2 hC.1 hC.2.1 hC.2.2.2.1 (hC.2.2.2.2 _ q902) dX0_walls_2_34 ?_
        refine lv_lconst (v := 1) hC.1 hC.2.1 dX0_walls_2_37 (by decide) ?_
        refine pS_call (n := 3) hC hl.1 (tX0_isInI l k (-1) (nI 1)) (lw_S q333 q334 q60 q335) rfl rfl (by decide +kernel) ⟨by decide, by decide⟩ rfl rfl (Nat.le_of_ble_eq_true rfl) dX0_walls_2_38 ⟨Nat.zero_le _, Nat.zero_le _⟩ ?_
        refine k_bne (tgt := 47) hC dX0_walls_2_41 (by decide) (fun c41 => ?_) (fun c41 => ?_)
        · rcases in3 c41 with rfl | rfl | rfl
          · refine lv_aload_n hC.1 hC.2.1 dX0_walls_2_47 rfl (lv_at hl 0 rfl) ?_
            refine M_V (n := 0) (C := RX0) (T := TX0) hC hl.1 hK hX hw (by omega) h0.k0 (by decide) rfl (tX0_blown l N ad K I R (G 6) b (h0)) (lw_V q832 q834 qs18 q60 q835) (by decide +kernel) ⟨by decide, by decide⟩ rfl rfl (Nat.le_of_ble_eq_true rfl) dX0_walls_2_48 ⟨by simp only [gN]; omega, by simp only [gN]; omega⟩ ?_
            rintro _ N2 ad2 K2 I48 R48 H locs ⟨I3, R3, e3, rfl, o48, a48, f48, g48⟩ hg hw
            cases e3
            dsimp only at o48 a48 f48 g48
            have w48 := (h0).off o48
            refine p_ga hC hK hw w48.p17 6 4 w48.p17.2.2.2.2.2.1 (by decide) rfl q140 rfl dX0_walls_2_51 ?_
            refine lv_iload_n hC.1 hC.2.1 dX0_walls_2_54 rfl (lv_at hl 1 rfl) ?_
            refine g_ldi hC hK hw w48.p17.1.2.2.2.2.1 w48.p17.2.1.2.2.2.2.1 (by omega) (by omega) (v := ((bl (G 6)).1 q)) (by rw [f48]) dX0_walls_2_55 ?_
            refine lv_iload_n hC.1 hC.2.1 dX0_walls_2_56 rfl (lv_at hl 2 rfl) ?_
            refine lv_icmp_lt (tgt := 72) hC.1 hC.2.1 dX0_walls_2_57 (by decide) (fun c57 => ?_) (fun c57 => ?_)
            · refine lv_iconst (v := (nI 1)) hC.1 hC.2.1 dX0_walls_2_72 (by decide) ?_
              refine lv_istore (lv' := [(4, .int (nI 1)), (0, .ref (ad 0)), (1, .int (nI q)), (2, .int v), (3, .int (-1 : Int32))]) hC.1 hC.2.1 dX0_walls_2_73 hl (by decide) rfl (fun ls hl => ?_)
              refine lv_iload hC.1 hC.2.1 dX0_walls_2_75 (lv_at hl 0 rfl) ?_
              refine lv_iconst (v := (nI 2)) hC.1 hC.2.1 dX0_walls_2_77 (by decide) ?_
              refine k_gt (tgt := 143) hC (by decide) (by decide) dX0_walls_2_78 (by decide) (fun c78 => ?_) (fun c78 => ?_)
              · exact absurd c78 (by decide)
              · refine lv_aload_n hC.1 hC.2.1 dX0_walls_2_81 rfl (lv_at hl 1 rfl) ?_
                refine lv_iload_n hC.1 hC.2.1 dX0_walls_2_82 rfl (lv_at hl 2 rfl) ?_
                refine lv_iload_n hC.1 hC.2.1 dX0_walls_2_83 rfl (lv_at hl 3 rfl) ?_
                refine lv_iload hC.1 hC.2.1 dX0_walls_2_84 (lv_at hl 0 rfl) ?_
                refine M_V (n := 3) (C := RX0) (T := TX0) hC hl.1 hK hX hw (by omega) w48.k0 (by decide) rfl (tX0_wallsBy1 l N ad K I48 R48 q v (G 6) b w48 (by omega)) (lw_V q903 q905 qs23 q60 q906) (by decide +kernel) ⟨by decide, by decide⟩ rfl rfl (Nat.le_of_ble_eq_true rfl) dX0_walls_2_86 ⟨by simp only [gN]; omega, by simp only [gN]; omega⟩ ?_
                rintro _ N2 ad2 K2 I86_1 R86_1 H locs ⟨I3, R3, e3, rfl, o86_1⟩ hg hw
                cases e3
                dsimp only at o86_1
                have w86_1 := (w48).off o86_1
                rcases f1 : fstP (wl1 (G 6) q v) 16 0 with _ | a
                · rw [show wb1V (G 6) q v = (-1000000 : Int32) from by unfold wb1V; rw [f1]]
                  refine lv_istore (lv' := [(5, .int (-1000000 : Int32)), (4, .int (nI 1)), (0, .ref (ad 0)), (1, .int (nI q)), (2, .int v), (3, .int (-1 : Int32))]) hC.1 hC.2.1 dX0_walls_2_89 hl (by decide) rfl (fun ls hl => ?_)
                  refine lv_iload hC.1 hC.2.1 dX0_walls_2_91 (lv_at hl 0 rfl) ?_
                  refine lv_ldc hC.1 hC.2.1 hC.2.2.2.1 (hC.2.2.2.2 _ q841) dX0_walls_2_93 ?_
                  refine lv_icmp_eq (tgt := 137) hC.1 hC.2.1 dX0_walls_2_95 (by decide) (fun c95 => ?_) (fun c95 => ?_)
                  · refine k_iinc (k := 1) (d := 1) (lv' := [(4, .int (nI (1 + 1))), (5, .int (-1000000 : Int32)), (0, .ref (ad 0)), (1, .int (nI q)), (2, .int v), (3, .int (-1 : Int32))]) hC dX0_walls_2_137 hl rfl (by decide) (by decide) rfl (fun ls hl => ?_)
                    refine lv_goto (tgt := 75) hC.1 hC.2.1 dX0_walls_2_140 (by decide) ?_
                    refine lv_iload hC.1 hC.2.1 dX0_walls_2_75 (lv_at hl 0 rfl) ?_
                    refine lv_iconst (v := (nI 2)) hC.1 hC.2.1 dX0_walls_2_77 (by decide) ?_
                    refine k_gt (tgt := 143) hC (by decide) (by decide) dX0_walls_2_78 (by decide) (fun c78 => ?_) (fun c78 => ?_)
                    · exact absurd c78 (by decide)
                    · refine lv_aload_n hC.1 hC.2.1 dX0_walls_2_81 rfl (lv_at hl 2 rfl) ?_
                      refine lv_iload_n hC.1 hC.2.1 dX0_walls_2_82 rfl (lv_at hl 3 rfl) ?_
                      refine lv_iload_n hC.1 hC.2.1 dX0_walls_2_83 rfl (lv_at hl 4 rfl) ?_
                      refine lv_iload hC.1 hC.2.1 dX0_walls_2_84 (lv_at hl 0 rfl) ?_
                      refine M_V (n := 3) (C := RX0) (T := TX0) hC hl.1 hK hX hw (by omega) w86_1.k0 (by decide) rfl (tX0_wallsBy2 l N ad K I86_1 R86_1 q v (G 6) b w86_1 (by omega)) (lw_V q903 q905 qs23 q60 q906) (by decide +kernel) ⟨by decide, by decide⟩ rfl rfl (Nat.le_of_ble_eq_true rfl) dX0_walls_2_86 ⟨by simp only [gN]; omega, by simp only [gN]; omega⟩ ?_
                      rintro _ N2 ad2 K2 I86_2 R86_2 H locs ⟨I3, R3, e3, rfl, o86_2⟩ hg hw
                      cases e3
                      dsimp only at o86_2
                      have w86_2 := (w86_1).off o86_2
                      rcases f2 : fstP (wl3 (G 6) q v) 16 0 with _ | a
                      · rw [show wb2V (G 6) q v = (-1000000 : Int32) from by unfold wb2V; rw [f2]]
                        refine lv_istore (lv' := [(5, .int (-1000000 : Int32)), (4, .int (nI (1 + 1))), (0, .ref (ad 0)), (1, .int (nI q)), (2, .int v), (3, .int (-1 : Int32))]) hC.1 hC.2.1 dX0_walls_2_89 hl (by decide) rfl (fun ls hl => ?_)
                        refine lv_iload hC.1 hC.2.1 dX0_walls_2_91 (lv_at hl 0 rfl) ?_
                        refine lv_ldc hC.1 hC.2.1 hC.2.2.2.1 (hC.2.2.2.2 _ q841) dX0_walls_2_93 ?_
                        refine lv_icmp_eq (tgt := 137) hC.1 hC.2.1 dX0_walls_2_95 (by decide) (fun c95 => ?_) (fun c95 => ?_)
                        · refine k_iinc (k := 1) (d := 1) (lv' := [(4, .int (nI ((1 + 1) + 1))), (5, .int (-1000000 : Int32)), (0, .ref (ad 0)), (1, .int (nI q)), (2, .int v), (3, .int (-1 : Int32))]) hC dX0_walls_2_137 hl rfl (by decide) (by decide) rfl (fun ls hl => ?_)
                          refine lv_goto (tgt := 75) hC.1 hC.2.1 dX0_walls_2_140 (by decide) ?_
                          refine lv_iload hC.1 hC.2.1 dX0_walls_2_75 (lv_at hl 0 rfl) ?_
                          refine lv_iconst (v := (nI 2)) hC.1 hC.2.1 dX0_walls_2_77 (by decide) ?_
                          refine k_gt (tgt := 143) hC (by decide) (by decide) dX0_walls_2_78 (by decide) (fun c78 => ?_) (fun c78 => ?_)
                          · refine lv_ldc hC.1 hC.2.1 hC.2.2.2.1 (hC.2.2.2.2 _ q841) dX0_walls_2_143 ?_
                            exact M_iret hC hlk hw gGo.rf ⟨by simp only [gN]; omega, by simp only [gN]; omega⟩ hr rfl (⟨_, _, rfl, congrArg (fun z => some (Value.int z)) (by simp [mX6_walls, h1, bI_t0, bI_f0, inc01, inc11, inc03, inc13, inc23, inc10, inc20, inc21, c7, c17, c29, c41, c57, c78, c95, c78, c95, c78, ix_nI (show q < 2147483648 by omega), wallsV, kc1, kc2, kc3, kc4, kc5, kc6, kc7, kc8, kc9, kc10, nI_0, f1, f2]), ((o48.tr o86_1).tr o86_2)⟩) dX0_walls_2_145
                          · exact absurd c78 (by decide)
                        · exact absurd rfl c95
                      · have l2 := fst_lt _ _ _ f2
                        obtain ⟨t, ft⟩ := Option.isSome_iff_exists.mp (fst_true f2)
                        have lt := wl2_lt ft
                        rw [show wb2V (G 6) q v = nI (16 * a + (a + 1 + t)) from by unfold wb2V; rw [f2]; show nI (16 * a + (a + 1 + (wl2b (G 6) q v a).getD 0)) = _; rw [ft]; rfl]
                        refine lv_istore (lv' := [(5, .int (nI (16 * a + (a + 1 + t)))), (4, .int (nI (1 + 1))), (0, .ref (ad 0)), (1, .int (nI q)), (2, .int v), (3, .int (-1 : Int32))]) hC.1 hC.2.1 dX0_walls_2_89 hl (by decide) rfl (fun ls hl => ?_)
                        refine lv_iload hC.1 hC.2.1 dX0_walls_2_91 (lv_at hl 0 rfl) ?_
                        refine lv_ldc hC.1 hC.2.1 hC.2.2.2.1 (hC.2.2.2.2 _ q841) dX0_walls_2_93 ?_
                        refine lv_icmp_eq (tgt := 137) hC.1 hC.2.1 dX0_walls_2_95 (by decide) (fun c95 => ?_) (fun c95 => ?_)
                        · exact absurd c95 (nI_neN (by omega))
                        · refine lv_iload_n hC.1 hC.2.1 dX0_walls_2_98 rfl (lv_at hl 5 rfl) ?_
                          refine lv_iconst (v := (-1)) hC.1 hC.2.1 dX0_walls_2_99 (by decide) ?_
                          refine lv_icmp_ne (tgt := 108) hC.1 hC.2.1 dX0_walls_2_100 (by decide) (fun c100 => ?_) (fun c100 => ?_)
                          · exact absurd c100 (by decide)
                          · refine lv_iload hC.1 hC.2.1 dX0_walls_2_103 (lv_at hl 1 rfl) ?_
                            refine lv_goto (tgt := 136) hC.1 hC.2.1 dX0_walls_2_105 (by decide) ?_
                            exact M_iret hC hlk hw gGo.rf ⟨by simp only [gN]; omega, by simp only [gN]; omega⟩ hr rfl (⟨_, _, rfl, congrArg (fun z => some (Value.int z)) (by simp [mX6_walls, h1, bI_t0, bI_f0, inc01, inc11, inc03, inc13, inc23, inc10, inc20, inc21, c7, c17, c29, c41, c57, c78, c95, c78, c95, c100, ix_nI (show q < 2147483648 by omega), wallsV, kc1, kc2, kc3, kc4, kc5, kc6, kc7, kc8, kc9, kc10, nI_0, f1, f2, ft]), ((o48.tr o86_1).tr o86_2)⟩) dX0_walls_2_136
                  · exact absurd rfl c95
                · have l1 := fst_lt _ _ _ f1
                  rw [show wb1V (G 6) q v = nI (16 * a + a) from by unfold wb1V; rw [f1]]
                  refine lv_istore (lv' := [(5, .int (nI (16 * a + a))), (4, .int (nI 1)), (0, .ref (ad 0)), (1, .int (nI q)), (2, .int v), (3, .int (-1 : Int32))]) hC.1 hC.2.1 dX0_walls_2_89 hl (by decide) rfl (fun ls hl => ?_)
                  refine lv_iload hC.1 hC.2.1 dX0_walls_2_91 (lv_at hl 0 rfl) ?_
                  refine lv_ldc hC.1 hC.2.1 hC.2.2.2.1 (hC.2.2.2.2 _ q841) dX0_walls_2_93 ?_
                  refine lv_icmp_eq (tgt := 137) hC.1 hC.2.1 dX0_walls_2_95 (by decide) (fun c95 => ?_) (fun c95 => ?_)
                  · exact absurd c95 (nI_neN (by omega))
                  · refine lv_iload_n hC.1 hC.2.1 dX0_walls_2_98 rfl (lv_at hl 5 rfl) ?_
                    refine lv_iconst (v := (-1)) hC.1 hC.2.1 dX0_walls_2_99 (by decide) ?_
                    refine lv_icmp_ne (tgt := 108) hC.1 hC.2.1 dX0_walls_2_100 (by decide) (fun c100 => ?_) (fun c100 => ?_)
                    · exact absurd c100 (by decide)
                    · refine lv_iload hC.1 hC.2.1 dX0_walls_2_103 (lv_at hl 1 rfl) ?_
                      refine lv_goto (tgt := 136) hC.1 hC.2.1 dX0_walls_2_105 (by decide) ?_
                      exact M_iret hC hlk hw gGo.rf ⟨by simp only [gN]; omega, by simp only [gN]; omega⟩ hr rfl (⟨_, _, rfl, congrArg (fun z => some (Value.int z)) (by simp [mX6_walls, h1, bI_t0, bI_f0, inc01, inc11, inc03, inc13, inc23, inc10, inc20, inc21, c7, c17, c29, c41, c57, c78, c95, c100, ix_nI (show q < 2147483648 by omega), wallsV, kc1, kc2, kc3, kc4, kc5, kc6, kc7, kc8, kc9, kc10, nI_0, f1]), (o48.tr o86_1)⟩) dX0_walls_2_136
            · refine lv_iload_n hC.1 hC.2.1 dX0_walls_2_60 rfl (lv_at hl 3 rfl) ?_
              refine lv_iconst (v := (-1)) hC.1 hC.2.1 dX0_walls_2_61 (by decide) ?_
              refine lv_icmp_ne (tgt := 69) hC.1 hC.2.1 dX0_walls_2_62 (by decide) (fun c62 => ?_) (fun c62 => ?_)
              · exact absurd c62 (by decide)
              · refine lv_iconst (v := (nI 0)) hC.1 hC.2.1 dX0_walls_2_65 (by decide) ?_
                refine lv_goto (tgt := 71) hC.1 hC.2.1 dX0_walls_2_66 (by decide) ?_
                exact M_iret hC hlk hw gGo.rf ⟨by simp only [gN]; omega, by simp only [gN]; omega⟩ hr rfl (⟨_, _, rfl, congrArg (fun z => some (Value.int z)) (by simp [mX6_walls, h1, bI_t0, bI_f0, inc01, inc11, inc03, inc13, inc23, inc10, inc20, inc21, c7, c17, c29, c41, c57, c62, ix_nI (show q < 2147483648 by omega), wallsV, kc1, kc2, kc3, kc4, kc5, kc6, kc7, kc8, kc9, kc10, nI_0]), o48⟩) dX0_walls_2_71
          · refine lv_aload_n hC.1 hC.2.1 dX0_walls_2_47 rfl (lv_at hl 0 rfl) ?_
            refine M_V (n := 0) (C := RX0) (T := TX0) hC hl.1 hK hX hw (by omega) h0.k0 (by decide) rfl (tX0_blown l N ad K I R (G 6) b (h0)) (lw_V q832 q834 qs18 q60 q835) (by decide +kernel) ⟨by decide, by decide⟩ rfl rfl (Nat.le_of_ble_eq_true rfl) dX0_walls_2_48 ⟨by simp only [gN]; omega, by simp only [gN]; omega⟩ ?_
            rintro _ N2 ad2 K2 I48 R48 H locs ⟨I3, R3, e3, rfl, o48, a48, f48, g48⟩ hg hw
            cases e3
            dsimp only at o48 a48 f48 g48
            have w48 := (h0).off o48
            refine p_ga hC hK hw w48.p17 6 4 w48.p17.2.2.2.2.2.1 (by decide) rfl q140 rfl dX0_walls_2_51 ?_
            refine lv_iload_n hC.1 hC.2.1 dX0_walls_2_54 rfl (lv_at hl 1 rfl) ?_
            refine g_ldi hC hK hw w48.p17.1.2.2.2.2.1 w48.p17.2.1.2.2.2.2.1 (by omega) (by omega) (v := ((bl (G 6)).1 q)) (by rw [f48]) dX0_walls_2_55 ?_
            refine lv_iload_n hC.1 hC.2.1 dX0_walls_2_56 rfl (lv_at hl 2 rfl) ?_
            refine lv_icmp_lt (tgt := 72) hC.1 hC.2.1 dX0_walls_2_57 (by decide) (fun c57 => ?_) (fun c57 => ?_)
            · refine lv_iconst (v := (nI 1)) hC.1 hC.2.1 dX0_walls_2_72 (by decide) ?_
              refine lv_istore (lv' := [(4, .int (nI 1)), (0, .ref (ad 0)), (1, .int (nI q)), (2, .int v), (3, .int (nI 0))]) hC.1 hC.2.1 dX0_walls_2_73 hl (by decide) rfl (fun ls hl => ?_)
              refine lv_iload hC.1 hC.2.1 dX0_walls_2_75 (lv_at hl 0 rfl) ?_
              refine lv_iconst (v := (nI 2)) hC.1 hC.2.1 dX0_walls_2_77 (by decide) ?_
              refine k_gt (tgt := 143) hC (by decide) (by decide) dX0_walls_2_78 (by decide) (fun c78 => ?_) (fun c78 => ?_)
              · exact absurd c78 (by decide)
              · refine lv_aload_n hC.1 hC.2.1 dX0_walls_2_81 rfl (lv_at hl 1 rfl) ?_
                refine lv_iload_n hC.1 hC.2.1 dX0_walls_2_82 rfl (lv_at hl 2 rfl) ?_
                refine lv_iload_n hC.1 hC.2.1 dX0_walls_2_83 rfl (lv_at hl 3 rfl) ?_
                refine lv_iload hC.1 hC.2.1 dX0_walls_2_84 (lv_at hl 0 rfl) ?_
                refine M_V (n := 3) (C := RX0) (T := TX0) hC hl.1 hK hX hw (by omega) w48.k0 (by decide) rfl (tX0_wallsBy1 l N ad K I48 R48 q v (G 6) b w48 (by omega)) (lw_V q903 q905 qs23 q60 q906) (by decide +kernel) ⟨by decide, by decide⟩ rfl rfl (Nat.le_of_ble_eq_true rfl) dX0_walls_2_86 ⟨by simp only [gN]; omega, by simp only [gN]; omega⟩ ?_
                rintro _ N2 ad2 K2 I86_1 R86_1 H locs ⟨I3, R3, e3, rfl, o86_1⟩ hg hw
                cases e3
                dsimp only at o86_1
                have w86_1 := (w48).off o86_1
                rcases f1 : fstP (wl1 (G 6) q v) 16 0 with _ | a
                · rw [show wb1V (G 6) q v = (-1000000 : Int32) from by unfold wb1V; rw [f1]]
                  refine lv_istore (lv' := [(5, .int (-1000000 : Int32)), (4, .int (nI 1)), (0, .ref (ad 0)), (1, .int (nI q)), (2, .int v), (3, .int (nI 0))]) hC.1 hC.2.1 dX0_walls_2_89 hl (by decide) rfl (fun ls hl => ?_)
                  refine lv_iload hC.1 hC.2.1 dX0_walls_2_91 (lv_at hl 0 rfl) ?_
                  refine lv_ldc hC.1 hC.2.1 hC.2.2.2.1 (hC.2.2.2.2 _ q841) dX0_walls_2_93 ?_
                  refine lv_icmp_eq (tgt := 137) hC.1 hC.2.1 dX0_walls_2_95 (by decide) (fun c95 => ?_) (fun c95 => ?_)
                  · refine k_iinc (k := 1) (d := 1) (lv' := [(4, .int (nI (1 + 1))), (5, .int (-1000000 : Int32)), (0, .ref (ad 0)), (1, .int (nI q)), (2, .int v), (3, .int (nI 0))]) hC dX0_walls_2_137 hl rfl (by decide) (by decide) rfl (fun ls hl => ?_)
                    refine lv_goto (tgt := 75) hC.1 hC.2.1 dX0_walls_2_140 (by decide) ?_
                    refine lv_iload hC.1 hC.2.1 dX0_walls_2_75 (lv_at hl 0 rfl) ?_
                    refine lv_iconst (v := (nI 2)) hC.1 hC.2.1 dX0_walls_2_77 (by decide) ?_
                    refine k_gt (tgt := 143) hC (by decide) (by decide) dX0_walls_2_78 (by decide) (fun c78 => ?_) (fun c78 => ?_)
                    · exact absurd c78 (by decide)
                    · refine lv_aload_n hC.1 hC.2.1 dX0_walls_2_81 rfl (lv_at hl 2 rfl) ?_
                      refine lv_iload_n hC.1 hC.2.1 dX0_walls_2_82 rfl (lv_at hl 3 rfl) ?_
                      refine lv_iload_n hC.1 hC.2.1 dX0_walls_2_83 rfl (lv_at hl 4 rfl) ?_
                      refine lv_iload hC.1 hC.2.1 dX0_walls_2_84 (lv_at hl 0 rfl) ?_
                      refine M_V (n := 3) (C := RX0) (T := TX0) hC hl.1 hK hX hw (by omega) w86_1.k0 (by decide) rfl (tX0_wallsBy2 l N ad K I86_1 R86_1 q v (G 6) b w86_1 (by omega)) (lw_V q903 q905 qs23 q60 q906) (by decide +kernel) ⟨by decide, by decide⟩ rfl rfl (Nat.le_of_ble_eq_true rfl) dX0_walls_2_86 ⟨by simp only [gN]; omega, by simp only [gN]; omega⟩ ?_
                      rintro _ N2 ad2 K2 I86_2 R86_2 H locs ⟨I3, R3, e3, rfl, o86_2⟩ hg hw
                      cases e3
                      dsimp only at o86_2
                      have w86_2 := (w86_1).off o86_2
                      rcases f2 : fstP (wl3 (G 6) q v) 16 0 with _ | a
                      · rw [show wb2V (G 6) q v = (-1000000 : Int32) from by unfold wb2V; rw [f2]]
                        refine lv_istore (lv' := [(5, .int (-1000000 : Int32)), (4, .int (nI (1 + 1))), (0, .ref (ad 0)), (1, .int (nI q)), (2, .int v), (3, .int (nI 0))]) hC.1 hC.2.1 dX0_walls_2_89 hl (by decide) rfl (fun ls hl => ?_)
                        refine lv_iload hC.1 hC.2.1 dX0_walls_2_91 (lv_at hl 0 rfl) ?_
                        refine lv_ldc hC.1 hC.2.1 hC.2.2.2.1 (hC.2.2.2.2 _ q841) dX0_walls_2_93 ?_
                        refine lv_icmp_eq (tgt := 137) hC.1 hC.2.1 dX0_walls_2_95 (by decide) (fun c95 => ?_) (fun c95 => ?_)
                        · refine k_iinc (k := 1) (d := 1) (lv' := [(4, .int (nI ((1 + 1) + 1))), (5, .int (-1000000 : Int32)), (0, .ref (ad 0)), (1, .int (nI q)), (2, .int v), (3, .int (nI 0))]) hC dX0_walls_2_137 hl rfl (by decide) (by decide) rfl (fun ls hl => ?_)
                          refine lv_goto (tgt := 75) hC.1 hC.2.1 dX0_walls_2_140 (by decide) ?_
                          refine lv_iload hC.1 hC.2.1 dX0_walls_2_75 (lv_at hl 0 rfl) ?_
                          refine lv_iconst (v := (nI 2)) hC.1 hC.2.1 dX0_walls_2_77 (by decide) ?_
                          refine k_gt (tgt := 143) hC (by decide) (by decide) dX0_walls_2_78 (by decide) (fun c78 => ?_) (fun c78 => ?_)
                          · refine lv_ldc hC.1 hC.2.1 hC.2.2.2.1 (hC.2.2.2.2 _ q841) dX0_walls_2_143 ?_
                            exact M_iret hC hlk hw gGo.rf ⟨by simp only [gN]; omega, by simp only [gN]; omega⟩ hr rfl (⟨_, _, rfl, congrArg (fun z => some (Value.int z)) (by simp [mX6_walls, h1, bI_t0, bI_f0, inc01, inc11, inc03, inc13, inc23, inc10, inc20, inc21, c7, c17, c29, c41, c57, c78, c95, c78, c95, c78, ix_nI (show q < 2147483648 by omega), wallsV, kc1, kc2, kc3, kc4, kc5, kc6, kc7, kc8, kc9, kc10, nI_0, f1, f2]), ((o48.tr o86_1).tr o86_2)⟩) dX0_walls_2_145
                          · exact absurd c78 (by decide)
                        · exact absurd rfl c95
                      · have l2 := fst_lt _ _ _ f2
                        obtain ⟨t, ft⟩ := Option.isSome_iff_exists.mp (fst_true f2)
                        have lt := wl2_lt ft
                        rw [show wb2V (G 6) q v = nI (16 * a + (a + 1 + t)) from by unfold wb2V; rw [f2]; show nI (16 * a + (a + 1 + (wl2b (G 6) q v a).getD 0)) = _; rw [ft]; rfl]
                        refine lv_istore (lv' := [(5, .int (nI (16 * a + (a + 1 + t)))), (4, .int (nI (1 + 1))), (0, .ref (ad 0)), (1, .int (nI q)), (2, .int v), (3, .int (nI 0))]) hC.1 hC.2.1 dX0_walls_2_89 hl (by decide) rfl (fun ls hl => ?_)
                        refine lv_iload hC.1 hC.2.1 dX0_walls_2_91 (lv_at hl 0 rfl) ?_
                        refine lv_ldc hC.1 hC.2.1 hC.2.2.2.1 (hC.2.2.2.2 _ q841) dX0_walls_2_93 ?_
                        refine lv_icmp_eq (tgt := 137) hC.1 hC.2.1 dX0_walls_2_95 (by decide) (fun c95 => ?_) (fun c95 => ?_)
                        · exact absurd c95 (nI_neN (by omega))
                        · refine lv_iload_n hC.1 hC.2.1 dX0_walls_2_98 rfl (lv_at hl 5 rfl) ?_
                          refine lv_iconst (v := (-1)) hC.1 hC.2.1 dX0_walls_2_99 (by decide) ?_
                          refine lv_icmp_ne (tgt := 108) hC.1 hC.2.1 dX0_walls_2_100 (by decide) (fun c100 => ?_) (fun c100 => ?_)
                          · refine lv_iload_n hC.1 hC.2.1 dX0_walls_2_108 rfl (lv_at hl 5 rfl) ?_
                            refine lv_iload hC.1 hC.2.1 dX0_walls_2_109 (lv_at hl 1 rfl) ?_
                            refine k_lt (tgt := 119) hC (by omega) (by omega) dX0_walls_2_111 (by decide) (fun c111 => ?_) (fun c111 => ?_)
                            · refine lv_iload_n hC.1 hC.2.1 dX0_walls_2_119 rfl (lv_at hl 5 rfl) ?_
                              refine k_zne (tgt := 131) hC (by decide) dX0_walls_2_120 (by decide) (fun h => absurd h (by decide)) (fun c120 => ?_)
                              refine lv_iload hC.1 hC.2.1 dX0_walls_2_123 (lv_at hl 0 rfl) ?_
                              refine lv_bipush (v := (nI 16)) hC.1 hC.2.1 dX0_walls_2_125 (by decide) ?_
                              refine k_div hC (by omega) (by omega) (by omega) dX0_walls_2_127 ?_
                              refine lv_goto (tgt := 136) hC.1 hC.2.1 dX0_walls_2_128 (by decide) ?_
                              rw [show (nI ((16 * a + (a + 1 + t)) / 16)) = nI (a) from congrArg nI (by omega)]
                              exact M_iret hC hlk hw gGo.rf ⟨by simp only [gN]; omega, by simp only [gN]; omega⟩ hr rfl (⟨_, _, rfl, congrArg (fun z => some (Value.int z)) (by simp [mX6_walls, h1, bI_t0, bI_f0, inc01, inc11, inc03, inc13, inc23, inc10, inc20, inc21, c7, c17, c29, c41, c57, c78, c95, c78, c95, c100, c111, ix_nI (show q < 2147483648 by omega), wallsV, kc1, kc2, kc3, kc4, kc5, kc6, kc7, kc8, kc9, kc10, nI_0, f1, f2, ft]), ((o48.tr o86_1).tr o86_2)⟩) dX0_walls_2_136
                            · exact absurd c111 (by decide)
                          · exact absurd c100 (by decide)
                  · exact absurd rfl c95
                · have l1 := fst_lt _ _ _ f1
                  rw [show wb1V (G 6) q v = nI (16 * a + a) from by unfold wb1V; rw [f1]]
                  refine lv_istore (lv' := [(5, .int (nI (16 * a + a))), (4, .int (nI 1)), (0, .ref (ad 0)), (1, .int (nI q)), (2, .int v), (3, .int (nI 0))]) hC.1 hC.2.1 dX0_walls_2_89 hl (by decide) rfl (fun ls hl => ?_)
                  refine lv_iload hC.1 hC.2.1 dX0_walls_2_91 (lv_at hl 0 rfl) ?_
                  refine lv_ldc hC.1 hC.2.1 hC.2.2.2.1 (hC.2.2.2.2 _ q841) dX0_walls_2_93 ?_
                  refine lv_icmp_eq (tgt := 137) hC.1 hC.2.1 dX0_walls_2_95 (by decide) (fun c95 => ?_) (fun c95 => ?_)
                  · exact absurd c95 (nI_neN (by omega))
                  · refine lv_iload_n hC.1 hC.2.1 dX0_walls_2_98 rfl (lv_at hl 5 rfl) ?_
                    refine lv_iconst (v := (-1)) hC.1 hC.2.1 dX0_walls_2_99 (by decide) ?_
                    refine lv_icmp_ne (tgt := 108) hC.1 hC.2.1 dX0_walls_2_100 (by decide) (fun c100 => ?_) (fun c100 => ?_)
                    · refine lv_iload_n hC.1 hC.2.1 dX0_walls_2_108 rfl (lv_at hl 5 rfl) ?_
                      refine lv_iload hC.1 hC.2.1 dX0_walls_2_109 (lv_at hl 1 rfl) ?_
                      refine k_lt (tgt := 119) hC (by omega) (by omega) dX0_walls_2_111 (by decide) (fun c111 => ?_) (fun c111 => ?_)
                      · refine lv_iload_n hC.1 hC.2.1 dX0_walls_2_119 rfl (lv_at hl 5 rfl) ?_
                        refine k_zne (tgt := 131) hC (by decide) dX0_walls_2_120 (by decide) (fun h => absurd h (by decide)) (fun c120 => ?_)
                        refine lv_iload hC.1 hC.2.1 dX0_walls_2_123 (lv_at hl 0 rfl) ?_
                        refine lv_bipush (v := (nI 16)) hC.1 hC.2.1 dX0_walls_2_125 (by decide) ?_
                        refine k_div hC (by omega) (by omega) (by omega) dX0_walls_2_127 ?_
                        refine lv_goto (tgt := 136) hC.1 hC.2.1 dX0_walls_2_128 (by decide) ?_
                        rw [show (nI ((16 * a + a) / 16)) = nI (a) from congrArg nI (by omega)]
                        exact M_iret hC hlk hw gGo.rf ⟨by simp only [gN]; omega, by simp only [gN]; omega⟩ hr rfl (⟨_, _, rfl, congrArg (fun z => some (Value.int z)) (by simp [mX6_walls, h1, bI_t0, bI_f0, inc01, inc11, inc03, inc13, inc23, inc10, inc20, inc21, c7, c17, c29, c41, c57, c78, c95, c100, c111, ix_nI (show q < 2147483648 by omega), wallsV, kc1, kc2, kc3, kc4, kc5, kc6, kc7, kc8, kc9, kc10, nI_0, f1]), (o48.tr o86_1)⟩) dX0_walls_2_136
                      · exact absurd c111 (by decide)
                    · exact absurd c100 (by decide)
            · refine lv_iload_n hC.1 hC.2.1 dX0_walls_2_60 rfl (lv_at hl 3 rfl) ?_
              refine lv_iconst (v := (-1)) hC.1 hC.2.1 dX0_walls_2_61 (by decide) ?_
              refine lv_icmp_ne (tgt := 69) hC.1 hC.2.1 dX0_walls_2_62 (by decide) (fun c62 => ?_) (fun c62 => ?_)
              · refine lv_ldc hC.1 hC.2.1 hC.2.2.2.1 (hC.2.2.2.2 _ q841) dX0_walls_2_69 ?_
                exact M_iret hC hlk hw gGo.rf ⟨by simp only [gN]; omega, by simp only [gN]; omega⟩ hr rfl (⟨_, _, rfl, congrArg (fun z => some (Value.int z)) (by simp [mX6_walls, h1, bI_t0, bI_f0, inc01, inc11, inc03, inc13, inc23, inc10, inc20, inc21, c7, c17, c29, c41, c57, c62, ix_nI (show q < 2147483648 by omega), wallsV, kc1, kc2, kc3, kc4, kc5, kc6, kc7, kc8, kc9, kc10, nI_0]), o48⟩) dX0_walls_2_71
              · exact absurd c62 (by decide)
          · refine lv_aload_n hC.1 hC.2.1 dX0_walls_2_47 rfl (lv_at hl 0 rfl) ?_
            refine M_V (n := 0) (C := RX0) (T := TX0) hC hl.1 hK hX hw (by omega) h0.k0 (by decide) rfl (tX0_blown l N ad K I R (G 6) b (h0)) (lw_V q832 q834 qs18 q60 q835) (by decide +kernel) ⟨by decide, by decide⟩ rfl rfl (Nat.le_of_ble_eq_true rfl) dX0_walls_2_48 ⟨by simp only [gN]; omega, by simp only [gN]; omega⟩ ?_
            rintro _ N2 ad2 K2 I48 R48 H locs ⟨I3, R3, e3, rfl, o48, a48, f48, g48⟩ hg hw
            cases e3
            dsimp only at o48 a48 f48 g48
            have w48 := (h0).off o48
            refine p_ga hC hK hw w48.p17 6 4 w48.p17.2.2.2.2.2.1 (by decide) rfl q140 rfl dX0_walls_2_51 ?_
            refine lv_iload_n hC.1 hC.2.1 dX0_walls_2_54 rfl (lv_at hl 1 rfl) ?_
            refine g_ldi hC hK hw w48.p17.1.2.2.2.2.1 w48.p17.2.1.2.2.2.2.1 (by omega) (by omega) (v := ((bl (G 6)).1 q)) (by rw [f48]) dX0_walls_2_55 ?_
            refine lv_iload_n hC.1 hC.2.1 dX0_walls_2_56 rfl (lv_at hl 2 rfl) ?_
            refine lv_icmp_lt (tgt := 72) hC.1 hC.2.1 dX0_walls_2_57 (by decide) (fun c57 => ?_) (fun c57 => ?_)
            · refine lv_iconst (v := (nI 1)) hC.1 hC.2.1 dX0_walls_2_72 (by decide) ?_
              refine lv_istore (lv' := [(4, .int (nI 1)), (0, .ref (ad 0)), (1, .int (nI q)), (2, .int v), (3, .int (nI 1))]) hC.1 hC.2.1 dX0_walls_2_73 hl (by decide) rfl (fun ls hl => ?_)
              refine lv_iload hC.1 hC.2.1 dX0_walls_2_75 (lv_at hl 0 rfl) ?_
              refine lv_iconst (v := (nI 2)) hC.1 hC.2.1 dX0_walls_2_77 (by decide) ?_
              refine k_gt (tgt := 143) hC (by decide) (by decide) dX0_walls_2_78 (by decide) (fun c78 => ?_) (fun c78 => ?_)
              · exact absurd c78 (by decide)
              · refine lv_aload_n hC.1 hC.2.1 dX0_walls_2_81 rfl (lv_at hl 1 rfl) ?_
                refine lv_iload_n hC.1 hC.2.1 dX0_walls_2_82 rfl (lv_at hl 2 rfl) ?_
                refine lv_iload_n hC.1 hC.2.1 dX0_walls_2_83 rfl (lv_at hl 3 rfl) ?_
                refine lv_iload hC.1 hC.2.1 dX0_walls_2_84 (lv_at hl 0 rfl) ?_
                refine M_V (n := 3) (C := RX0) (T := TX0) hC hl.1 hK hX hw (by omega) w48.k0 (by decide) rfl (tX0_wallsBy1 l N ad K I48 R48 q v (G 6) b w48 (by omega)) (lw_V q903 q905 qs23 q60 q906) (by decide +kernel) ⟨by decide, by decide⟩ rfl rfl (Nat.le_of_ble_eq_true rfl) dX0_walls_2_86 ⟨by simp only [gN]; omega, by simp only [gN]; omega⟩ ?_
                rintro _ N2 ad2 K2 I86_1 R86_1 H locs ⟨I3, R3, e3, rfl, o86_1⟩ hg hw
                cases e3
                dsimp only at o86_1
                have w86_1 := (w48).off o86_1
                rcases f1 : fstP (wl1 (G 6) q v) 16 0 with _ | a
                · rw [show wb1V (G 6) q v = (-1000000 : Int32) from by unfold wb1V; rw [f1]]
                  refine lv_istore (lv' := [(5, .int (-1000000 : Int32)), (4, .int (nI 1)), (0, .ref (ad 0)), (1, .int (nI q)), (2, .int v), (3, .int (nI 1))]) hC.1 hC.2.1 dX0_walls_2_89 hl (by decide) rfl (fun ls hl => ?_)
                  refine lv_iload hC.1 hC.2.1 dX0_walls_2_91 (lv_at hl 0 rfl) ?_
                  refine lv_ldc hC.1 hC.2.1 hC.2.2.2.1 (hC.2.2.2.2 _ q841) dX0_walls_2_93 ?_
                  refine lv_icmp_eq (tgt := 137) hC.1 hC.2.1 dX0_walls_2_95 (by decide) (fun c95 => ?_) (fun c95 => ?_)
                  · refine k_iinc (k := 1) (d := 1) (lv' := [(4, .int (nI (1 + 1))), (5, .int (-1000000 : Int32)), (0, .ref (ad 0)), (1, .int (nI q)), (2, .int v), (3, .int (nI 1))]) hC dX0_walls_2_137 hl rfl (by decide) (by decide) rfl (fun ls hl => ?_)
                    refine lv_goto (tgt := 75) hC.1 hC.2.1 dX0_walls_2_140 (by decide) ?_
                    refine lv_iload hC.1 hC.2.1 dX0_walls_2_75 (lv_at hl 0 rfl) ?_
                    refine lv_iconst (v := (nI 2)) hC.1 hC.2.1 dX0_walls_2_77 (by decide) ?_
                    refine k_gt (tgt := 143) hC (by decide) (by decide) dX0_walls_2_78 (by decide) (fun c78 => ?_) (fun c78 => ?_)
                    · exact absurd c78 (by decide)
                    · refine lv_aload_n hC.1 hC.2.1 dX0_walls_2_81 rfl (lv_at hl 2 rfl) ?_
                      refine lv_iload_n hC.1 hC.2.1 dX0_walls_2_82 rfl (lv_at hl 3 rfl) ?_
                      refine lv_iload_n hC.1 hC.2.1 dX0_walls_2_83 rfl (lv_at hl 4 rfl) ?_
                      refine lv_iload hC.1 hC.2.1 dX0_walls_2_84 (lv_at hl 0 rfl) ?_
                      refine M_V (n := 3) (C := RX0) (T := TX0) hC hl.1 hK hX hw (by omega) w86_1.k0 (by decide) rfl (tX0_wallsBy2 l N ad K I86_1 R86_1 q v (G 6) b w86_1 (by omega)) (lw_V q903 q905 qs23 q60 q906) (by decide +kernel) ⟨by decide, by decide⟩ rfl rfl (Nat.le_of_ble_eq_true rfl) dX0_walls_2_86 ⟨by simp only [gN]; omega, by simp only [gN]; omega⟩ ?_
                      rintro _ N2 ad2 K2 I86_2 R86_2 H locs ⟨I3, R3, e3, rfl, o86_2⟩ hg hw
                      cases e3
                      dsimp only at o86_2
                      have w86_2 := (w86_1).off o86_2
                      rcases f2 : fstP (wl3 (G 6) q v) 16 0 with _ | a
                      · rw [show wb2V (G 6) q v = (-1000000 : Int32) from by unfold wb2V; rw [f2]]
                        refine lv_istore (lv' := [(5, .int (-1000000 : Int32)), (4, .int (nI (1 + 1))), (0, .ref (ad 0)), (1, .int (nI q)), (2, .int v), (3, .int (nI 1))]) hC.1 hC.2.1 dX0_walls_2_89 hl (by decide) rfl (fun ls hl => ?_)
                        refine lv_iload hC.1 hC.2.1 dX0_walls_2_91 (lv_at hl 0 rfl) ?_
                        refine lv_ldc hC.1 hC.2.1 hC.2.2.2.1 (hC.2.2.2.2 _ q841) dX0_walls_2_93 ?_
                        refine lv_icmp_eq (tgt := 137) hC.1 hC.2.1 dX0_walls_2_95 (by decide) (fun c95 => ?_) (fun c95 => ?_)
                        · refine k_iinc (k := 1) (d := 1) (lv' := [(4, .int (nI ((1 + 1) + 1))), (5, .int (-1000000 : Int32)), (0, .ref (ad 0)), (1, .int (nI q)), (2, .int v), (3, .int (nI 1))]) hC dX0_walls_2_137 hl rfl (by decide) (by decide) rfl (fun ls hl => ?_)
                          refine lv_goto (tgt := 75) hC.1 hC.2.1 dX0_walls_2_140 (by decide) ?_
                          refine lv_iload hC.1 hC.2.1 dX0_walls_2_75 (lv_at hl 0 rfl) ?_
                          refine lv_iconst (v := (nI 2)) hC.1 hC.2.1 dX0_walls_2_77 (by decide) ?_
                          refine k_gt (tgt := 143) hC (by decide) (by decide) dX0_walls_2_78 (by decide) (fun c78 => ?_) (fun c78 => ?_)
                          · refine lv_ldc hC.1 hC.2.1 hC.2.2.2.1 (hC.2.2.2.2 _ q841) dX0_walls_2_143 ?_
                            exact M_iret hC hlk hw gGo.rf ⟨by simp only [gN]; omega, by simp only [gN]; omega⟩ hr rfl (⟨_, _, rfl, congrArg (fun z => some (Value.int z)) (by simp [mX6_walls, h1, bI_t0, bI_f0, inc01, inc11, inc03, inc13, inc23, inc10, inc20, inc21, c7, c17, c29, c41, c57, c78, c95, c78, c95, c78, ix_nI (show q < 2147483648 by omega), wallsV, kc1, kc2, kc3, kc4, kc5, kc6, kc7, kc8, kc9, kc10, nI_0, f1, f2]), ((o48.tr o86_1).tr o86_2)⟩) dX0_walls_2_145
                          · exact absurd c78 (by decide)
                        · exact absurd rfl c95
                      · have l2 := fst_lt _ _ _ f2
                        obtain ⟨t, ft⟩ := Option.isSome_iff_exists.mp (fst_true f2)
                        have lt := wl2_lt ft
                        rw [show wb2V (G 6) q v = nI (16 * a + (a + 1 + t)) from by unfold wb2V; rw [f2]; show nI (16 * a + (a + 1 + (wl2b (G 6) q v a).getD 0)) = _; rw [ft]; rfl]
                        refine lv_istore (lv' := [(5, .int (nI (16 * a + (a + 1 + t)))), (4, .int (nI (1 + 1))), (0, .ref (ad 0)), (1, .int (nI q)), (2, .int v), (3, .int (nI 1))]) hC.1 hC.2.1 dX0_walls_2_89 hl (by decide) rfl (fun ls hl => ?_)
                        refine lv_iload hC.1 hC.2.1 dX0_walls_2_91 (lv_at hl 0 rfl) ?_
                        refine lv_ldc hC.1 hC.2.1 hC.2.2.2.1 (hC.2.2.2.2 _ q841) dX0_walls_2_93 ?_
                        refine lv_icmp_eq (tgt := 137) hC.1 hC.2.1 dX0_walls_2_95 (by decide) (fun c95 => ?_) (fun c95 => ?_)
                        · exact absurd c95 (nI_neN (by omega))
                        · refine lv_iload_n hC.1 hC.2.1 dX0_walls_2_98 rfl (lv_at hl 5 rfl) ?_
                          refine lv_iconst (v := (-1)) hC.1 hC.2.1 dX0_walls_2_99 (by decide) ?_
                          refine lv_icmp_ne (tgt := 108) hC.1 hC.2.1 dX0_walls_2_100 (by decide) (fun c100 => ?_) (fun c100 => ?_)
                          · refine lv_iload_n hC.1 hC.2.1 dX0_walls_2_108 rfl (lv_at hl 5 rfl) ?_
                            refine lv_iload hC.1 hC.2.1 dX0_walls_2_109 (lv_at hl 1 rfl) ?_
                            refine k_lt (tgt := 119) hC (by omega) (by omega) dX0_walls_2_111 (by decide) (fun c111 => ?_) (fun c111 => ?_)
                            · refine lv_iload_n hC.1 hC.2.1 dX0_walls_2_119 rfl (lv_at hl 5 rfl) ?_
                              refine k_zne (tgt := 131) hC (by decide) dX0_walls_2_120 (by decide) (fun c120 => ?_) (fun h => absurd h (by decide))
                              refine lv_iload hC.1 hC.2.1 dX0_walls_2_131 (lv_at hl 0 rfl) ?_
                              refine lv_bipush (v := (nI 16)) hC.1 hC.2.1 dX0_walls_2_133 (by decide) ?_
                              refine k_rem hC (by omega) (by omega) (by omega) dX0_walls_2_135 ?_
                              rw [show (nI ((16 * a + (a + 1 + t)) % 16)) = nI (a + 1 + t) from congrArg nI (by omega)]
                              exact M_iret hC hlk hw gGo.rf ⟨by simp only [gN]; omega, by simp only [gN]; omega⟩ hr rfl (⟨_, _, rfl, congrArg (fun z => some (Value.int z)) (by simp [mX6_walls, h1, bI_t0, bI_f0, inc01, inc11, inc03, inc13, inc23, inc10, inc20, inc21, c7, c17, c29, c41, c57, c78, c95, c78, c95, c100, c111, ix_nI (show q < 2147483648 by omega), wallsV, kc1, kc2, kc3, kc4, kc5, kc6, kc7, kc8, kc9, kc10, nI_0, f1, f2, ft]), ((o48.tr o86_1).tr o86_2)⟩) dX0_walls_2_136
                            · exact absurd c111 (by decide)
                          · exact absurd c100 (by decide)
                  · exact absurd rfl c95
                · have l1 := fst_lt _ _ _ f1
                  rw [show wb1V (G 6) q v = nI (16 * a + a) from by unfold wb1V; rw [f1]]
                  refine lv_istore (lv' := [(5, .int (nI (16 * a + a))), (4, .int (nI 1)), (0, .ref (ad 0)), (1, .int (nI q)), (2, .int v), (3, .int (nI 1))]) hC.1 hC.2.1 dX0_walls_2_89 hl (by decide) rfl (fun ls hl => ?_)
                  refine lv_iload hC.1 hC.2.1 dX0_walls_2_91 (lv_at hl 0 rfl) ?_
                  refine lv_ldc hC.1 hC.2.1 hC.2.2.2.1 (hC.2.2.2.2 _ q841) dX0_walls_2_93 ?_
                  refine lv_icmp_eq (tgt := 137) hC.1 hC.2.1 dX0_walls_2_95 (by decide) (fun c95 => ?_) (fun c95 => ?_)
                  · exact absurd c95 (nI_neN (by omega))
                  · refine lv_iload_n hC.1 hC.2.1 dX0_walls_2_98 rfl (lv_at hl 5 rfl) ?_
                    refine lv_iconst (v := (-1)) hC.1 hC.2.1 dX0_walls_2_99 (by decide) ?_
                    refine lv_icmp_ne (tgt := 108) hC.1 hC.2.1 dX0_walls_2_100 (by decide) (fun c100 => ?_) (fun c100 => ?_)
                    · refine lv_iload_n hC.1 hC.2.1 dX0_walls_2_108 rfl (lv_at hl 5 rfl) ?_
                      refine lv_iload hC.1 hC.2.1 dX0_walls_2_109 (lv_at hl 1 rfl) ?_
                      refine k_lt (tgt := 119) hC (by omega) (by omega) dX0_walls_2_111 (by decide) (fun c111 => ?_) (fun c111 => ?_)
                      · exact absurd c111 (by decide)
                      · refine lv_ldc hC.1 hC.2.1 hC.2.2.2.1 (hC.2.2.2.2 _ q841) dX0_walls_2_114 ?_
                        refine lv_goto (tgt := 136) hC.1 hC.2.1 dX0_walls_2_116 (by decide) ?_
                        exact M_iret hC hlk hw gGo.rf ⟨by simp only [gN]; omega, by simp only [gN]; omega⟩ hr rfl (⟨_, _, rfl, congrArg (fun z => some (Value.int z)) (by simp [mX6_walls, h1, bI_t0, bI_f0, inc01, inc11, inc03, inc13, inc23, inc10, inc20, inc21, c7, c17, c29, c41, c57, c78, c95, c100, c111, ix_nI (show q < 2147483648 by omega), wallsV, kc1, kc2, kc3, kc4, kc5, kc6, kc7, kc8, kc9, kc10, nI_0, f1]), (o48.tr o86_1)⟩) dX0_walls_2_136
                    · exact absurd c100 (by decide)
            · refine lv_iload_n hC.1 hC.2.1 dX0_walls_2_60 rfl (lv_at hl 3 rfl) ?_
              refine lv_iconst (v := (-1)) hC.1 hC.2.1 dX0_walls_2_61 (by decide) ?_
              refine lv_icmp_ne (tgt := 69) hC.1 hC.2.1 dX0_walls_2_62 (by decide) (fun c62 => ?_) (fun c62 => ?_)
              · refine lv_ldc hC.1 hC.2.1 hC.2.2.2.1 (hC.2.2.2.2 _ q841) dX0_walls_2_69 ?_
                exact M_iret hC hlk hw gGo.rf ⟨by simp only [gN]; omega, by simp only [gN]; omega⟩ hr rfl (⟨_, _, rfl, congrArg (fun z => some (Value.int z)) (by simp [mX6_walls, h1, bI_t0, bI_f0, inc01, inc11, inc03, inc13, inc23, inc10, inc20, inc21, c7, c17, c29, c41, c57, c62, ix_nI (show q < 2147483648 by omega), wallsV, kc1, kc2, kc3, kc4, kc5, kc6, kc7, kc8, kc9, kc10, nI_0]), o48⟩) dX0_walls_2_71
              · exact absurd c62 (by decide)
        · refine lv_ldc hC.1 hC.2.1 hC.2.2.2.1 (hC.2.2.2.2 _ q337) dX0_walls_2_44 ?_
          exact M_iret hC hlk hw gGo.rf ⟨by simp only [gN]; omega, by simp only [gN]; omega⟩ hr rfl (⟨_, _, rfl, congrArg (fun z => some (Value.int z)) (by simp [mX6_walls, h1, bI_t0, bI_f0, inc01, inc11, inc03, inc13, inc23, inc10, inc20, inc21, c7, c17, c29, c41, ix_nI (show q < 2147483648 by omega), wallsV, kc1, kc2, kc3, kc4, kc5, kc6, kc7, kc8, kc9, kc10, nI_0]), pOff.rf⟩) dX0_walls_2_46
  · refine lv_ldc hC.1 hC.2.1 hC.2.2.2.1 (hC.2.2.2.2 _ q703) dX0_walls_2_10 ?_
    exact M_iret hC hlk hw gGo.rf ⟨by simp only [gN]; omega, by simp only [gN]; omega⟩ hr rfl (⟨_, _, rfl, congrArg (fun z => some (Value.int z)) (by simp [mX6_walls, h1, bI_t0, bI_f0, inc01, inc11, inc03, inc13, inc23, inc10, inc20, inc21, c7, wallsV, kc1, kc2, kc3, kc4, kc5, kc6, kc7, kc8, kc9, kc10, nI_0]), pOff.rf⟩) dX0_walls_2_12
