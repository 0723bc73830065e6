/-! ===== WindCarver.ask (by gen/w74.py) ===== -/
theorem newT_R (R : gR) (N : Nat) (hN : 0 < N) : r2 (r2 (va_up (va_up R N (fun _ => none)) (N + 1) (fun _ => none)) N 0 (some (N + 1))) 0 9 (some N) = r2 (va_up (va_up R N (va_up (fun _ => none) 0 (some (N + 1)))) (N + 1) (fun _ => none)) 0 9 (some N) := by
  congr 1
  funext n j
  rw [r2_ap]
  by_cases h1 : n = N
  · subst h1
    rw [va_up_ne _ _ (by omega), va_up_self, va_up_ne _ _ (by omega), va_up_self]
    by_cases hj : j = 0
    · subst hj; rw [if_pos ⟨rfl, rfl⟩, va_up_self]
    · rw [if_neg (fun z => hj z.2), va_up_ne _ _ hj]
  · rw [if_neg (fun z => h1 z.1)]
    by_cases h2 : n = N + 1
    · subst h2; rw [va_up_self, va_up_self]
    · rw [va_up_ne _ _ h2, va_up_ne _ _ h1, va_up_ne _ _ h2, va_up_ne _ _ h1]

set_option maxHeartbeats 800000 in
theorem tX0_ask_z (l : Launch) (N : Nat) (ad : Nat → Nat) (K : gK) (I : mG) (R : gR) (cell : Int32) (what : Int32) (G : mG) (b : Bool) (h0 : wcR N K I R G b) : gMZ l yX0_ask (ws_ yX0_ask cX0_ask 5 (some FieldType.int)) ({ frames := 10, cells := 3, slots := 20, locals := 230 } : Room) [.ref (ad 0), .int cell, .int what] N ad K I R (fun v S => v = some (.int (mX6_ask G cell what).1) ∧ wcR S.1 S.2.2.1 S.2.2.2.1 S.2.2.2.2 (mX6_ask G cell what).2 b) := by
  refine gMZ.of (by decide) (Nat.le_of_ble_eq_true rfl) ?_
  intro D dA p e s m args below meth cd ls hC hlk hr hK hX hZ hst hl hw
  have hl : lv_has ls 5 [(0, .ref (ad 0)), (1, .int cell), (2, .int what)] := hl
  have hge := h0.ge
  refine lv_aload_n hC.1 hC.2.1 dX0_ask_0 rfl (lv_at hl 0 rfl) ?_
  refine x_ga hC hK hw (by omega) h0.k0 4 11 h0.r4 (by decide) rfl q206 rfl dX0_ask_1 ?_
  refine p_gi hC hK hw h0.ps.1 0 (by decide) rfl q124 rfl (v := (bI b)) (h0.told) dX0_ask_4 ?_
  refine k_bne (tgt := 13) hC dX0_ask_7 (by decide) (fun c7 => ?_) (fun c7 => ?_)
  · subst c7
    refine lv_iload_n hC.1 hC.2.1 dX0_ask_13 rfl (lv_at hl 1 rfl) ?_
    refine pS_call (n := 1) hC hl.1 (tX0_isCell l cell ) (lw_S q704 q705 q60 q706) rfl rfl (by decide +kernel) ⟨by decide, by decide⟩ rfl rfl (Nat.le_of_ble_eq_true rfl) dX0_ask_14 ⟨Nat.zero_le _, Nat.zero_le _⟩ ?_
    refine k_beq (tgt := 27) hC dX0_ask_17 (by decide) (fun c17 => ?_) (fun c17 => ?_)
    · refine lv_ldc hC.1 hC.2.1 hC.2.2.2.1 (hC.2.2.2.2 _ q337) dX0_ask_27 ?_
      exact M_iret hC hlk hw gGo.rf ⟨by simp only [gN]; omega, by simp only [gN]; omega⟩ hr rfl (by have eq : mX6_ask G cell what = ((-1000001 : Int32), G) := (by simp [mX6_ask, h0.g4, bI_t0, bI_f0, inc01, inc11, inc03, inc13, inc23, inc10, inc20, inc21, c17]); rw [eq]; exact ⟨rfl, h0⟩) dX0_ask_29
    · refine lv_iload_n hC.1 hC.2.1 dX0_ask_20 rfl (lv_at hl 2 rfl) ?_
      refine pS_call (n := 1) hC hl.1 (tX0_isHalf l what ) (lw_S q847 q848 q60 q849) rfl rfl (by decide +kernel) ⟨by decide, by decide⟩ rfl rfl (Nat.le_of_ble_eq_true rfl) dX0_ask_21 ⟨Nat.zero_le _, Nat.zero_le _⟩ ?_
      refine k_bne (tgt := 30) hC dX0_ask_24 (by decide) (fun c24 => ?_) (fun c24 => ?_)
      · obtain ⟨k, hk, rfl⟩ := inB_nat (n := 15) (by decide) c17
        have gwk := h0.ps.wk (c := k) (by omega)
        rcases (h0.ps.2.2.2 k (by omega)).2.2.2 with ⟨z1, z2⟩ | ⟨w, kk, z1, z2, z3, z4, z5, z6, z7, z8⟩
        · refine lv_aload_n hC.1 hC.2.1 dX0_ask_30 rfl (lv_at hl 0 rfl) ?_
          refine x_ga hC hK hw (by omega) h0.k0 4 11 h0.r4 (by decide) rfl q206 rfl dX0_ask_31 ?_
          refine lv_iload_n hC.1 hC.2.1 dX0_ask_34 rfl (lv_at hl 1 rfl) ?_
          refine g_calli (n := 1) (C := RX2) (T := TX2) hC hl.1 hK hX hw (h0.ps.1).1.1 (h0.ps.1).2.1.1 (by decide) rfl (tX2_has l (List.range N) ad K I R 11 k (h0.ps.1) (by omega)) (lw_V q713 q644 q645 q62 q646) rfl rfl (by decide +kernel) ⟨by decide, by decide⟩ rfl rfl (Nat.le_of_ble_eq_true rfl) dX0_ask_35 ⟨Nat.zero_le _, Nat.zero_le _⟩ ?_
          rintro r_2 I2 R2 H locs ⟨hr2, hS2⟩ hw
          rw [hr2]
          replace hw := hw.eq (Prod.mk.inj hS2).1 (Prod.mk.inj hS2).2
          clear hS2
          refine k_bne (tgt := 44) hC dX0_ask_38 (by decide) (fun c38 => ?_) (fun c38 => ?_)
          · exact absurd c38 (by rw [z1]; simp)
          · refine lv_ldc hC.1 hC.2.1 hC.2.2.2.1 (hC.2.2.2.2 _ q703) dX0_ask_41 ?_
            exact M_iret hC hlk hw gGo.rf ⟨by simp only [gN]; omega, by simp only [gN]; omega⟩ hr rfl (by have eq : mX6_ask G (nI k) what = ((-1000002 : Int32), G) := (by simp [mX6_ask, h0.g4, bI_t0, bI_f0, inc01, inc11, inc03, inc13, inc23, inc10, inc20, inc21, c17, c24, c38, ix_nI (show k < 2147483648 by omega), gwk, z1]); rw [eq]; exact ⟨rfl, h0⟩) dX0_ask_43
        · refine lv_aload_n hC.1 hC.2.1 dX0_ask_30 rfl (lv_at hl 0 rfl) ?_
          refine x_ga hC hK hw (by omega) h0.k0 4 11 h0.r4 (by decide) rfl q206 rfl dX0_ask_31 ?_
          refine lv_iload_n hC.1 hC.2.1 dX0_ask_34 rfl (lv_at hl 1 rfl) ?_
          refine g_calli (n := 1) (C := RX2) (T := TX2) hC hl.1 hK hX hw (h0.ps.1).1.1 (h0.ps.1).2.1.1 (by decide) rfl (tX2_has l (List.range N) ad K I R 11 k (h0.ps.1) (by omega)) (lw_V q713 q644 q645 q62 q646) rfl rfl (by decide +kernel) ⟨by decide, by decide⟩ rfl rfl (Nat.le_of_ble_eq_true rfl) dX0_ask_35 ⟨Nat.zero_le _, Nat.zero_le _⟩ ?_
          rintro r_2 I2 R2 H locs ⟨hr2, hS2⟩ hw
          rw [hr2]
          replace hw := hw.eq (Prod.mk.inj hS2).1 (Prod.mk.inj hS2).2
          clear hS2
          refine k_bne (tgt := 44) hC dX0_ask_38 (by decide) (fun c38 => ?_) (fun c38 => ?_)
          · have wN0 : w < N := List.mem_range.mp z2
            refine lv_aload_n hC.1 hC.2.1 dX0_ask_44 rfl (lv_at hl 0 rfl) ?_
            refine M_new hC hK hw 3 (by decide) rfl in_X3 tyX3 tyX3_ok q167 q168 q63 (df_of (by decide +kernel)) (by simp only [gN]; omega) (by simp only [gN]; omega) dX0_ask_45 (fun ad45_1 H h45_1 hw => ?_)
            have e45_1 : ad 0 = ad45_1 0 := (h45_1 0 (by omega)).symm
            rw [e45_1] at hl
            rw [e45_1]
            have g45_1 : gGo N ad K (N + 1, ad45_1, va_up K N (3, 0), va_up I N (fun _ => nI 0), va_up R N (fun _ => none)) := gGo_new (I1 := I) (R1 := R) gGo.rf h45_1
            refine lv_dup hC.1 hC.2.1 dX0_ask_48 rfl ?_
            refine M_IN (n := 0) hC hl.1 hK hX hw (tX3_init l (N + 1) ad45_1 (va_up K N (3, 0)) (va_up I N (fun _ => nI 0)) (va_up R N (fun _ => none)) N (by omega) (by rw [va_up_self])) q169 q170 q63 q171 rfl (by decide +kernel) ⟨by decide, by decide⟩ rfl rfl (Nat.le_of_ble_eq_true rfl) dX0_ask_49 ⟨by simp only [gN]; omega, by simp only [gN]; omega⟩ ?_
            rintro _ N2 ad2 K2 I2 R2 H locs ⟨rfl, adl, e2⟩ hgl hw
            cases e2
            have e_ad2 : ad45_1 0 = ad2 0 := (hgl.2 0 (by omega)).1.symm
            rw [e_ad2] at hl
            rw [e_ad2]
            have e_ad2 : ad45_1 N = ad2 N := (hgl.2 N (by omega)).1.symm
            rw [e_ad2]
            have g49 := gGo.tr g45_1 hgl
            refine g_putr (ci := 0) (C := RX0) (T := TX0) (ref := RX0) (y := some (N)) hC hK hw (List.mem_range.mpr (by omega)) (by rw [va_up_ne _ _ (by omega), va_up_ne _ _ (by omega)]; exact h0.k0) (by decide) rfl in_X0 tyX0 tyX0_ok nmX0 9 (by decide) rfl q211 (fun x h => h) rfl (fun j h => by cases h; exact List.mem_range.mpr (by omega)) rfl rfl rfl rfl dX0_ask_52 (fun H locs hw => ?_)
            replace hw := hw.eq rfl (newT_R R N (by omega))
            have h5 : wcR (N + 1 + 1) (va_up (va_up K N (3, 0)) (N + 1) (20, 16)) (va_up (va_up I N (fun _ => nI 0)) (N + 1) (fun _ => nI 0)) (r2 (va_up (va_up R N (va_up (fun _ => none) 0 (some (N + 1)))) (N + 1) (fun _ => none)) 0 9 (some N)) (g2 G 0 27 (nI 0)) true := h0.newT rfl (va_up_self _ _ _)
            have r14 : (r2 (va_up (va_up R N (va_up (fun _ => none) 0 (some (N + 1)))) (N + 1) (fun _ => none)) 0 9 (some N)) (11 + 3) k = some w := by rw [r2_ne _ _ _ _ (by decide), va_up_ne _ _ (by omega), va_up_ne _ _ (by omega)]; exact z1
            refine lv_aload_n hC.1 hC.2.1 dX0_ask_55 rfl (lv_at hl 0 rfl) ?_
            refine x_ga hC hK hw (by omega) h5.k0 4 11 h5.r4 (by decide) rfl q206 rfl dX0_ask_56 ?_
            refine p_ga hC hK hw h5.ps.1 4 3 h5.ps.1.2.2.2.2.1 (by decide) rfl q135 rfl dX0_ask_59 ?_
            refine lv_iload_n hC.1 hC.2.1 dX0_ask_62 rfl (lv_at hl 1 rfl) ?_
            refine g_ldr (t := 2) (v := .ref (ad2 w)) hC hK hw h5.ps.1.1.2.2.2.1 h5.ps.1.2.1.2.2.2.1 rfl (by omega) (by omega) (by rw [r14]; rfl) dX0_ask_63 ?_
            refine lv_astore_n (lv' := [(3, .ref (ad2 w)), (0, .ref (ad2 0)), (1, .int (nI k)), (2, .int what)]) hC.1 hC.2.1 dX0_ask_64 rfl hl (by decide) rfl (fun ls hl => ?_)
            refine M_new hC hK hw 9 (by decide) rfl in_X13 tyX13 tyX13_ok q983 q984 q90 (df_of (by decide +kernel)) (by simp only [gN]; omega) (by simp only [gN]; omega) dX0_ask_65 (fun ad65_2 H h65_2 hw => ?_)
            have e65_2 : ad2 w = ad65_2 w := (h65_2 w (by omega)).symm
            rw [e65_2] at hl
            have e65_2 : ad2 0 = ad65_2 0 := (h65_2 0 (by omega)).symm
            rw [e65_2] at hl
            have g65_2 : gGo N ad K (N + 1 + 1 + 1, ad65_2, va_up (va_up (va_up K N (3, 0)) (N + 1) (20, 16)) (N + 1 + 1) (9, 0), va_up (va_up (va_up I N (fun _ => nI 0)) (N + 1) (fun _ => nI 0)) (N + 1 + 1) (fun _ => nI 0), va_up (r2 (va_up (va_up R N (va_up (fun _ => none) 0 (some (N + 1)))) (N + 1) (fun _ => none)) 0 9 (some N)) (N + 1 + 1) (fun _ => none)) := gGo_new (I1 := va_up (va_up I N (fun _ => nI 0)) (N + 1) (fun _ => nI 0)) (R1 := r2 (va_up (va_up R N (va_up (fun _ => none) 0 (some (N + 1)))) (N + 1) (fun _ => none)) 0 9 (some N)) g49.to h65_2
            refine lv_dup hC.1 hC.2.1 dX0_ask_68 rfl ?_
            refine lv_aload_n hC.1 hC.2.1 dX0_ask_69 rfl (lv_at hl 1 rfl) ?_
            refine lv_iload_n hC.1 hC.2.1 dX0_ask_70 rfl (lv_at hl 2 rfl) ?_
            refine M_I (n := 2) hC hl.1 hK hX hw (tX13_init l (N + 1 + 1 + 1) ad65_2 (va_up (va_up (va_up K N (3, 0)) (N + 1) (20, 16)) (N + 1 + 1) (9, 0)) (va_up (va_up (va_up I N (fun _ => nI 0)) (N + 1) (fun _ => nI 0)) (N + 1 + 1) (fun _ => nI 0)) (va_up (r2 (va_up (va_up R N (va_up (fun _ => none) 0 (some (N + 1)))) (N + 1) (fun _ => none)) 0 9 (some N)) (N + 1 + 1) (fun _ => none)) (N + 1 + 1) 0 k (by omega) (by rw [va_up_self]) (by omega)) q985 q986 q90 q987 rfl (by decide +kernel) ⟨by decide, by decide⟩ rfl rfl (Nat.le_of_ble_eq_true rfl) dX0_ask_71 ⟨by simp only [gN]; omega, by simp only [gN]; omega⟩ ?_
            rintro _ N2 ad3 K2 I2 R2 H locs ⟨I3, R3, e3, rfl, e4⟩ hg hw
            cases e3
            cases e4
            have h6 := h5.more (N' := N + 1 + 1 + 1) (K' := va_up (va_up (va_up K N (3, 0)) (N + 1) (20, 16)) (N + 1 + 1) (9, 0)) (I' := g2 (va_up (va_up (va_up I N (fun _ => nI 0)) (N + 1) (fun _ => nI 0)) (N + 1 + 1) (fun _ => nI 0)) (N + 1 + 1) 0 (nI k)) (R' := r2 (va_up (r2 (va_up (va_up R N (va_up (fun _ => none) 0 (some (N + 1)))) (N + 1) (fun _ => none)) 0 9 (some N)) (N + 1 + 1) (fun _ => none)) (N + 1 + 1) 1 (some 0)) (by omega) (fun m hm => ⟨va_up_ne _ _ (by omega), by rw [g2_ne _ _ _ (by omega), va_up_ne _ _ (by omega)], by rw [r2_ne _ _ _ _ (by omega), va_up_ne _ _ (by omega)]⟩)
            have ak : askR (N + 1 + 1 + 1) (va_up (va_up (va_up K N (3, 0)) (N + 1) (20, 16)) (N + 1 + 1) (9, 0)) (g2 (va_up (va_up (va_up I N (fun _ => nI 0)) (N + 1) (fun _ => nI 0)) (N + 1 + 1) (fun _ => nI 0)) (N + 1 + 1) 0 (nI k)) (r2 (va_up (r2 (va_up (va_up R N (va_up (fun _ => none) 0 (some (N + 1)))) (N + 1) (fun _ => none)) 0 9 (some N)) (N + 1 + 1) (fun _ => none)) (N + 1 + 1) 1 (some 0)) w (N + 1 + 1) k N := ⟨by rw [r2_ne _ _ _ _ (by omega), va_up_ne _ _ (by omega)]; exact r14, by rw [r2_ne _ _ _ _ (by omega), va_up_ne _ _ (by omega), r2_ap, if_pos ⟨rfl, rfl⟩], by omega, by omega, by rw [va_up_self], g2_at _ _ _ _, by rw [r2_ap, if_pos ⟨rfl, rfl⟩]⟩
            have hk16 : k < 16 := by omega
            obtain ⟨kd, wN, k1, k5, kk0, g9, i0, i1⟩ := ak.wk h6 hk16
            have hkd : kd = 1 ∨ kd = 2 ∨ kd = 3 ∨ kd = 4 ∨ kd = 5 := by omega
            refine lv_astore (lv' := [(4, .ref (ad65_2 (N + 1 + 1))), (3, .ref (ad65_2 w)), (0, .ref (ad65_2 0)), (1, .int (nI k)), (2, .int what)]) hC.1 hC.2.1 dX0_ask_74 hl (by decide) rfl (fun ls hl => ?_)
            refine lv_iload_n hC.1 hC.2.1 dX0_ask_76 rfl (lv_at hl 4 rfl) ?_
            refine lv_if_ne (tgt := 93) hC.1 hC.2.1 dX0_ask_77 (by decide) (fun c77 => ?_) (fun c77 => ?_)
            · refine lv_aload_n hC.1 hC.2.1 dX0_ask_93 rfl (lv_at hl 1 rfl) ?_
              refine lv_aload_n hC.1 hC.2.1 dX0_ask_94 rfl (lv_at hl 2 rfl) ?_
              refine x_ga hC hK hw (by omega) h6.k0 9 N ak.2.1 (by decide) rfl q211 rfl dX0_ask_95 ?_
              refine lv_aload hC.1 hC.2.1 dX0_ask_98 (lv_at hl 0 rfl) ?_
              rcases hkd with rfl | rfl | rfl | rfl | rfl
              · refine Z_U (n := 2) (owner := RX14) (x := ⟨RX4, "mark", dSM⟩) (C := RX5) (T := TX5) hC hl.1 hK hX hZ hst hw wN kk0 (by decide) rfl (tX5_mark_z l (N + 1 + 1 + 1) ad65_2 (va_up (va_up (va_up K N (3, 0)) (N + 1) (20, 16)) (N + 1 + 1) (9, 0)) (g2 (va_up (va_up (va_up I N (fun _ => nI 0)) (N + 1) (fun _ => nI 0)) (N + 1 + 1) (fun _ => nI 0)) (N + 1 + 1) 0 (nI k)) (r2 (va_up (r2 (va_up (va_up R N (va_up (fun _ => none) 0 (some (N + 1)))) (N + 1) (fun _ => none)) 0 9 (some N)) (N + 1 + 1) (fun _ => none)) (N + 1 + 1) 1 (some 0)) w N (N + 1 + 1) (g2 G 0 27 (nI 0)) true k 1 h6 ak hk16 g9 (by decide)) (cu_D hC.2.2.2.2 hZ (by decide +kernel) (by decide +kernel) q1051 q1052 q1093 q1037 q65 q1049 ⟨by decide, by decide⟩) rfl rfl (Nat.le_of_ble_eq_true rfl) dX0_ask_100 ⟨by simp only [gN]; omega, by simp only [gN]; omega⟩ ?_
                rintro _ N2 ad2 K2 I100 R100 H locs ⟨rfl, I8, R8, e8, b100, q100⟩ hg hw
                cases e8
                have em : mX6_markOf (g2 G 0 27 (nI 0)) k = (wmkR ((g2 G 0 27 (nI 0)) 6) k, wmkG (g2 G 0 27 (nI 0))) := mo1 g9
                exact M_iret hC hlk hw g65_2.to ⟨by simp only [gN]; omega, by simp only [gN]; omega⟩ hr rfl (by have eq : mX6_ask G (nI k) what = ((wmkR ((g2 G 0 27 (nI 0)) 6) k), wmkG (g2 G 0 27 (nI 0))) := (by simp [mX6_ask, h0.g4, bI_t0, c17, c24, c38, c77, gwk, z1, inc01, ix_nI (show k < 2147483648 by omega), em]); rw [eq]; dsimp only; exact ⟨rfl, b100⟩) dX0_ask_103
              · refine Z_U (n := 2) (owner := RX14) (x := ⟨RX4, "mark", dSM⟩) (C := RX9) (T := TX9) hC hl.1 hK hX hZ hst hw wN kk0 (by decide) rfl (tX9_mark_z l (N + 1 + 1 + 1) ad65_2 (va_up (va_up (va_up K N (3, 0)) (N + 1) (20, 16)) (N + 1 + 1) (9, 0)) (g2 (va_up (va_up (va_up I N (fun _ => nI 0)) (N + 1) (fun _ => nI 0)) (N + 1 + 1) (fun _ => nI 0)) (N + 1 + 1) 0 (nI k)) (r2 (va_up (r2 (va_up (va_up R N (va_up (fun _ => none) 0 (some (N + 1)))) (N + 1) (fun _ => none)) 0 9 (some N)) (N + 1 + 1) (fun _ => none)) (N + 1 + 1) 1 (some 0)) w N (N + 1 + 1) (g2 G 0 27 (nI 0)) true k 2 h6 ak hk16 g9 rfl) (cu_D hC.2.2.2.2 hZ (by decide +kernel) (by decide +kernel) q1051 q1052 q1090 q1041 q84 q1042 ⟨by decide, by decide⟩) rfl rfl (Nat.le_of_ble_eq_true rfl) dX0_ask_100 ⟨by simp only [gN]; omega, by simp only [gN]; omega⟩ ?_
                rintro _ N2 ad2 K2 I100 R100 H locs ⟨rfl, I8, R8, e8, b100, q100⟩ hg hw
                cases e8
                have em : mX6_markOf (g2 G 0 27 (nI 0)) k = (nI 2 * wmkR ((beginG (g2 G 0 27 (nI 0)) (nI 24)) 6) k, wmkG (beginG (g2 G 0 27 (nI 0)) (nI 24))) := mo2 g9
                exact M_iret hC hlk hw g65_2.to ⟨by simp only [gN]; omega, by simp only [gN]; omega⟩ hr rfl (by have eq : mX6_ask G (nI k) what = ((nI 2 * wmkR ((beginG (g2 G 0 27 (nI 0)) (nI 24)) 6) k), wmkG (beginG (g2 G 0 27 (nI 0)) (nI 24))) := (by simp [mX6_ask, h0.g4, bI_t0, c17, c24, c38, c77, gwk, z1, inc01, ix_nI (show k < 2147483648 by omega), em]); rw [eq]; dsimp only; exact ⟨rfl, b100⟩) dX0_ask_103
              · refine Z_U (n := 2) (owner := RX14) (x := ⟨RX4, "mark", dSM⟩) (C := RX10) (T := TX10) hC hl.1 hK hX hZ hst hw wN kk0 (by decide) rfl (tX10_mark_z l (N + 1 + 1 + 1) ad65_2 (va_up (va_up (va_up K N (3, 0)) (N + 1) (20, 16)) (N + 1 + 1) (9, 0)) (g2 (va_up (va_up (va_up I N (fun _ => nI 0)) (N + 1) (fun _ => nI 0)) (N + 1 + 1) (fun _ => nI 0)) (N + 1 + 1) 0 (nI k)) (r2 (va_up (r2 (va_up (va_up R N (va_up (fun _ => none) 0 (some (N + 1)))) (N + 1) (fun _ => none)) 0 9 (some N)) (N + 1 + 1) (fun _ => none)) (N + 1 + 1) 1 (some 0)) w N (N + 1 + 1) (g2 G 0 27 (nI 0)) true k 3 h6 ak hk16 g9 rfl) (cu_D hC.2.2.2.2 hZ (by decide +kernel) (by decide +kernel) q1051 q1052 q1091 q1045 q85 q1046 ⟨by decide, by decide⟩) rfl rfl (Nat.le_of_ble_eq_true rfl) dX0_ask_100 ⟨by simp only [gN]; omega, by simp only [gN]; omega⟩ ?_
                rintro _ N2 ad2 K2 I100 R100 H locs ⟨rfl, I8, R8, e8, b100, q100⟩ hg hw
                cases e8
                have em : mX6_markOf (g2 G 0 27 (nI 0)) k = (wmkR ((beginG (g2 G 0 27 (nI 0)) (nI 22)) 6) k - nI 1000, wmkG (beginG (g2 G 0 27 (nI 0)) (nI 22))) := mo3 g9
                exact M_iret hC hlk hw g65_2.to ⟨by simp only [gN]; omega, by simp only [gN]; omega⟩ hr rfl (by have eq : mX6_ask G (nI k) what = ((wmkR ((beginG (g2 G 0 27 (nI 0)) (nI 22)) 6) k - nI 1000), wmkG (beginG (g2 G 0 27 (nI 0)) (nI 22))) := (by simp [mX6_ask, h0.g4, bI_t0, c17, c24, c38, c77, gwk, z1, inc01, ix_nI (show k < 2147483648 by omega), em]); rw [eq]; dsimp only; exact ⟨rfl, b100⟩) dX0_ask_103
              · refine Z_U (n := 2) (owner := RX14) (x := ⟨RX4, "mark", dSM⟩) (C := RX11) (T := TX11) hC hl.1 hK hX hZ hst hw wN kk0 (by decide) rfl (tX11_mark_z l (N + 1 + 1 + 1) ad65_2 (va_up (va_up (va_up K N (3, 0)) (N + 1) (20, 16)) (N + 1 + 1) (9, 0)) (g2 (va_up (va_up (va_up I N (fun _ => nI 0)) (N + 1) (fun _ => nI 0)) (N + 1 + 1) (fun _ => nI 0)) (N + 1 + 1) 0 (nI k)) (r2 (va_up (r2 (va_up (va_up R N (va_up (fun _ => none) 0 (some (N + 1)))) (N + 1) (fun _ => none)) 0 9 (some N)) (N + 1 + 1) (fun _ => none)) (N + 1 + 1) 1 (some 0)) w N (N + 1 + 1) (g2 G 0 27 (nI 0)) true k 4 h6 ak hk16 g9 (by decide)) (cu_D hC.2.2.2.2 hZ (by decide +kernel) (by decide +kernel) q1051 q1052 q1086 q1087 q86 q1088 ⟨by decide, by decide⟩) rfl rfl (Nat.le_of_ble_eq_true rfl) dX0_ask_100 ⟨by simp only [gN]; omega, by simp only [gN]; omega⟩ ?_
                rintro _ N2 ad2 K2 I100 R100 H locs ⟨rfl, I8, R8, e8, b100, q100⟩ hg hw
                cases e8
                have em : mX6_markOf (g2 G 0 27 (nI 0)) k = ((mX6_markOf (g2 G 0 27 (nI 0)) k).1, (mX6_markOf (g2 G 0 27 (nI 0)) k).2) := rfl
                exact M_iret hC hlk hw g65_2.to ⟨by simp only [gN]; omega, by simp only [gN]; omega⟩ hr rfl (by have eq : mX6_ask G (nI k) what = (((mX6_markOf (g2 G 0 27 (nI 0)) k).1), (mX6_markOf (g2 G 0 27 (nI 0)) k).2) := (by simp [mX6_ask, h0.g4, bI_t0, c17, c24, c38, c77, gwk, z1, inc01, ix_nI (show k < 2147483648 by omega)]); rw [eq]; dsimp only; exact ⟨rfl, b100⟩) dX0_ask_103
              · refine Z_U (n := 2) (owner := RX14) (x := ⟨RX4, "mark", dSM⟩) (C := RX12) (T := TX12) hC hl.1 hK hX hZ hst hw wN kk0 (by decide) rfl (tX11_mark_z l (N + 1 + 1 + 1) ad65_2 (va_up (va_up (va_up K N (3, 0)) (N + 1) (20, 16)) (N + 1 + 1) (9, 0)) (g2 (va_up (va_up (va_up I N (fun _ => nI 0)) (N + 1) (fun _ => nI 0)) (N + 1 + 1) (fun _ => nI 0)) (N + 1 + 1) 0 (nI k)) (r2 (va_up (r2 (va_up (va_up R N (va_up (fun _ => none) 0 (some (N + 1)))) (N + 1) (fun _ => none)) 0 9 (some N)) (N + 1 + 1) (fun _ => none)) (N + 1 + 1) 1 (some 0)) w N (N + 1 + 1) (g2 G 0 27 (nI 0)) true k 5 h6 ak hk16 g9 (by decide)) (cu_D hC.2.2.2.2 hZ (by decide +kernel) (by decide +kernel) q1051 q1052 q1092 q1087 q86 q1088 ⟨by decide, by decide⟩) rfl rfl (Nat.le_of_ble_eq_true rfl) dX0_ask_100 ⟨by simp only [gN]; omega, by simp only [gN]; omega⟩ ?_
                rintro _ N2 ad2 K2 I100 R100 H locs ⟨rfl, I8, R8, e8, b100, q100⟩ hg hw
                cases e8
                have em : mX6_markOf (g2 G 0 27 (nI 0)) k = ((mX6_markOf (g2 G 0 27 (nI 0)) k).1, (mX6_markOf (g2 G 0 27 (nI 0)) k).2) := rfl
                exact M_iret hC hlk hw g65_2.to ⟨by simp only [gN]; omega, by simp only [gN]; omega⟩ hr rfl (by have eq : mX6_ask G (nI k) what = (((mX6_markOf (g2 G 0 27 (nI 0)) k).1), (mX6_markOf (g2 G 0 27 (nI 0)) k).2) := (by simp [mX6_ask, h0.g4, bI_t0, c17, c24, c38, c77, gwk, z1, inc01, ix_nI (show k < 2147483648 by omega)]); rw [eq]; dsimp only; exact ⟨rfl, b100⟩) dX0_ask_103
            · refine lv_aload_n hC.1 hC.2.1 dX0_ask_80 rfl (lv_at hl 1 rfl) ?_
              refine lv_aload_n hC.1 hC.2.1 dX0_ask_81 rfl (lv_at hl 2 rfl) ?_
              refine x_ga hC hK hw (by omega) h6.k0 9 N ak.2.1 (by decide) rfl q211 rfl dX0_ask_82 ?_
              refine lv_aload hC.1 hC.2.1 dX0_ask_85 (lv_at hl 0 rfl) ?_
              rcases hkd with rfl | rfl | rfl | rfl | rfl
              · refine Z_U (n := 2) (owner := RX14) (x := ⟨RX4, "size", dSM⟩) (C := RX5) (T := TX5) hC hl.1 hK hX hZ hst hw wN kk0 (by decide) rfl (tX5_size_z l (N + 1 + 1 + 1) ad65_2 (va_up (va_up (va_up K N (3, 0)) (N + 1) (20, 16)) (N + 1 + 1) (9, 0)) (g2 (va_up (va_up (va_up I N (fun _ => nI 0)) (N + 1) (fun _ => nI 0)) (N + 1 + 1) (fun _ => nI 0)) (N + 1 + 1) 0 (nI k)) (r2 (va_up (r2 (va_up (va_up R N (va_up (fun _ => none) 0 (some (N + 1)))) (N + 1) (fun _ => none)) 0 9 (some N)) (N + 1 + 1) (fun _ => none)) (N + 1 + 1) 1 (some 0)) w N (N + 1 + 1) (g2 G 0 27 (nI 0)) true k 1 h6 ak hk16 g9 (by decide)) (cu_D hC.2.2.2.2 hZ (by decide +kernel) (by decide +kernel) q1005 q1006 q1085 q1033 q65 q1034 ⟨by decide, by decide⟩) rfl rfl (Nat.le_of_ble_eq_true rfl) dX0_ask_87 ⟨by simp only [gN]; omega, by simp only [gN]; omega⟩ ?_
                rintro _ N2 ad2 K2 I87 R87 H locs ⟨rfl, I8, R8, e8, b87, q87⟩ hg hw
                cases e8
                have em : mX6_sizeOf (g2 G 0 27 (nI 0)) k = ((mX6_wallSize (g2 G 0 27 (nI 0)) k).1, (mX6_wallSize (g2 G 0 27 (nI 0)) k).2) := so1 g9 (by decide)
                refine lv_goto (tgt := 103) hC.1 hC.2.1 dX0_ask_90 (by decide) ?_
                exact M_iret hC hlk hw g65_2.to ⟨by simp only [gN]; omega, by simp only [gN]; omega⟩ hr rfl (by have eq : mX6_ask G (nI k) what = (((mX6_wallSize (g2 G 0 27 (nI 0)) k).1), (mX6_wallSize (g2 G 0 27 (nI 0)) k).2) := (by simp [mX6_ask, h0.g4, bI_t0, c17, c24, c38, c77, gwk, z1, inc01, ix_nI (show k < 2147483648 by omega), em]); rw [eq]; dsimp only; exact ⟨rfl, b87⟩) dX0_ask_103
              · refine Z_U (n := 2) (owner := RX14) (x := ⟨RX4, "size", dSM⟩) (C := RX9) (T := TX9) hC hl.1 hK hX hZ hst hw wN kk0 (by decide) rfl (tX9_size_z l (N + 1 + 1 + 1) ad65_2 (va_up (va_up (va_up K N (3, 0)) (N + 1) (20, 16)) (N + 1 + 1) (9, 0)) (g2 (va_up (va_up (va_up I N (fun _ => nI 0)) (N + 1) (fun _ => nI 0)) (N + 1 + 1) (fun _ => nI 0)) (N + 1 + 1) 0 (nI k)) (r2 (va_up (r2 (va_up (va_up R N (va_up (fun _ => none) 0 (some (N + 1)))) (N + 1) (fun _ => none)) 0 9 (some N)) (N + 1 + 1) (fun _ => none)) (N + 1 + 1) 1 (some 0)) w N (N + 1 + 1) (g2 G 0 27 (nI 0)) true k 2 h6 ak hk16 g9 rfl) (cu_D hC.2.2.2.2 hZ (by decide +kernel) (by decide +kernel) q1005 q1006 q1028 q1029 q84 q1030 ⟨by decide, by decide⟩) rfl rfl (Nat.le_of_ble_eq_true rfl) dX0_ask_87 ⟨by simp only [gN]; omega, by simp only [gN]; omega⟩ ?_
                rintro _ N2 ad2 K2 I87 R87 H locs ⟨rfl, I8, R8, e8, b87, q87⟩ hg hw
                cases e8
                have em : mX6_sizeOf (g2 G 0 27 (nI 0)) k = (-(mX6_wallSize (beginG (g2 G 0 27 (nI 0)) (nI 12)) k).1, (mX6_wallSize (beginG (g2 G 0 27 (nI 0)) (nI 12)) k).2) := so2 g9
                refine lv_goto (tgt := 103) hC.1 hC.2.1 dX0_ask_90 (by decide) ?_
                exact M_iret hC hlk hw g65_2.to ⟨by simp only [gN]; omega, by simp only [gN]; omega⟩ hr rfl (by have eq : mX6_ask G (nI k) what = ((-(mX6_wallSize (beginG (g2 G 0 27 (nI 0)) (nI 12)) k).1), (mX6_wallSize (beginG (g2 G 0 27 (nI 0)) (nI 12)) k).2) := (by simp [mX6_ask, h0.g4, bI_t0, c17, c24, c38, c77, gwk, z1, inc01, ix_nI (show k < 2147483648 by omega), em]); rw [eq]; dsimp only; exact ⟨rfl, b87⟩) dX0_ask_103
              · refine Z_U (n := 2) (owner := RX14) (x := ⟨RX4, "size", dSM⟩) (C := RX10) (T := TX10) hC hl.1 hK hX hZ hst hw wN kk0 (by decide) rfl (tX5_size_z l (N + 1 + 1 + 1) ad65_2 (va_up (va_up (va_up K N (3, 0)) (N + 1) (20, 16)) (N + 1 + 1) (9, 0)) (g2 (va_up (va_up (va_up I N (fun _ => nI 0)) (N + 1) (fun _ => nI 0)) (N + 1 + 1) (fun _ => nI 0)) (N + 1 + 1) 0 (nI k)) (r2 (va_up (r2 (va_up (va_up R N (va_up (fun _ => none) 0 (some (N + 1)))) (N + 1) (fun _ => none)) 0 9 (some N)) (N + 1 + 1) (fun _ => none)) (N + 1 + 1) 1 (some 0)) w N (N + 1 + 1) (g2 G 0 27 (nI 0)) true k 3 h6 ak hk16 g9 (by decide)) (cu_D hC.2.2.2.2 hZ (by decide +kernel) (by decide +kernel) q1005 q1006 q1079 q1033 q65 q1034 ⟨by decide, by decide⟩) rfl rfl (Nat.le_of_ble_eq_true rfl) dX0_ask_87 ⟨by simp only [gN]; omega, by simp only [gN]; omega⟩ ?_
                rintro _ N2 ad2 K2 I87 R87 H locs ⟨rfl, I8, R8, e8, b87, q87⟩ hg hw
                cases e8
                have em : mX6_sizeOf (g2 G 0 27 (nI 0)) k = ((mX6_wallSize (g2 G 0 27 (nI 0)) k).1, (mX6_wallSize (g2 G 0 27 (nI 0)) k).2) := so1 g9 (by decide)
                refine lv_goto (tgt := 103) hC.1 hC.2.1 dX0_ask_90 (by decide) ?_
                exact M_iret hC hlk hw g65_2.to ⟨by simp only [gN]; omega, by simp only [gN]; omega⟩ hr rfl (by have eq : mX6_ask G (nI k) what = (((mX6_wallSize (g2 G 0 27 (nI 0)) k).1), (mX6_wallSize (g2 G 0 27 (nI 0)) k).2) := (by simp [mX6_ask, h0.g4, bI_t0, c17, c24, c38, c77, gwk, z1, inc01, ix_nI (show k < 2147483648 by omega), em]); rw [eq]; dsimp only; exact ⟨rfl, b87⟩) dX0_ask_103
              · refine Z_U (n := 2) (owner := RX14) (x := ⟨RX4, "size", dSM⟩) (C := RX11) (T := TX11) hC hl.1 hK hX hZ hst hw wN kk0 (by decide) rfl (tX11_size_z l (N + 1 + 1 + 1) ad65_2 (va_up (va_up (va_up K N (3, 0)) (N + 1) (20, 16)) (N + 1 + 1) (9, 0)) (g2 (va_up (va_up (va_up I N (fun _ => nI 0)) (N + 1) (fun _ => nI 0)) (N + 1 + 1) (fun _ => nI 0)) (N + 1 + 1) 0 (nI k)) (r2 (va_up (r2 (va_up (va_up R N (va_up (fun _ => none) 0 (some (N + 1)))) (N + 1) (fun _ => none)) 0 9 (some N)) (N + 1 + 1) (fun _ => none)) (N + 1 + 1) 1 (some 0)) w N (N + 1 + 1) (g2 G 0 27 (nI 0)) true k 4 h6 ak hk16 g9 (by decide)) (cu_D hC.2.2.2.2 hZ (by decide +kernel) (by decide +kernel) q1005 q1006 q998 q999 q86 q1000 ⟨by decide, by decide⟩) rfl rfl (Nat.le_of_ble_eq_true rfl) dX0_ask_87 ⟨by simp only [gN]; omega, by simp only [gN]; omega⟩ ?_
                rintro _ N2 ad2 K2 I87 R87 H locs ⟨rfl, I8, R8, e8, b87, q87⟩ hg hw
                cases e8
                have em : mX6_sizeOf (g2 G 0 27 (nI 0)) k = (hszR ((g2 G 0 27 (nI 0)) 6) k, hszG (g2 G 0 27 (nI 0))) := (so4 g9 (by decide)).trans (sh4 g9)
                refine lv_goto (tgt := 103) hC.1 hC.2.1 dX0_ask_90 (by decide) ?_
                exact M_iret hC hlk hw g65_2.to ⟨by simp only [gN]; omega, by simp only [gN]; omega⟩ hr rfl (by have eq : mX6_ask G (nI k) what = ((hszR ((g2 G 0 27 (nI 0)) 6) k), hszG (g2 G 0 27 (nI 0))) := (by simp [mX6_ask, h0.g4, bI_t0, c17, c24, c38, c77, gwk, z1, inc01, ix_nI (show k < 2147483648 by omega), em]); rw [eq]; dsimp only; exact ⟨rfl, b87⟩) dX0_ask_103
              · refine Z_U (n := 2) (owner := RX14) (x := ⟨RX4, "size", dSM⟩) (C := RX12) (T := TX12) hC hl.1 hK hX hZ hst hw wN kk0 (by decide) rfl (tX12_size_z l (N + 1 + 1 + 1) ad65_2 (va_up (va_up (va_up K N (3, 0)) (N + 1) (20, 16)) (N + 1 + 1) (9, 0)) (g2 (va_up (va_up (va_up I N (fun _ => nI 0)) (N + 1) (fun _ => nI 0)) (N + 1 + 1) (fun _ => nI 0)) (N + 1 + 1) 0 (nI k)) (r2 (va_up (r2 (va_up (va_up R N (va_up (fun _ => none) 0 (some (N + 1)))) (N + 1) (fun _ => none)) 0 9 (some N)) (N + 1 + 1) (fun _ => none)) (N + 1 + 1) 1 (some 0)) w N (N + 1 + 1) (g2 G 0 27 (nI 0)) true k 5 h6 ak hk16 g9 rfl) (cu_D hC.2.2.2.2 hZ (by decide +kernel) (by decide +kernel) q1005 q1006 q1080 q1081 q87 q1082 ⟨by decide, by decide⟩) rfl rfl (Nat.le_of_ble_eq_true rfl) dX0_ask_87 ⟨by simp only [gN]; omega, by simp only [gN]; omega⟩ ?_
                rintro _ N2 ad2 K2 I87 R87 H locs ⟨rfl, I8, R8, e8, b87, q87⟩ hg hw
                cases e8
                have em : mX6_sizeOf (g2 G 0 27 (nI 0)) k = (nI 2 * hszR ((beginG (g2 G 0 27 (nI 0)) (nI 14)) 6) k, hszG (beginG (g2 G 0 27 (nI 0)) (nI 14))) := (so4 g9 (by decide)).trans (sh5 g9)
                refine lv_goto (tgt := 103) hC.1 hC.2.1 dX0_ask_90 (by decide) ?_
                exact M_iret hC hlk hw g65_2.to ⟨by simp only [gN]; omega, by simp only [gN]; omega⟩ hr rfl (by have eq : mX6_ask G (nI k) what = ((nI 2 * hszR ((beginG (g2 G 0 27 (nI 0)) (nI 14)) 6) k), hszG (beginG (g2 G 0 27 (nI 0)) (nI 14))) := (by simp [mX6_ask, h0.g4, bI_t0, c17, c24, c38, c77, gwk, z1, inc01, ix_nI (show k < 2147483648 by omega), em]); rw [eq]; dsimp only; exact ⟨rfl, b87⟩) dX0_ask_103
          · exact absurd c38 (by rw [z1]; simp)
      · refine lv_ldc hC.1 hC.2.1 hC.2.2.2.1 (hC.2.2.2.2 _ q337) dX0_ask_27 ?_
        exact M_iret hC hlk hw gGo.rf ⟨by simp only [gN]; omega, by simp only [gN]; omega⟩ hr rfl (by have eq : mX6_ask G cell what = ((-1000001 : Int32), G) := (by simp [mX6_ask, h0.g4, bI_t0, bI_f0, inc01, inc11, inc03, inc13, inc23, inc10, inc20, inc21, c17, c24]); rw [eq]; exact ⟨rfl, h0⟩) dX0_ask_29
  · refine lv_ldc hC.1 hC.2.1 hC.2.2.2.1 (hC.2.2.2.2 _ q703) dX0_ask_10 ?_
    exact M_iret hC hlk hw gGo.rf ⟨by simp only [gN]; omega, by simp only [gN]; omega⟩ hr rfl (by have eq : mX6_ask G cell what = ((-1000002 : Int32), G) := (by simp [mX6_ask, h0.g4, bI_t0, bI_f0, inc01, inc11, inc03, inc13, inc23, inc10, inc20, inc21, c7]); rw [eq]; exact ⟨rfl, h0⟩) dX0_ask_12
