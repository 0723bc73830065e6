/-! ===== WindCarver: lots, breaks (by gen/w48.py) ===== -/
theorem wk_cnt {dom : List Nat} {K : gK} {I : mG} {R : gR} {u : Nat} {st : vV} (h : psR dom K I R u st) : ∀ n, n ≤ 16 → wkN (R (u + 3)) n = cntW st n
  | 0, _ => rfl
  | n + 1, hn => by
    show wkN _ n + (if (R (u + 3) n).isSome = true then 1 else 0) = cntW st n + (if isWk st n = true then 1 else 0)
    rw [wk_cnt h n (by omega), h.wk (by omega)]
theorem ls_way (st : vV) (c : Int32) (s : Nat) : (ltF st c (nI s) 16).1 = wyF c (nI s) (cntW st 16) := by
  rw [lt_way, lt_many st c (nI s) 16 (Nat.le_refl _)]

set_option maxHeartbeats 800000 in
theorem tX0_lots (l : Launch) (N : Nat) (ad : Nat → Nat) (K : gK) (I : mG) (R : gR) (cell : Int32) (v : Int32) (c : Int32) (what : Int32) (G : mG) (b : Bool) (h0 : wB N K I R (G 6) b) (h1 : G 0 4 = bI b) : gA l yX0_lots (ws_ yX0_lots cX0_lots 11 (some FieldType.int)) ({ frames := 5, cells := 0, slots := 0, locals := 127 } : Room) [.ref (ad 0), .int cell, .int v, .int c, .int what] N ad K I R (fun rv S => rv = some (.int (mX6_lots G cell v c what).1) ∧ pOff 17 I S.1 R S.2) := by
  refine gM.of (by decide) (Nat.le_of_ble_eq_true rfl) ?_
  intro D dA p e s m args below meth cd ls hC hlk hr hin hK hX hl hw
  have hl : lv_has ls 11 [(0, .ref (ad 0)), (1, .int cell), (2, .int v), (3, .int c), (4, .int what)] := hl
  have hge := h0.ge
  refine lv_aload_n hC.1 hC.2.1 dX0_lots_0 rfl (lv_at hl 0 rfl) ?_
  refine x_ga hC hK hw (by omega) h0.k0 4 11 h0.r4 (by decide) rfl q206 rfl dX0_lots_1 ?_
  refine p_gi hC hK hw h0.ps.1 0 (by decide) rfl q124 rfl (v := (bI b)) (h0.told) dX0_lots_4 ?_
  refine k_bne (tgt := 13) hC dX0_lots_7 (by decide) (fun c7 => ?_) (fun c7 => ?_)
  · refine lv_iload_n hC.1 hC.2.1 dX0_lots_13 rfl (lv_at hl 1 rfl) ?_
    refine pS_call (n := 1) hC hl.1 (tX0_isCell l cell ) (lw_S q704 q705 q60 q706) rfl rfl (by decide +kernel) ⟨by decide, by decide⟩ rfl rfl (Nat.le_of_ble_eq_true rfl) dX0_lots_14 ⟨Nat.zero_le _, Nat.zero_le _⟩ ?_
    refine k_beq (tgt := 52) hC dX0_lots_17 (by decide) (fun c17 => ?_) (fun c17 => ?_)
    · refine lv_ldc hC.1 hC.2.1 hC.2.2.2.1 (hC.2.2.2.2 _ q337) dX0_lots_52 ?_
      exact M_iret hC hlk hw gGo.rf ⟨by simp only [gN]; omega, by simp only [gN]; omega⟩ hr rfl (⟨_, _, rfl, congrArg (fun z => some (Value.int z)) (by simp [mX6_lots, h1, bI_t0, bI_f0, inc01, inc11, inc03, inc13, inc23, inc10, inc20, inc21, c7, c17]), pOff.rf⟩) dX0_lots_54
    · obtain ⟨q, hq, rfl⟩ := inB_nat (n := 15) (by decide) c17
      refine lv_iload_n hC.1 hC.2.1 dX0_lots_20 rfl (lv_at hl 2 rfl) ?_
      refine lv_i2l hC.1 hC.2.1 dX0_lots_21 rfl ?_
      refine lv_lconst (v := 0) hC.1 hC.2.1 dX0_lots_22 (by decide) ?_
      refine lv_ldc2 hC.1 hC.2.1 hC.2.2.2.1 (hC.2.2.2.2 _ q712) dX0_lots_23 ?_
      refine pS_call (n := 3) hC hl.1 (tX0_isInI l v 0 (nI 99)) (lw_S q333 q334 q60 q335) rfl rfl (by decide +kernel) ⟨by decide, by decide⟩ rfl rfl (Nat.le_of_ble_eq_true rfl) dX0_lots_26 ⟨Nat.zero_le _, Nat.zero_le _⟩ ?_
      refine k_beq (tgt := 52) hC dX0_lots_29 (by decide) (fun c29 => ?_) (fun c29 => ?_)
      · refine lv_ldc hC.1 hC.2.1 hC.2.2.2.1 (hC.2.2.2.2 _ q337) dX0_lots_52 ?_
        exact M_iret hC hlk hw gGo.rf ⟨by simp only [gN]; omega, by simp only [gN]; omega⟩ hr rfl (⟨_, _, rfl, congrArg (fun z => some (Value.int z)) (by simp [mX6_lots, h1, bI_t0, bI_f0, inc01, inc11, inc03, inc13, inc23, inc10, inc20, inc21, c7, c17, c29, ix_nI (show q < 2147483648 by omega)]), pOff.rf⟩) dX0_lots_54
      · refine lv_iload_n hC.1 hC.2.1 dX0_lots_32 rfl (lv_at hl 3 rfl) ?_
        refine lv_i2l hC.1 hC.2.1 dX0_lots_33 rfl ?_
        refine lv_lconst (v := 0) hC.1 hC.2.1 dX0_lots_34 (by decide) ?_
        refine lv_ldc2 hC.1 hC.2.1 hC.2.2.2.1 (hC.2.2.2.2 _ q928) dX0_lots_35 ?_
        refine pS_call (n := 3) hC hl.1 (tX0_isInI l c 0 (nI 10)) (lw_S q333 q334 q60 q335) rfl rfl (by decide +kernel) ⟨by decide, by decide⟩ rfl rfl (Nat.le_of_ble_eq_true rfl) dX0_lots_38 ⟨Nat.zero_le _, Nat.zero_le _⟩ ?_
        refine k_beq (tgt := 52) hC dX0_lots_41 (by decide) (fun c41 => ?_) (fun c41 => ?_)
        · refine lv_ldc hC.1 hC.2.1 hC.2.2.2.1 (hC.2.2.2.2 _ q337) dX0_lots_52 ?_
          exact M_iret hC hlk hw gGo.rf ⟨by simp only [gN]; omega, by simp only [gN]; omega⟩ hr rfl (⟨_, _, rfl, congrArg (fun z => some (Value.int z)) (by simp [mX6_lots, h1, bI_t0, bI_f0, inc01, inc11, inc03, inc13, inc23, inc10, inc20, inc21, c7, c17, c29, c41, ix_nI (show q < 2147483648 by omega)]), pOff.rf⟩) dX0_lots_54
        · refine lv_iload hC.1 hC.2.1 dX0_lots_44 (lv_at hl 4 rfl) ?_
          refine pS_call (n := 1) hC hl.1 (tX0_isHalf l what ) (lw_S q847 q848 q60 q849) rfl rfl (by decide +kernel) ⟨by decide, by decide⟩ rfl rfl (Nat.le_of_ble_eq_true rfl) dX0_lots_46 ⟨Nat.zero_le _, Nat.zero_le _⟩ ?_
          refine k_bne (tgt := 55) hC dX0_lots_49 (by decide) (fun c49 => ?_) (fun c49 => ?_)
          · refine lv_aload_n hC.1 hC.2.1 dX0_lots_55 rfl (lv_at hl 0 rfl) ?_
            refine x_ga hC hK hw (by omega) h0.k0 4 11 h0.r4 (by decide) rfl q206 rfl dX0_lots_56 ?_
            refine g_calli (n := 0) (C := RX2) (T := TX2) hC hl.1 hK hX hw (h0.ps.1).1.1 (h0.ps.1).2.1.1 (by decide) rfl (tX2_many l (List.range N) ad K I R 11 (h0.ps.1)) (lw_V q694 q640 q641 q62 q642) rfl rfl (by decide +kernel) ⟨by decide, by decide⟩ rfl rfl (Nat.le_of_ble_eq_true rfl) dX0_lots_59 ⟨Nat.zero_le _, Nat.zero_le _⟩ ?_
            rintro r_2 I2 R2 H locs ⟨hr2, hS2⟩ hw
            rw [hr2]
            replace hw := hw.eq (Prod.mk.inj hS2).1 (Prod.mk.inj hS2).2
            clear hS2
            rw [wk_cnt h0.ps 16 (Nat.le_refl _)]
            refine lv_istore (lv' := [(5, .int (nI (cntW (G 6) 16))), (0, .ref (ad 0)), (1, .int (nI q)), (2, .int v), (3, .int c), (4, .int what)]) hC.1 hC.2.1 dX0_lots_62 hl (by decide) rfl (fun ls hl => ?_)
            refine lv_iconst (v := (nI 0)) hC.1 hC.2.1 dX0_lots_64 (by decide) ?_
            refine lv_istore (lv' := [(6, .int (nI 0)), (5, .int (nI (cntW (G 6) 16))), (0, .ref (ad 0)), (1, .int (nI q)), (2, .int v), (3, .int c), (4, .int what)]) hC.1 hC.2.1 dX0_lots_65 hl (by decide) rfl (fun ls hl => ?_)
            refine lv_iconst (v := (nI 0)) hC.1 hC.2.1 dX0_lots_67 (by decide) ?_
            refine lv_istore (lv' := [(7, .int (nI 0)), (6, .int (nI 0)), (5, .int (nI (cntW (G 6) 16))), (0, .ref (ad 0)), (1, .int (nI q)), (2, .int v), (3, .int c), (4, .int what)]) hC.1 hC.2.1 dX0_lots_68 hl (by decide) rfl (fun ls hl => ?_)
            refine lv_iconst (v := (nI 0)) hC.1 hC.2.1 dX0_lots_70 (by decide) ?_
            refine lv_istore (lv' := [(8, .int (nI 0)), (7, .int (nI 0)), (6, .int (nI 0)), (5, .int (nI (cntW (G 6) 16))), (0, .ref (ad 0)), (1, .int (nI q)), (2, .int v), (3, .int c), (4, .int what)]) hC.1 hC.2.1 dX0_lots_71 hl (by decide) rfl (fun ls hl => ?_)
            have hcn := cntW_le (G 6) 16
            have hpw : 2 ^ cntW (G 6) 16 ≤ 65536 := Nat.pow_le_pow_right (n := 2) (by decide) hcn
            refine W.loop (fun ls d H locs => ∃ Ix Rx, lv_has ls 11 [(0, .ref (ad 0)), (1, .int (nI q)), (2, .int v), (3, .int c), (4, .int what), (5, .int (nI (cntW (G 6) 16))), (6, .int (lsF (G 6) q v c d)), (7, .int (wsF c (cntW (G 6) 16) d)), (8, .int (nI d))] ∧ gw D dA (nA (List.range N) ad s.heap.size) s.heap (List.range N) ad K Ix Rx H locs ∧ (pOff 17 I Ix R Rx) ∧ (d ≤ 2 ^ cntW (G 6) 16)) 73 (fun _ => []) (fun d => 2 ^ cntW (G 6) 16 - d) ?_ 0 ⟨_, _, hl.sub' [4, 5, 6, 7, 8, 3, 2, 1, 0] (by rfl), hw, pOff.rf, Nat.zero_le _⟩
            rintro ls d H locs ⟨Ix, Rx, hl, hw, ox, hd⟩ ih73
            have wx := h0.off ox
            refine lv_iload hC.1 hC.2.1 dX0_lots_73 (lv_at hl 8 rfl) ?_
            refine lv_iconst (v := (nI 1)) hC.1 hC.2.1 dX0_lots_75 (by decide) ?_
            refine lv_iload hC.1 hC.2.1 dX0_lots_76 (lv_at hl 5 rfl) ?_
            refine lv_ishl hC.1 hC.2.1 dX0_lots_78 ?_
            rw [shl_pow _ hcn]
            refine k_ge (tgt := 159) hC (by omega) (by omega) dX0_lots_79 (by decide) (fun c79 => ?_) (fun c79 => ?_)
            · have eD : d = 2 ^ cntW (G 6) 16 := by omega
              rw [eD, ws_all _ _ hcn] at hl
              refine lv_iload hC.1 hC.2.1 dX0_lots_159 (lv_at hl 6 rfl) ?_
              refine lv_iload hC.1 hC.2.1 dX0_lots_161 (lv_at hl 7 rfl) ?_
              refine pS_call (n := 2) hC hl.1 (tX0_common l (lsF (G 6) q v c (2 ^ cntW (G 6) 16)) (pwF (cntW (G 6) 16)) ) (lw_S q934 q935 q60 q936) rfl rfl (by decide +kernel) ⟨by decide, by decide⟩ rfl rfl (Nat.le_of_ble_eq_true rfl) dX0_lots_163 ⟨Nat.zero_le _, Nat.zero_le _⟩ ?_
              refine lv_istore (lv' := [(8, .int (gcdV (lsF (G 6) q v c (2 ^ cntW (G 6) 16)) (pwF (cntW (G 6) 16)))), (0, .ref (ad 0)), (1, .int (nI q)), (2, .int v), (3, .int c), (4, .int what), (5, .int (nI (cntW (G 6) 16))), (6, .int (lsF (G 6) q v c (2 ^ cntW (G 6) 16))), (7, .int (pwF (cntW (G 6) 16)))]) hC.1 hC.2.1 dX0_lots_166 hl (by decide) rfl (fun ls hl => ?_)
              refine lv_iload hC.1 hC.2.1 dX0_lots_168 (lv_at hl 5 rfl) ?_
              refine lv_if_ne (tgt := 178) hC.1 hC.2.1 dX0_lots_170 (by decide) (fun c170 => ?_) (fun c170 => ?_)
              · refine lv_iload hC.1 hC.2.1 dX0_lots_178 (lv_at hl 8 rfl) ?_
                refine lv_iload hC.1 hC.2.1 dX0_lots_180 (lv_at hl 0 rfl) ?_
                refine lv_idiv hC.1 hC.2.1 dX0_lots_182 (gcdV_ne (pwF_ne _ hcn)) ?_
                exact M_iret hC hlk hw gGo.rf ⟨by simp only [gN]; omega, by simp only [gN]; omega⟩ hr rfl (⟨_, _, rfl, congrArg (fun z => some (Value.int z)) (by rw [(show (mX6_lots G (nI q) v c what).1 = lotsV (G 6) q v c what from by simp [mX6_lots, h1, bI_t0, c7, c17, c29, c41, c49, ix_nI (show q < 2147483648 by omega)])]; unfold lotsV; rw [if_pos c170]), ox⟩) dX0_lots_183
              · refine lv_iload hC.1 hC.2.1 dX0_lots_173 (lv_at hl 7 rfl) ?_
                refine lv_goto (tgt := 180) hC.1 hC.2.1 dX0_lots_175 (by decide) ?_
                refine lv_iload hC.1 hC.2.1 dX0_lots_180 (lv_at hl 0 rfl) ?_
                refine lv_idiv hC.1 hC.2.1 dX0_lots_182 (gcdV_ne (pwF_ne _ hcn)) ?_
                exact M_iret hC hlk hw gGo.rf ⟨by simp only [gN]; omega, by simp only [gN]; omega⟩ hr rfl (⟨_, _, rfl, congrArg (fun z => some (Value.int z)) (by rw [(show (mX6_lots G (nI q) v c what).1 = lotsV (G 6) q v c what from by simp [mX6_lots, h1, bI_t0, c7, c17, c29, c41, c49, ix_nI (show q < 2147483648 by omega)])]; unfold lotsV; rw [if_neg (not_not_intro c170)]), ox⟩) dX0_lots_183
            · refine lv_iconst (v := (nI 1)) hC.1 hC.2.1 dX0_lots_82 (by decide) ?_
              refine lv_istore (lv' := [(9, .int (nI 1)), (0, .ref (ad 0)), (1, .int (nI q)), (2, .int v), (3, .int c), (4, .int what), (5, .int (nI (cntW (G 6) 16))), (6, .int (lsF (G 6) q v c d)), (7, .int (wsF c (cntW (G 6) 16) d)), (8, .int (nI d))]) hC.1 hC.2.1 dX0_lots_83 hl (by decide) rfl (fun ls hl => ?_)
              refine lv_iconst (v := (nI 0)) hC.1 hC.2.1 dX0_lots_85 (by decide) ?_
              refine lv_istore (lv' := [(10, .int (nI 0)), (9, .int (nI 1)), (0, .ref (ad 0)), (1, .int (nI q)), (2, .int v), (3, .int c), (4, .int what), (5, .int (nI (cntW (G 6) 16))), (6, .int (lsF (G 6) q v c d)), (7, .int (wsF c (cntW (G 6) 16) d)), (8, .int (nI d))]) hC.1 hC.2.1 dX0_lots_86 hl (by decide) rfl (fun ls hl => ?_)
              refine W.loop (fun ls k H locs => lv_has ls 11 [(0, .ref (ad 0)), (1, .int (nI q)), (2, .int v), (3, .int c), (4, .int what), (5, .int (nI (cntW (G 6) 16))), (6, .int (lsF (G 6) q v c d)), (7, .int (wsF c (cntW (G 6) 16) d)), (8, .int (nI d)), (9, .int (wyF c (nI d) k)), (10, .int (nI k))] ∧ gw D dA (nA (List.range N) ad s.heap.size) s.heap (List.range N) ad K Ix Rx H locs ∧ (k ≤ cntW (G 6) 16)) 88 (fun _ => []) (fun k => cntW (G 6) 16 - k) ?_ 0 ⟨hl.sub' [2, 3, 4, 5, 6, 7, 8, 9, 10, 1, 0] (by rfl), hw, by omega⟩
              rintro ls k H locs ⟨hl, hw, hk⟩ ih88
              refine lv_iload hC.1 hC.2.1 dX0_lots_88 (lv_at hl 10 rfl) ?_
              refine lv_iload hC.1 hC.2.1 dX0_lots_90 (lv_at hl 5 rfl) ?_
              refine k_ge (tgt := 124) hC (by omega) (by omega) dX0_lots_92 (by decide) (fun c92 => ?_) (fun c92 => ?_)
              · have eK : k = cntW (G 6) 16 := by omega
                rw [eK] at hl
                refine lv_iload hC.1 hC.2.1 dX0_lots_124 (lv_at hl 7 rfl) ?_
                refine lv_iload hC.1 hC.2.1 dX0_lots_126 (lv_at hl 9 rfl) ?_
                refine lv_iadd hC.1 hC.2.1 dX0_lots_128 ?_
                refine lv_istore (lv' := [(7, .int ((wsF c (cntW (G 6) 16) d) + (wyF c (nI d) (cntW (G 6) 16)))), (0, .ref (ad 0)), (1, .int (nI q)), (2, .int v), (3, .int c), (4, .int what), (5, .int (nI (cntW (G 6) 16))), (6, .int (lsF (G 6) q v c d)), (8, .int (nI d)), (9, .int (wyF c (nI d) (cntW (G 6) 16))), (10, .int (nI (cntW (G 6) 16)))]) hC.1 hC.2.1 dX0_lots_129 hl (by decide) rfl (fun ls hl => ?_)
                refine lv_iload hC.1 hC.2.1 dX0_lots_131 (lv_at hl 7 rfl) ?_
                refine lv_aload_n hC.1 hC.2.1 dX0_lots_133 rfl (lv_at hl 1 rfl) ?_
                refine lv_iload_n hC.1 hC.2.1 dX0_lots_134 rfl (lv_at hl 2 rfl) ?_
                refine lv_iload_n hC.1 hC.2.1 dX0_lots_135 rfl (lv_at hl 3 rfl) ?_
                refine lv_iload hC.1 hC.2.1 dX0_lots_136 (lv_at hl 8 rfl) ?_
                refine M_V (n := 3) (C := RX0) (T := TX0) hC hl.1 hK hX hw (by omega) wx.k0 (by decide) rfl (tX0_isFelt l N ad K Ix Rx q v d (G 6) b c (wx) (by omega)) (lw_V q930 q932 qs26 q60 q933) (by decide +kernel) ⟨by decide, by decide⟩ rfl rfl (Nat.le_of_ble_eq_true rfl) dX0_lots_138 ⟨by simp only [gN]; omega, by simp only [gN]; omega⟩ ?_
                rintro _ N2 ad2 K2 I138 R138 H locs ⟨I3, R3, e3, rfl, o138⟩ hg hw
                cases e3
                dsimp only at o138
                have w138 := (wx).off o138
                refine k_beq (tgt := 149) hC dX0_lots_141 (by decide) (fun c141 => ?_) (fun c141 => ?_)
                · refine lv_iconst (v := (nI 0)) hC.1 hC.2.1 dX0_lots_149 (by decide) ?_
                  refine lv_iadd hC.1 hC.2.1 dX0_lots_150 ?_
                  refine lv_istore (lv' := [(6, .int ((lsF (G 6) q v c d) + (nI 0))), (7, .int ((wsF c (cntW (G 6) 16) d) + (wyF c (nI d) (cntW (G 6) 16)))), (0, .ref (ad 0)), (1, .int (nI q)), (2, .int v), (3, .int c), (4, .int what), (5, .int (nI (cntW (G 6) 16))), (8, .int (nI d)), (9, .int (wyF c (nI d) (cntW (G 6) 16))), (10, .int (nI (cntW (G 6) 16)))]) hC.1 hC.2.1 dX0_lots_151 hl (by decide) rfl (fun ls hl => ?_)
                  refine k_iinc (k := 8) (d := 1) (lv' := [(8, .int (nI (d + 1))), (6, .int ((lsF (G 6) q v c d) + (nI 0))), (7, .int ((wsF c (cntW (G 6) 16) d) + (wyF c (nI d) (cntW (G 6) 16)))), (0, .ref (ad 0)), (1, .int (nI q)), (2, .int v), (3, .int c), (4, .int what), (5, .int (nI (cntW (G 6) 16))), (9, .int (wyF c (nI d) (cntW (G 6) 16))), (10, .int (nI (cntW (G 6) 16)))]) hC dX0_lots_153 hl rfl (by decide) (by decide) rfl (fun ls hl => ?_)
                  refine lv_goto (tgt := 73) hC.1 hC.2.1 dX0_lots_156 (by decide) ?_
                  exact ih73 ls (d + 1) H locs ⟨_, _, hl.sub' [3, 4, 5, 6, 7, 8, 1, 2, 0] (by show _ = [_, _, _, _, _, _, (6, Value.int (lsF (G 6) q v c d + (if (bl (ltF (G 6) c (nI d) 16).2.2).1 q < v then nI 0 else (ltF (G 6) c (nI d) 16).1))), _, _]; rw [if_pos (Decidable.not_not.mp (of_decide_eq_false c141))]; rfl), hw, ox.tr o138, by omega⟩ (by omega)
                · refine lv_iload hC.1 hC.2.1 dX0_lots_144 (lv_at hl 9 rfl) ?_
                  refine lv_goto (tgt := 150) hC.1 hC.2.1 dX0_lots_146 (by decide) ?_
                  refine lv_iadd hC.1 hC.2.1 dX0_lots_150 ?_
                  refine lv_istore (lv' := [(6, .int ((lsF (G 6) q v c d) + (wyF c (nI d) (cntW (G 6) 16)))), (7, .int ((wsF c (cntW (G 6) 16) d) + (wyF c (nI d) (cntW (G 6) 16)))), (0, .ref (ad 0)), (1, .int (nI q)), (2, .int v), (3, .int c), (4, .int what), (5, .int (nI (cntW (G 6) 16))), (8, .int (nI d)), (9, .int (wyF c (nI d) (cntW (G 6) 16))), (10, .int (nI (cntW (G 6) 16)))]) hC.1 hC.2.1 dX0_lots_151 hl (by decide) rfl (fun ls hl => ?_)
                  refine k_iinc (k := 8) (d := 1) (lv' := [(8, .int (nI (d + 1))), (6, .int ((lsF (G 6) q v c d) + (wyF c (nI d) (cntW (G 6) 16)))), (7, .int ((wsF c (cntW (G 6) 16) d) + (wyF c (nI d) (cntW (G 6) 16)))), (0, .ref (ad 0)), (1, .int (nI q)), (2, .int v), (3, .int c), (4, .int what), (5, .int (nI (cntW (G 6) 16))), (9, .int (wyF c (nI d) (cntW (G 6) 16))), (10, .int (nI (cntW (G 6) 16)))]) hC dX0_lots_153 hl rfl (by decide) (by decide) rfl (fun ls hl => ?_)
                  refine lv_goto (tgt := 73) hC.1 hC.2.1 dX0_lots_156 (by decide) ?_
                  exact ih73 ls (d + 1) H locs ⟨_, _, hl.sub' [3, 4, 5, 6, 7, 8, 1, 2, 0] (by show _ = [_, _, _, _, _, _, (6, Value.int (lsF (G 6) q v c d + (if (bl (ltF (G 6) c (nI d) 16).2.2).1 q < v then nI 0 else (ltF (G 6) c (nI d) 16).1))), _, _]; rw [if_neg (of_decide_eq_true c141), ls_way]; rfl), hw, ox.tr o138, by omega⟩ (by omega)
              · refine lv_iload hC.1 hC.2.1 dX0_lots_95 (lv_at hl 9 rfl) ?_
                refine lv_iload hC.1 hC.2.1 dX0_lots_97 (lv_at hl 8 rfl) ?_
                refine lv_iload hC.1 hC.2.1 dX0_lots_99 (lv_at hl 10 rfl) ?_
                refine pS_call (n := 2) hC hl.1 (tX0_has l (nI d) (nI k) ) (lw_S q929 q776 q60 q777) rfl rfl (by decide +kernel) ⟨by decide, by decide⟩ rfl rfl (Nat.le_of_ble_eq_true rfl) dX0_lots_101 ⟨Nat.zero_le _, Nat.zero_le _⟩ ?_
                refine k_beq (tgt := 111) hC dX0_lots_104 (by decide) (fun c104 => ?_) (fun c104 => ?_)
                · refine lv_bipush (v := (nI 10)) hC.1 hC.2.1 dX0_lots_111 (by decide) ?_
                  refine lv_iload_n hC.1 hC.2.1 dX0_lots_113 rfl (lv_at hl 3 rfl) ?_
                  refine lv_isub hC.1 hC.2.1 dX0_lots_114 ?_
                  refine lv_imul hC.1 hC.2.1 dX0_lots_115 ?_
                  refine lv_istore (lv' := [(9, .int ((wyF c (nI d) k) * ((nI 10) - c))), (0, .ref (ad 0)), (1, .int (nI q)), (2, .int v), (3, .int c), (4, .int what), (5, .int (nI (cntW (G 6) 16))), (6, .int (lsF (G 6) q v c d)), (7, .int (wsF c (cntW (G 6) 16) d)), (8, .int (nI d)), (10, .int (nI k))]) hC.1 hC.2.1 dX0_lots_116 hl (by decide) rfl (fun ls hl => ?_)
                  refine k_iinc (k := 10) (d := 1) (lv' := [(10, .int (nI (k + 1))), (9, .int ((wyF c (nI d) k) * ((nI 10) - c))), (0, .ref (ad 0)), (1, .int (nI q)), (2, .int v), (3, .int c), (4, .int what), (5, .int (nI (cntW (G 6) 16))), (6, .int (lsF (G 6) q v c d)), (7, .int (wsF c (cntW (G 6) 16) d)), (8, .int (nI d))]) hC dX0_lots_118 hl rfl (by decide) (by decide) rfl (fun ls hl => ?_)
                  refine lv_goto (tgt := 88) hC.1 hC.2.1 dX0_lots_121 (by decide) ?_
                  exact ih88 ls (k + 1) H locs ⟨hl.sub' [2, 3, 4, 5, 6, 7, 8, 9, 10, 1, 0] (by show _ = [_, _, _, _, _, _, _, _, _, (9, Value.int (wyF c (nI d) k * (if hasB (nI d) (nI k) = true then c else nI 10 - c))), _]; rw [if_neg (by rw [c104]; decide)]; rfl), hw, by omega⟩ (by omega)
                · refine lv_iload_n hC.1 hC.2.1 dX0_lots_107 rfl (lv_at hl 3 rfl) ?_
                  refine lv_goto (tgt := 115) hC.1 hC.2.1 dX0_lots_108 (by decide) ?_
                  refine lv_imul hC.1 hC.2.1 dX0_lots_115 ?_
                  refine lv_istore (lv' := [(9, .int ((wyF c (nI d) k) * c)), (0, .ref (ad 0)), (1, .int (nI q)), (2, .int v), (3, .int c), (4, .int what), (5, .int (nI (cntW (G 6) 16))), (6, .int (lsF (G 6) q v c d)), (7, .int (wsF c (cntW (G 6) 16) d)), (8, .int (nI d)), (10, .int (nI k))]) hC.1 hC.2.1 dX0_lots_116 hl (by decide) rfl (fun ls hl => ?_)
                  refine k_iinc (k := 10) (d := 1) (lv' := [(10, .int (nI (k + 1))), (9, .int ((wyF c (nI d) k) * c)), (0, .ref (ad 0)), (1, .int (nI q)), (2, .int v), (3, .int c), (4, .int what), (5, .int (nI (cntW (G 6) 16))), (6, .int (lsF (G 6) q v c d)), (7, .int (wsF c (cntW (G 6) 16) d)), (8, .int (nI d))]) hC dX0_lots_118 hl rfl (by decide) (by decide) rfl (fun ls hl => ?_)
                  refine lv_goto (tgt := 88) hC.1 hC.2.1 dX0_lots_121 (by decide) ?_
                  exact ih88 ls (k + 1) H locs ⟨hl.sub' [2, 3, 4, 5, 6, 7, 8, 9, 10, 1, 0] (by show _ = [_, _, _, _, _, _, _, _, _, (9, Value.int (wyF c (nI d) k * (if hasB (nI d) (nI k) = true then c else nI 10 - c))), _]; rw [if_pos c104]; rfl), hw, by omega⟩ (by omega)
          · refine lv_ldc hC.1 hC.2.1 hC.2.2.2.1 (hC.2.2.2.2 _ q337) dX0_lots_52 ?_
            exact M_iret hC hlk hw gGo.rf ⟨by simp only [gN]; omega, by simp only [gN]; omega⟩ hr rfl (⟨_, _, rfl, congrArg (fun z => some (Value.int z)) (by simp [mX6_lots, h1, bI_t0, bI_f0, inc01, inc11, inc03, inc13, inc23, inc10, inc20, inc21, c7, c17, c29, c41, c49, ix_nI (show q < 2147483648 by omega)]), pOff.rf⟩) dX0_lots_54
  · refine lv_ldc hC.1 hC.2.1 hC.2.2.2.1 (hC.2.2.2.2 _ q703) dX0_lots_10 ?_
    exact M_iret hC hlk hw gGo.rf ⟨by simp only [gN]; omega, by simp only [gN]; omega⟩ hr rfl (⟨_, _, rfl, congrArg (fun z => some (Value.int z)) (by simp [mX6_lots, h1, bI_t0, bI_f0, inc01, inc11, inc03, inc13, inc23, inc10, inc20, inc21, c7]), pOff.rf⟩) dX0_lots_12
