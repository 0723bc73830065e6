/-! ===== Reader: work (by gen/w86.py) ===== -/
theorem gM.mono {l : Launch} {y : MethodName} {ws : List Cond} {rm : Room} {as : List Value} {N : Nat} {ad : Nat → Nat} {K : gK} {I : mG} {R : gR} {post post' : Option Value → gS → Prop} (h : gM l y ws rm as N ad K I R post) (hp : ∀ v S, post v S → post' v S) : gM l y ws rm as N ad K I R post' := by
  intro D dA sz
  refine Met.weak (h D dA sz) (fun _ _ q => q) ?_ (fun _ q => q)
  rintro a st o t _ ⟨⟨v, S, h1, h2, h3⟩, h4⟩
  exact ⟨⟨v, S, h1, hp _ _ h2, h3⟩, h4⟩
theorem nxS (l : Launch) (N : Nat) (ad : Nat → Nat) (K : gK) (I : mG) (R : gR) (rd : Nat) (T : vV) (n b wk : Nat) (rv : vV) (b1 : Nat) (h0 : rdS N K I R rd T n b wk rv) (hb : (ntT T n b).1 = b1) : gA l yX7_next (ws_ yX7_next cX7_next 2 none) ({ frames := 1, cells := 0, slots := 0, locals := 25 } : Room) [.ref (ad rd)] N ad K I R (fun v S => v = none ∧ ∃ I1, S = (I1, R) ∧ rdS N K I1 R rd T n b1 wk rv ∧ rOff rd I I1 R R) := by
  subst hb
  refine gM.mono (tX7_next l N ad K I R rd T n (ntT T n b).1 h0.1 h0.2.1.2.2.1 (ntT_le h0.2.1.1)) ?_
  rintro v S ⟨I', R', rfl, rfl, tk, va, e4, e5⟩
  cases e4
  exact ⟨_, _, rfl, rfl, _, rfl, h0.nx (ntT_le h0.2.1.1) e5, rOff.rd⟩
theorem figS (l : Launch) (N : Nat) (ad : Nat → Nat) (K : gK) (I : mG) (R : gR) (rd : Nat) (lo hi : Int32) (T : vV) (n b wk : Nat) (rv : vV) (b1 : Nat) (h0 : rdS N K I R rd T n b wk rv) (h2 : (ntT T n b).2.1 = nI 2) (h3 : inB (ntT T n b).2.2 lo hi = true) (hb : (ntT T n b).1 = b1) : gA l yX7_figure (ws_ yX7_figure cX7_figure 4 (some FieldType.int)) ({ frames := 2, cells := 0, slots := 0, locals := 46 } : Room) [.ref (ad rd), .int lo, .int hi] N ad K I R (fun v S => v = some (.int (ntT T n b).2.2) ∧ ∃ I1, S = (I1, R) ∧ rdS N K I1 R rd T n b1 wk rv ∧ rOff rd I I1 R R) := by
  subst hb
  refine gM.mono (tX7_figure l N ad K I R rd lo hi T n b h0.1 h0.2.1 h2 h3) ?_
  rintro v S ⟨I', R', rfl, rfl, tk, va, e4, e5⟩
  cases e4
  exact ⟨_, _, rfl, rfl, _, rfl, h0.nx (ntT_le h0.2.1.1) e5, rOff.rd⟩
theorem sigS (l : Launch) (N : Nat) (ad : Nat → Nat) (K : gK) (I : mG) (R : gR) (rd : Nat) (c : Nat) (T : vV) (n b wk : Nat) (rv : vV) (b1 : Nat) (h0 : rdS N K I R rd T n b wk rv) (h2 : c = 44 ∨ c = 59) (h3 : isL T n b (nI c) = true) (hb : (ntT T n b).1 = b1) : gA l yX7_sign (ws_ yX7_sign cX7_sign 2 none) ({ frames := 2, cells := 0, slots := 0, locals := 46 } : Room) [.ref (ad rd), .int (nI c)] N ad K I R (fun v S => v = none ∧ ∃ I1, S = (I1, R) ∧ rdS N K I1 R rd T n b1 wk rv ∧ rOff rd I I1 R R) := by
  subst hb
  refine gM.mono (tX7_sign l N ad K I R rd c T n b h0.1 h0.2.1 h2 h3) ?_
  rintro v S ⟨I', R', rfl, rfl, tk, va, e4, e5⟩
  cases e4
  exact ⟨_, _, rfl, rfl, _, rfl, h0.nx (ntT_le h0.2.1.1) e5, rOff.rd⟩

set_option maxHeartbeats 800000 in
theorem tX7_work_r (sa sv : Nat) (l : Launch) (N : Nat) (ad : Nat → Nat) (K : gK) (I : mG) (R : gR) (rd : Nat) (T : vV) (n : Nat) (b : Nat) (wk : Nat) (rv : vV) (k : Nat) (bz : Nat) (wz : Nat) (rz : vV) (h0 : rdS N K I R rd T n b wk rv) (h1 : kOf T n b = k) (h2 : k ≠ 0) (h3 : pWork T n (nI k) b wk rv = .ok (bz, wz, rz)) : gMS sa sv l yX7_work (ws_ yX7_work cX7_work 5 none) ({ frames := 5, cells := 1, slots := 2, locals := 128 } : Room) [.ref (ad rd)] N ad K I R (fun v S => v = none ∧ rdS S.1 S.2.2.1 S.2.2.2.1 S.2.2.2.2 rd T n bz wz rz ∧ rOff rd I S.2.2.2.1 R S.2.2.2.2) := by
  refine gMS.of (by decide) (Nat.le_of_ble_eq_true rfl) ?_
  intro D dA p e s m args below meth cd ls hC hlk hr hK hX hZ hst hF hl hw
  have hl : lv_has ls 5 [(0, .ref (ad rd))] := hl
  have hrd : rd < N := by have := h0.1.1; omega
  have hrd7 := h0.1.1.2.1
  have kp := h0.1.1.2.2.1
  obtain ⟨c, hc, hLc, hsx, hk1, hk5⟩ := kOf_c h1 h2
  obtain ⟨htv1, htv⟩ := tk_val h0.2.1.2.2.2 hc hLc
  have hp1 := h0.2.2.1.1
  have hmk := h0.1.2.1.2.1
  have hwk := h0.2.2.2.1.1
  have hwk6 := h0.2.2.2.1.2
  refine lv_aload_n hC.1 hC.2.1 dX7_work_0 rfl (lv_at hl 0 rfl) ?_
  refine lv_aload_n hC.1 hC.2.1 dX7_work_1 rfl (lv_at hl 0 rfl) ?_
  refine g_get (C := RX7) (T := TX7) (ref := RX7) hC hK hw (List.mem_range.mpr hrd) kp (by decide) rfl in_X7 6 (by decide) q465 (fun x h => h) (v := .ref (ad (rd + 1))) (by show va_rf _ = _; rw [hmk]; rfl) dX7_work_2 ?_
  refine g_calli (n := 0) (C := RX2) (T := TX2) hC hl.1 hK hX hw (hp1).1.1 (hp1).2.1.1 (by decide) rfl (tX2_many l (List.range N) ad K I R (rd + 1) (hp1)) (lw_V q639 q640 q641 q62 q642) rfl rfl (by decide +kernel) ⟨by decide, by decide⟩ rfl rfl (Nat.le_of_ble_eq_true rfl) dX7_work_5 ⟨Nat.zero_le _, Nat.zero_le _⟩ ?_
  rintro r_2 I2 R2 H locs ⟨hr2, hS2⟩ hw
  rw [hr2]
  replace hw := hw.eq (Prod.mk.inj hS2).1 (Prod.mk.inj hS2).2
  clear hS2
  rw [show wkN (_ : Nat → Option Nat) 16 = wk from hwk]
  by_cases h6 : wk = 6
  · exact (ok_no ((pWork_6 h6).symm.trans h3)).elim
  · have hE1 := (pWork_lt (T := T) (n := n) (b := b) (k := nI k) (rv := rv) h6).symm.trans h3
    obtain ⟨b1, hb1⟩ : ∃ z, (ntT T n b).1 = z := ⟨_, rfl⟩
    rw [hb1] at hE1
    refine lv_bipush (v := (nI 6)) hC.1 hC.2.1 dX7_work_8 (by decide) ?_
    refine k_ge (tgt := 17) hC (by omega) (by omega) dX7_work_10 (by decide) (fun c10 => ?_) (fun c10 => ?_)
    · exact absurd c10 (by omega)
    · refine lv_iconst (v := (nI 1)) hC.1 hC.2.1 dX7_work_13 (by decide) ?_
      refine lv_goto (tgt := 18) hC.1 hC.2.1 dX7_work_14 (by decide) ?_
      refine lv_iconst (v := (nI 3)) hC.1 hC.2.1 dX7_work_18 (by decide) ?_
      refine M_V (n := 2) (C := RX7) (T := TX7) hC hl.1 hK hX hw hrd kp (by decide) rfl (tX7_must l N ad K I R rd (nI 3) ) (lw_V q508 q510 qs11 q77 q511) (by decide +kernel) ⟨by decide, by decide⟩ rfl rfl (Nat.le_of_ble_eq_true rfl) dX7_work_19 ⟨by simp only [gN]; omega, by simp only [gN]; omega⟩ ?_
      rintro _ N2 ad2 K2 I2 R2 H locs ⟨I3, R3, e3, rfl, e4⟩ hg hw
      cases e3
      cases e4
      refine lv_iconst (v := (nI 1)) hC.1 hC.2.1 dX7_work_22 (by decide) ?_
      refine va_ldcS hC.1 hC.2.1 hC.2.2.2.1 hF.1 dX7_work_23 ?_
      refine lv_aload_n hC.1 hC.2.1 dX7_work_25 rfl (lv_at hl 0 rfl) ?_
      refine g_get (C := RX7) (T := TX7) (ref := RX7) hC hK hw (List.mem_range.mpr hrd) kp (by decide) rfl in_X7 5 (by decide) q464 (fun x h => h) (v := .int (nI c)) (by show Value.int _ = _; rw [htv]) dX7_work_26 ?_
      refine s_V (n := 1) hC hl.1 hF.2 hw.1.2.2.1 (tJ4_indexOf l sa sv c (by omega)) (lw_V q549 q550 q551 q71 q552) rfl rfl (by decide +kernel) ⟨by decide, by decide⟩ rfl rfl (Nat.le_of_ble_eq_true rfl) dX7_work_29 ⟨by simp only [gN]; omega, by simp only [gN]; omega⟩ ?_
      rw [hsx]
      refine k_add hC dX7_work_32 ?_
      rw [show 1 + (k - 1) = k from by omega]
      refine lv_istore_n (lv' := [(1, .int (nI k)), (0, .ref (ad rd))]) hC.1 hC.2.1 dX7_work_33 rfl hl (by decide) rfl (fun ls hl => ?_)
      refine lv_aload_n hC.1 hC.2.1 dX7_work_34 rfl (lv_at hl 1 rfl) ?_
      refine M_V (n := 0) (C := RX7) (T := TX7) hC hl.1 hK hX hw hrd kp (by decide) rfl (nxS l N ad K I R rd T n b wk rv b1 h0 hb1) (lw_V q486 q488 qs7 q77 q489) (by decide +kernel) ⟨by decide, by decide⟩ rfl rfl (Nat.le_of_ble_eq_true rfl) dX7_work_35 ⟨by simp only [gN]; omega, by simp only [gN]; omega⟩ ?_
      rintro _ N2 ad2 K2 I2 R2 H locs ⟨I3, R3, e3, rfl, J1, e4, s1, o1⟩ hg hw
      cases e3
      cases e4
      replace o1 := (rOff.rf).tr o1
      have htk1 := tk_num s1.2.1.2.2.2
      obtain ⟨b2, hb2⟩ : ∃ z, (ntT T n b1).1 = z := ⟨_, rfl⟩
      obtain ⟨b3, hb3⟩ : ∃ z, (ntT T n b2).1 = z := ⟨_, rfl⟩
      have zz := pW1_step (T := T) (n := n) (b := b1) (wk := wk) (k := nI k) (rv := rv)
      simp only [hb2, hb3] at zz
      rcases zz with ⟨w0, zf, zE⟩ | ⟨zt1, x, hx, ex, zi1, ⟨zf, zE⟩ | ⟨zs1, zE⟩⟩
      · exact (ok_no (zE.symm.trans hE1)).elim
      · exact (ok_no (zE.symm.trans hE1)).elim
      · have hE2 := zE.symm.trans hE1
        refine lv_aload_n hC.1 hC.2.1 dX7_work_38 rfl (lv_at hl 1 rfl) ?_
        refine lv_iconst (v := (nI 0)) hC.1 hC.2.1 dX7_work_39 (by decide) ?_
        refine lv_iconst (v := (nI 3)) hC.1 hC.2.1 dX7_work_40 (by decide) ?_
        refine M_V (n := 2) (C := RX7) (T := TX7) hC hl.1 hK hX hw hrd kp (by decide) rfl (figS l N ad K _ R rd 0 (nI 3) T n b1 wk rv b2 (s1) (zt1) (zi1) (hb2)) (lw_V q540 q542 qs12 q77 q543) (by decide +kernel) ⟨by decide, by decide⟩ rfl rfl (Nat.le_of_ble_eq_true rfl) dX7_work_41 ⟨by simp only [gN]; omega, by simp only [gN]; omega⟩ ?_
        rintro _ N2 ad2 K2 I2 R2 H locs ⟨I3, R3, e3, rfl, J2, e4, s2, o2⟩ hg hw
        cases e3
        cases e4
        replace o2 := (o1).tr o2
        have htk2 := tk_num s2.2.1.2.2.2
        rw [ex]
        refine lv_istore_n (lv' := [(2, .int (nI x)), (1, .int (nI k)), (0, .ref (ad rd))]) hC.1 hC.2.1 dX7_work_44 rfl hl (by decide) rfl (fun ls hl => ?_)
        refine lv_aload_n hC.1 hC.2.1 dX7_work_45 rfl (lv_at hl 2 rfl) ?_
        refine lv_bipush (v := (nI 44)) hC.1 hC.2.1 dX7_work_46 (by decide) ?_
        refine M_V (n := 1) (C := RX7) (T := TX7) hC hl.1 hK hX hw hrd kp (by decide) rfl (sigS l N ad K _ R rd 44 T n b2 wk rv b3 (s2) (Or.inl rfl) (zs1) (hb3)) (lw_V q544 q546 qs13 q77 q547) (by decide +kernel) ⟨by decide, by decide⟩ rfl rfl (Nat.le_of_ble_eq_true rfl) dX7_work_48 ⟨by simp only [gN]; omega, by simp only [gN]; omega⟩ ?_
        rintro _ N2 ad2 K2 I2 R2 H locs ⟨I3, R3, e3, rfl, J3, e4, s3, o3⟩ hg hw
        cases e3
        cases e4
        replace o3 := (o2).tr o3
        have htk3 := tk_num s3.2.1.2.2.2
        obtain ⟨b4, hb4⟩ : ∃ z, (ntT T n b3).1 = z := ⟨_, rfl⟩
        obtain ⟨b5, hb5⟩ : ∃ z, (ntT T n b4).1 = z := ⟨_, rfl⟩
        have zz := pW2_step (T := T) (n := n) (b := b3) (wk := wk) (x := x) (k := nI k) (rv := rv)
        simp only [hb4, hb5] at zz
        rcases zz with ⟨zf, zE⟩ | ⟨zt, zf, zE⟩ | ⟨zt, zi2, y, hy, ey, ⟨zf, zE⟩ | ⟨zr, ⟨zf, zE⟩ | ⟨zs2, zE⟩⟩⟩
        · exact (ok_no (zE.symm.trans hE2)).elim
        · exact (ok_no (zE.symm.trans hE2)).elim
        · exact (ok_no (zE.symm.trans hE2)).elim
        · exact (ok_no (zE.symm.trans hE2)).elim
        · have hE3 := zE.symm.trans hE2
          refine lv_aload_n hC.1 hC.2.1 dX7_work_51 rfl (lv_at hl 2 rfl) ?_
          refine lv_aload_n hC.1 hC.2.1 dX7_work_52 rfl (lv_at hl 2 rfl) ?_
          refine g_get (C := RX7) (T := TX7) (ref := RX7) hC hK hw (List.mem_range.mpr hrd) kp (by decide) rfl in_X7 3 (by decide) q462 (fun x h => h) (v := .int (nI 2)) (by show Value.int _ = _; rw [htk3.1.mpr zt]) dX7_work_53 ?_
          refine lv_iconst (v := (nI 2)) hC.1 hC.2.1 dX7_work_56 (by decide) ?_
          refine k_ne (tgt := 64) hC (by omega) (by omega) dX7_work_57 (by decide) (fun c57 => ?_) (fun c57 => ?_)
          · exact absurd rfl c57
          · refine lv_iconst (v := (nI 1)) hC.1 hC.2.1 dX7_work_60 (by decide) ?_
            refine lv_goto (tgt := 65) hC.1 hC.2.1 dX7_work_61 (by decide) ?_
            refine lv_iconst (v := (nI 1)) hC.1 hC.2.1 dX7_work_65 (by decide) ?_
            refine M_V (n := 2) (C := RX7) (T := TX7) hC hl.1 hK hX hw hrd kp (by decide) rfl (tX7_must l N ad K _ R rd (nI 1) ) (lw_V q508 q510 qs11 q77 q511) (by decide +kernel) ⟨by decide, by decide⟩ rfl rfl (Nat.le_of_ble_eq_true rfl) dX7_work_66 ⟨by simp only [gN]; omega, by simp only [gN]; omega⟩ ?_
            rintro _ N2 ad2 K2 I2 R2 H locs ⟨I3, R3, e3, rfl, e4⟩ hg hw
            cases e3
            cases e4
            refine lv_aload_n hC.1 hC.2.1 dX7_work_69 rfl (lv_at hl 2 rfl) ?_
            refine lv_aload_n hC.1 hC.2.1 dX7_work_70 rfl (lv_at hl 2 rfl) ?_
            refine g_get (C := RX7) (T := TX7) (ref := RX7) hC hK hw (List.mem_range.mpr hrd) kp (by decide) rfl in_X7 5 (by decide) q464 (fun x h => h) (v := .int (nI y)) (by show Value.int _ = _; rw [htk3.2.1 zt, ey]) dX7_work_71 ?_
            refine lv_i2l hC.1 hC.2.1 dX7_work_74 rfl ?_
            refine lv_lconst (v := 0) hC.1 hC.2.1 dX7_work_75 (by decide) ?_
            refine lv_ldc2 hC.1 hC.2.1 hC.2.2.2.1 (hC.2.2.2.2 _ q647) dX7_work_76 ?_
            refine pS_callN (n := 3) hC hl.1 hX (tX0_isInI l (nI y) 0 (nI 3)) q497 q334 q60 q335 rfl rfl (by decide +kernel) ⟨by decide, by decide⟩ rfl rfl (Nat.le_of_ble_eq_true rfl) dX7_work_79 ⟨Nat.zero_le _, Nat.zero_le _⟩ ?_
            refine k_beq (tgt := 107) hC dX7_work_82 (by decide) (fun c82 => ?_) (fun c82 => ?_)
            · exact absurd c82 (by rw [← ey, zi2]; decide)
            · refine lv_aload_n hC.1 hC.2.1 dX7_work_85 rfl (lv_at hl 2 rfl) ?_
              refine g_get (C := RX7) (T := TX7) (ref := RX7) hC hK hw (List.mem_range.mpr hrd) kp (by decide) rfl in_X7 6 (by decide) q465 (fun x h => h) (v := .ref (ad (rd + 1))) (by show va_rf _ = _; rw [hmk]; rfl) dX7_work_86 ?_
              refine lv_iconst (v := (nI 4)) hC.1 hC.2.1 dX7_work_89 (by decide) ?_
              refine lv_iload_n hC.1 hC.2.1 dX7_work_90 rfl (lv_at hl 0 rfl) ?_
              refine k_mul hC dX7_work_91 ?_
              refine lv_aload_n hC.1 hC.2.1 dX7_work_92 rfl (lv_at hl 2 rfl) ?_
              refine g_get (C := RX7) (T := TX7) (ref := RX7) hC hK hw (List.mem_range.mpr hrd) kp (by decide) rfl in_X7 5 (by decide) q464 (fun x h => h) (v := .int (nI y)) (by show Value.int _ = _; rw [htk3.2.1 zt, ey]) dX7_work_93 ?_
              refine k_add hC dX7_work_96 ?_
              refine g_calli (n := 1) (C := RX2) (T := TX2) hC hl.1 hK hX hw (hp1).1.1 (hp1).2.1.1 (by decide) rfl (tX2_has l (List.range N) ad K _ R (rd + 1) ((4 * x) + y) (hp1) (by omega)) (lw_V q648 q644 q645 q62 q646) rfl rfl (by decide +kernel) ⟨by decide, by decide⟩ rfl rfl (Nat.le_of_ble_eq_true rfl) dX7_work_97 ⟨Nat.zero_le _, Nat.zero_le _⟩ ?_
              rintro r_2 I2 R2 H locs ⟨hr2, hS2⟩ hw
              rw [hr2]
              replace hw := hw.eq (Prod.mk.inj hS2).1 (Prod.mk.inj hS2).2
              clear hS2
              refine k_bne (tgt := 107) hC dX7_work_100 (by decide) (fun c100 => ?_) (fun c100 => ?_)
              · exact absurd c100 (by rw [← s3.2.2.1.wk (by omega), zr]; decide)
              · refine lv_iconst (v := (nI 1)) hC.1 hC.2.1 dX7_work_103 (by decide) ?_
                refine lv_goto (tgt := 108) hC.1 hC.2.1 dX7_work_104 (by decide) ?_
                refine lv_iconst (v := (nI 2)) hC.1 hC.2.1 dX7_work_108 (by decide) ?_
                refine M_V (n := 2) (C := RX7) (T := TX7) hC hl.1 hK hX hw hrd kp (by decide) rfl (tX7_must l N ad K _ R rd (nI 2) ) (lw_V q508 q510 qs11 q77 q511) (by decide +kernel) ⟨by decide, by decide⟩ rfl rfl (Nat.le_of_ble_eq_true rfl) dX7_work_109 ⟨by simp only [gN]; omega, by simp only [gN]; omega⟩ ?_
                rintro _ N2 ad2 K2 I2 R2 H locs ⟨I3, R3, e3, rfl, e4⟩ hg hw
                cases e3
                cases e4
                refine lv_iconst (v := (nI 4)) hC.1 hC.2.1 dX7_work_112 (by decide) ?_
                refine lv_iload_n hC.1 hC.2.1 dX7_work_113 rfl (lv_at hl 0 rfl) ?_
                refine k_mul hC dX7_work_114 ?_
                refine lv_aload_n hC.1 hC.2.1 dX7_work_115 rfl (lv_at hl 2 rfl) ?_
                refine lv_iconst (v := (nI 0)) hC.1 hC.2.1 dX7_work_116 (by decide) ?_
                refine lv_iconst (v := (nI 3)) hC.1 hC.2.1 dX7_work_117 (by decide) ?_
                refine M_V (n := 2) (C := RX7) (T := TX7) hC hl.1 hK hX hw hrd kp (by decide) rfl (figS l N ad K _ R rd 0 (nI 3) T n b3 wk rv b4 (s3) (zt) (zi2) (hb4)) (lw_V q540 q542 qs12 q77 q543) (by decide +kernel) ⟨by decide, by decide⟩ rfl rfl (Nat.le_of_ble_eq_true rfl) dX7_work_118 ⟨by simp only [gN]; omega, by simp only [gN]; omega⟩ ?_
                rintro _ N2 ad2 K2 I2 R2 H locs ⟨I3, R3, e3, rfl, J4, e4, s4, o4⟩ hg hw
                cases e3
                cases e4
                replace o4 := (o3).tr o4
                have htk4 := tk_num s4.2.1.2.2.2
                rw [ey]
                refine k_add hC dX7_work_121 ?_
                refine lv_istore_n (lv' := [(3, .int (nI ((4 * x) + y))), (2, .int (nI x)), (1, .int (nI k)), (0, .ref (ad rd))]) hC.1 hC.2.1 dX7_work_122 rfl hl (by decide) rfl (fun ls hl => ?_)
                refine lv_aload_n hC.1 hC.2.1 dX7_work_123 rfl (lv_at hl 3 rfl) ?_
                refine lv_bipush (v := (nI 44)) hC.1 hC.2.1 dX7_work_124 (by decide) ?_
                refine M_V (n := 1) (C := RX7) (T := TX7) hC hl.1 hK hX hw hrd kp (by decide) rfl (sigS l N ad K _ R rd 44 T n b4 wk rv b5 (s4) (Or.inl rfl) (zs2) (hb5)) (lw_V q544 q546 qs13 q77 q547) (by decide +kernel) ⟨by decide, by decide⟩ rfl rfl (Nat.le_of_ble_eq_true rfl) dX7_work_126 ⟨by simp only [gN]; omega, by simp only [gN]; omega⟩ ?_
                rintro _ N2 ad2 K2 I2 R2 H locs ⟨I3, R3, e3, rfl, J5, e4, s5, o5⟩ hg hw
                cases e3
                cases e4
                replace o5 := (o4).tr o5
                have htk5 := tk_num s5.2.1.2.2.2
                obtain ⟨b6, hb6⟩ : ∃ z, (ntT T n b5).1 = z := ⟨_, rfl⟩
                obtain ⟨b7, hb7⟩ : ∃ z, (ntT T n b6).1 = z := ⟨_, rfl⟩
                have zz := pN_step (T := T) (n := n) (b := b5) (wk := wk + 1) (a := 25 + (4 * x + y)) (hi := nI 99) (sg := nI 59) (rv := upd rv (9 + (4 * x + y)) (nI k))
                simp only [hb6, hb7] at zz
                rcases zz with ⟨w0, zf, zE⟩ | ⟨zt3, zi3, ⟨zf, zE⟩ | ⟨zs3, zE⟩⟩
                · exact (ok_no (zE.symm.trans hE3)).elim
                · exact (ok_no (zE.symm.trans hE3)).elim
                · have hE4 := zE.symm.trans hE3
                  refine lv_aload_n hC.1 hC.2.1 dX7_work_129 rfl (lv_at hl 3 rfl) ?_
                  refine lv_iconst (v := (nI 0)) hC.1 hC.2.1 dX7_work_130 (by decide) ?_
                  refine lv_bipush (v := (nI 99)) hC.1 hC.2.1 dX7_work_131 (by decide) ?_
                  refine M_V (n := 2) (C := RX7) (T := TX7) hC hl.1 hK hX hw hrd kp (by decide) rfl (figS l N ad K _ R rd 0 (nI 99) T n b5 wk rv b6 (s5) (zt3) (zi3) (hb6)) (lw_V q540 q542 qs12 q77 q543) (by decide +kernel) ⟨by decide, by decide⟩ rfl rfl (Nat.le_of_ble_eq_true rfl) dX7_work_133 ⟨by simp only [gN]; omega, by simp only [gN]; omega⟩ ?_
                  rintro _ N2 ad2 K2 I2 R2 H locs ⟨I3, R3, e3, rfl, J6, e4, s6, o6⟩ hg hw
                  cases e3
                  cases e4
                  replace o6 := (o5).tr o6
                  have htk6 := tk_num s6.2.1.2.2.2
                  refine lv_istore (lv' := [(4, .int ((ntT T n b5).2.2)), (3, .int (nI ((4 * x) + y))), (2, .int (nI x)), (1, .int (nI k)), (0, .ref (ad rd))]) hC.1 hC.2.1 dX7_work_136 hl (by decide) rfl (fun ls hl => ?_)
                  refine lv_aload_n hC.1 hC.2.1 dX7_work_138 rfl (lv_at hl 4 rfl) ?_
                  refine lv_bipush (v := (nI 59)) hC.1 hC.2.1 dX7_work_139 (by decide) ?_
                  refine M_V (n := 1) (C := RX7) (T := TX7) hC hl.1 hK hX hw hrd kp (by decide) rfl (sigS l N ad K _ R rd 59 T n b6 wk rv b7 (s6) (Or.inr rfl) (zs3) (hb7)) (lw_V q544 q546 qs13 q77 q547) (by decide +kernel) ⟨by decide, by decide⟩ rfl rfl (Nat.le_of_ble_eq_true rfl) dX7_work_141 ⟨by simp only [gN]; omega, by simp only [gN]; omega⟩ ?_
                  rintro _ N2 ad2 K2 I2 R2 H locs ⟨I3, R3, e3, rfl, J7, e4, s7, o7⟩ hg hw
                  cases e3
                  cases e4
                  replace o7 := (o6).tr o7
                  have htk7 := tk_num s7.2.1.2.2.2
                  refine lv_aload_n hC.1 hC.2.1 dX7_work_144 rfl (lv_at hl 4 rfl) ?_
                  refine g_get (C := RX7) (T := TX7) (ref := RX7) hC hK hw (List.mem_range.mpr hrd) kp (by decide) rfl in_X7 6 (by decide) q465 (fun x h => h) (v := .ref (ad (rd + 1))) (by show va_rf _ = _; rw [hmk]; rfl) dX7_work_145 ?_
                  refine p_ga hC hK hw hp1 4 3 hp1.2.2.2.2.1 (by decide) rfl q134 rfl dX7_work_148 ?_
                  refine lv_iload_n hC.1 hC.2.1 dX7_work_151 rfl (lv_at hl 1 rfl) ?_
                  refine lv_iload_n hC.1 hC.2.1 dX7_work_152 rfl (lv_at hl 3 rfl) ?_
                  refine lv_iload_n hC.1 hC.2.1 dX7_work_153 rfl (lv_at hl 1 rfl) ?_
                  refine lv_iload hC.1 hC.2.1 dX7_work_154 (lv_at hl 0 rfl) ?_
                  refine M_SN (n := 3) hC hl.1 hK hX hw (tX0_workBy l N ad K _ R k (4 * x + y) (ntT T n b5).2.2 ⟨hk1, hk5⟩) q649 q650 q60 q651 (by decide +kernel) ⟨by decide, by decide⟩ rfl rfl (Nat.le_of_ble_eq_true rfl) dX7_work_156 ⟨by simp only [gN]; omega, by simp only [gN]; omega⟩ ?_
                  rintro _ Nw adw Kw Iw Rw H locs ⟨rfl, eN, kw1, kw2, kw3, kw4⟩ hgw hw
                  dsimp only at eN kw1 kw2 kw3 kw4
                  subst eN
                  have e_adw : ad rd = adw rd := (hgw.2 rd (by omega)).1.symm
                  rw [e_adw] at hl
                  have e_adw : ad (rd + 1 + 3) = adw (rd + 1 + 3) := (hgw.2 (rd + 1 + 3) (by omega)).1.symm
                  rw [e_adw]
                  refine g_str (t := 2) hC hK hw (List.mem_range.mpr (by omega)) (((hgw.2 (rd + 1 + 3) (by omega)).2).trans hp1.2.1.2.2.2.1) rfl (by omega) (by omega) (List.mem_range.mpr (by omega)) (g_any (k := k) hK hX hw (List.mem_range.mpr (by omega)) (by rw [kw1]) ⟨hk1, hk5⟩) dX7_work_159 (fun H locs hw => ?_)
                  have sw := s7.work (k := k) (c := 4 * x + y) (fun m hm => (hgw.2 m hm).2) kw4 ⟨hk1, hk5⟩ (show (Kw N).1 = 3 + k by rw [kw1]) kw2 kw3 (by omega) zr (by omega)
                  have ow : rOff rd I Iw R (r2 Rw (rd + 1 + 3) (4 * x + y) (some N)) := (o7).tr (fun m hm => ⟨(kw4 m (by omega)).1, (show r2 Rw (rd + 1 + 3) (4 * x + y) (some N) m = Rw m from va_up_ne _ _ (by omega)).trans (kw4 m (by omega)).2⟩)
                  exact M_vret hC hlk hw hgw.to ⟨by simp only [gN]; omega, by simp only [gN]; omega⟩ hr (by cases (ok_inj hE4); exact ⟨rfl, sw, ow⟩) dX7_work_160

set_option maxHeartbeats 800000 in
theorem tX7_work_t (sa sv : Nat) (l : Launch) (N : Nat) (ad : Nat → Nat) (K : gK) (I : mG) (R : gR) (rd : Nat) (T : vV) (n : Nat) (b : Nat) (wk : Nat) (rv : vV) (k : Nat) (bz : Nat) (wE : Int32) (h0 : rdS N K I R rd T n b wk rv) (h1 : kOf T n b = k) (h2 : k ≠ 0) (h3 : pWork T n (nI k) b wk rv = .error (wE, bz)) : gMTS sa sv l yX7_work (ws_ yX7_work cX7_work 5 none) ({ frames := 6, cells := 1, slots := 8, locals := 155 } : Room) [.ref (ad rd)] N ad K I R RX8 (fun x S => rTh rd wE bz I R x S) := by
  refine gMTS.of (by decide) (Nat.le_of_ble_eq_true rfl) ?_
  intro D dA p e s m args below meth cd ls hC hlk htb hK hX hZ hst hF hl hw
  have hl : lv_has ls 5 [(0, .ref (ad rd))] := hl
  have hrd : rd < N := by have := h0.1.1; omega
  have hrd7 := h0.1.1.2.1
  have kp := h0.1.1.2.2.1
  obtain ⟨c, hc, hLc, hsx, hk1, hk5⟩ := kOf_c h1 h2
  obtain ⟨htv1, htv⟩ := tk_val h0.2.1.2.2.2 hc hLc
  have hp1 := h0.2.2.1.1
  have hmk := h0.1.2.1.2.1
  have hwk := h0.2.2.2.1.1
  have hwk6 := h0.2.2.2.1.2
  refine lv_aload_n hC.1 hC.2.1 dX7_work_0 rfl (lv_at hl 0 rfl) ?_
  refine lv_aload_n hC.1 hC.2.1 dX7_work_1 rfl (lv_at hl 0 rfl) ?_
  refine g_get (C := RX7) (T := TX7) (ref := RX7) hC hK hw (List.mem_range.mpr hrd) kp (by decide) rfl in_X7 6 (by decide) q465 (fun x h => h) (v := .ref (ad (rd + 1))) (by show va_rf _ = _; rw [hmk]; rfl) dX7_work_2 ?_
  refine g_calli (n := 0) (C := RX2) (T := TX2) hC hl.1 hK hX hw (hp1).1.1 (hp1).2.1.1 (by decide) rfl (tX2_many l (List.range N) ad K I R (rd + 1) (hp1)) (lw_V q639 q640 q641 q62 q642) rfl rfl (by decide +kernel) ⟨by decide, by decide⟩ rfl rfl (Nat.le_of_ble_eq_true rfl) dX7_work_5 ⟨Nat.zero_le _, Nat.zero_le _⟩ ?_
  rintro r_2 I2 R2 H locs ⟨hr2, hS2⟩ hw
  rw [hr2]
  replace hw := hw.eq (Prod.mk.inj hS2).1 (Prod.mk.inj hS2).2
  clear hS2
  rw [show wkN (_ : Nat → Option Nat) 16 = wk from hwk]
  by_cases h6 : wk = 6
  · have zE := pWork_6 (T := T) (n := n) (b := b) (k := nI k) (rv := rv) h6
    refine lv_bipush (v := (nI 6)) hC.1 hC.2.1 dX7_work_8 (by decide) ?_
    refine k_ge (tgt := 17) hC (by omega) (by omega) dX7_work_10 (by decide) (fun c10 => ?_) (fun c10 => ?_)
    · refine lv_iconst (v := (nI 0)) hC.1 hC.2.1 dX7_work_17 (by decide) ?_
      refine lv_iconst (v := (nI 3)) hC.1 hC.2.1 dX7_work_18 (by decide) ?_
      refine T_V (n := 2) (C := RX7) (T := TX7) hC hl.1 hK hX hZ hst hw hrd kp (by decide) rfl (tX7_must_t l N ad K I R rd (nI 3) (hrd) (kp)) (lw_V q508 q510 qs11 q77 q511) (by decide +kernel) ⟨by decide, by decide⟩ rfl rfl (Nat.le_of_ble_eq_true rfl) dX7_work_19 ⟨by simp only [gN]; omega, by simp only [gN]; omega⟩ (fun x0 N2 ad2 K2 I2 R2 H locs e2 hg hw => ?_)
      cases e2
      exact T_out hlk htb hw hg ⟨by simp only [gN]; omega, by simp only [gN]; omega⟩ (by cases (er_inj (zE.symm.trans h3)); exact rTh.of (rOff.rf) hrd h0.2.1.2.1)
    · exact absurd c10 (by omega)
  · have hE1 := (pWork_lt (T := T) (n := n) (b := b) (k := nI k) (rv := rv) h6).symm.trans h3
    obtain ⟨b1, hb1⟩ : ∃ z, (ntT T n b).1 = z := ⟨_, rfl⟩
    rw [hb1] at hE1
    refine lv_bipush (v := (nI 6)) hC.1 hC.2.1 dX7_work_8 (by decide) ?_
    refine k_ge (tgt := 17) hC (by omega) (by omega) dX7_work_10 (by decide) (fun c10 => ?_) (fun c10 => ?_)
    · exact absurd c10 (by omega)
    · refine lv_iconst (v := (nI 1)) hC.1 hC.2.1 dX7_work_13 (by decide) ?_
      refine lv_goto (tgt := 18) hC.1 hC.2.1 dX7_work_14 (by decide) ?_
      refine lv_iconst (v := (nI 3)) hC.1 hC.2.1 dX7_work_18 (by decide) ?_
      refine M_V (n := 2) (C := RX7) (T := TX7) hC hl.1 hK hX hw hrd kp (by decide) rfl (tX7_must l N ad K I R rd (nI 3) ) (lw_V q508 q510 qs11 q77 q511) (by decide +kernel) ⟨by decide, by decide⟩ rfl rfl (Nat.le_of_ble_eq_true rfl) dX7_work_19 ⟨by simp only [gN]; omega, by simp only [gN]; omega⟩ ?_
      rintro _ N2 ad2 K2 I2 R2 H locs ⟨I3, R3, e3, rfl, e4⟩ hg hw
      cases e3
      cases e4
      refine lv_iconst (v := (nI 1)) hC.1 hC.2.1 dX7_work_22 (by decide) ?_
      refine va_ldcS hC.1 hC.2.1 hC.2.2.2.1 hF.1 dX7_work_23 ?_
      refine lv_aload_n hC.1 hC.2.1 dX7_work_25 rfl (lv_at hl 0 rfl) ?_
      refine g_get (C := RX7) (T := TX7) (ref := RX7) hC hK hw (List.mem_range.mpr hrd) kp (by decide) rfl in_X7 5 (by decide) q464 (fun x h => h) (v := .int (nI c)) (by show Value.int _ = _; rw [htv]) dX7_work_26 ?_
      refine s_V (n := 1) hC hl.1 hF.2 hw.1.2.2.1 (tJ4_indexOf l sa sv c (by omega)) (lw_V q549 q550 q551 q71 q552) rfl rfl (by decide +kernel) ⟨by decide, by decide⟩ rfl rfl (Nat.le_of_ble_eq_true rfl) dX7_work_29 ⟨by simp only [gN]; omega, by simp only [gN]; omega⟩ ?_
      rw [hsx]
      refine k_add hC dX7_work_32 ?_
      rw [show 1 + (k - 1) = k from by omega]
      refine lv_istore_n (lv' := [(1, .int (nI k)), (0, .ref (ad rd))]) hC.1 hC.2.1 dX7_work_33 rfl hl (by decide) rfl (fun ls hl => ?_)
      refine lv_aload_n hC.1 hC.2.1 dX7_work_34 rfl (lv_at hl 1 rfl) ?_
      refine M_V (n := 0) (C := RX7) (T := TX7) hC hl.1 hK hX hw hrd kp (by decide) rfl (nxS l N ad K I R rd T n b wk rv b1 h0 hb1) (lw_V q486 q488 qs7 q77 q489) (by decide +kernel) ⟨by decide, by decide⟩ rfl rfl (Nat.le_of_ble_eq_true rfl) dX7_work_35 ⟨by simp only [gN]; omega, by simp only [gN]; omega⟩ ?_
      rintro _ N2 ad2 K2 I2 R2 H locs ⟨I3, R3, e3, rfl, J1, e4, s1, o1⟩ hg hw
      cases e3
      cases e4
      replace o1 := (rOff.rf).tr o1
      have htk1 := tk_num s1.2.1.2.2.2
      obtain ⟨b2, hb2⟩ : ∃ z, (ntT T n b1).1 = z := ⟨_, rfl⟩
      obtain ⟨b3, hb3⟩ : ∃ z, (ntT T n b2).1 = z := ⟨_, rfl⟩
      have zz := pW1_step (T := T) (n := n) (b := b1) (wk := wk) (k := nI k) (rv := rv)
      simp only [hb2, hb3] at zz
      rcases zz with ⟨w0, zf, zE⟩ | ⟨zt1, x, hx, ex, zi1, ⟨zf, zE⟩ | ⟨zs1, zE⟩⟩
      · refine lv_aload_n hC.1 hC.2.1 dX7_work_38 rfl (lv_at hl 1 rfl) ?_
        refine lv_iconst (v := (nI 0)) hC.1 hC.2.1 dX7_work_39 (by decide) ?_
        refine lv_iconst (v := (nI 3)) hC.1 hC.2.1 dX7_work_40 (by decide) ?_
        refine T_V (n := 2) (C := RX7) (T := TX7) hC hl.1 hK hX hZ hst hw hrd kp (by decide) rfl (tX7_figure_t l N ad K _ R rd 0 (nI 3) T n b1 w0 (s1.1) (s1.2.1) (zf)) (lw_V q540 q542 qs12 q77 q543) (by decide +kernel) ⟨by decide, by decide⟩ rfl rfl (Nat.le_of_ble_eq_true rfl) dX7_work_41 ⟨by simp only [gN]; omega, by simp only [gN]; omega⟩ (fun x0 N2 ad2 K2 I2 R2 H locs e2 hg hw => ?_)
        exact T_out hlk htb hw hg ⟨by simp only [gN]; omega, by simp only [gN]; omega⟩ (by cases (er_inj (zE.symm.trans hE1)); exact e2.tr (o1))
      · refine lv_aload_n hC.1 hC.2.1 dX7_work_38 rfl (lv_at hl 1 rfl) ?_
        refine lv_iconst (v := (nI 0)) hC.1 hC.2.1 dX7_work_39 (by decide) ?_
        refine lv_iconst (v := (nI 3)) hC.1 hC.2.1 dX7_work_40 (by decide) ?_
        refine M_V (n := 2) (C := RX7) (T := TX7) hC hl.1 hK hX hw hrd kp (by decide) rfl (figS l N ad K _ R rd 0 (nI 3) T n b1 wk rv b2 (s1) (zt1) (zi1) (hb2)) (lw_V q540 q542 qs12 q77 q543) (by decide +kernel) ⟨by decide, by decide⟩ rfl rfl (Nat.le_of_ble_eq_true rfl) dX7_work_41 ⟨by simp only [gN]; omega, by simp only [gN]; omega⟩ ?_
        rintro _ N2 ad2 K2 I2 R2 H locs ⟨I3, R3, e3, rfl, J2, e4, s2, o2⟩ hg hw
        cases e3
        cases e4
        replace o2 := (o1).tr o2
        have htk2 := tk_num s2.2.1.2.2.2
        rw [ex]
        refine lv_istore_n (lv' := [(2, .int (nI x)), (1, .int (nI k)), (0, .ref (ad rd))]) hC.1 hC.2.1 dX7_work_44 rfl hl (by decide) rfl (fun ls hl => ?_)
        refine lv_aload_n hC.1 hC.2.1 dX7_work_45 rfl (lv_at hl 2 rfl) ?_
        refine lv_bipush (v := (nI 44)) hC.1 hC.2.1 dX7_work_46 (by decide) ?_
        refine T_V (n := 1) (C := RX7) (T := TX7) hC hl.1 hK hX hZ hst hw hrd kp (by decide) rfl (tX7_sign_t l N ad K _ R rd 44 T n b2 (s2.1) (s2.2.1) (Or.inl rfl) (zf)) (lw_V q544 q546 qs13 q77 q547) (by decide +kernel) ⟨by decide, by decide⟩ rfl rfl (Nat.le_of_ble_eq_true rfl) dX7_work_48 ⟨by simp only [gN]; omega, by simp only [gN]; omega⟩ (fun x0 N2 ad2 K2 I2 R2 H locs e2 hg hw => ?_)
        exact T_out hlk htb hw hg ⟨by simp only [gN]; omega, by simp only [gN]; omega⟩ (by cases (er_inj (zE.symm.trans hE1)); exact e2.tr (o2))
      · have hE2 := zE.symm.trans hE1
        refine lv_aload_n hC.1 hC.2.1 dX7_work_38 rfl (lv_at hl 1 rfl) ?_
        refine lv_iconst (v := (nI 0)) hC.1 hC.2.1 dX7_work_39 (by decide) ?_
        refine lv_iconst (v := (nI 3)) hC.1 hC.2.1 dX7_work_40 (by decide) ?_
        refine M_V (n := 2) (C := RX7) (T := TX7) hC hl.1 hK hX hw hrd kp (by decide) rfl (figS l N ad K _ R rd 0 (nI 3) T n b1 wk rv b2 (s1) (zt1) (zi1) (hb2)) (lw_V q540 q542 qs12 q77 q543) (by decide +kernel) ⟨by decide, by decide⟩ rfl rfl (Nat.le_of_ble_eq_true rfl) dX7_work_41 ⟨by simp only [gN]; omega, by simp only [gN]; omega⟩ ?_
        rintro _ N2 ad2 K2 I2 R2 H locs ⟨I3, R3, e3, rfl, J2, e4, s2, o2⟩ hg hw
        cases e3
        cases e4
        replace o2 := (o1).tr o2
        have htk2 := tk_num s2.2.1.2.2.2
        rw [ex]
        refine lv_istore_n (lv' := [(2, .int (nI x)), (1, .int (nI k)), (0, .ref (ad rd))]) hC.1 hC.2.1 dX7_work_44 rfl hl (by decide) rfl (fun ls hl => ?_)
        refine lv_aload_n hC.1 hC.2.1 dX7_work_45 rfl (lv_at hl 2 rfl) ?_
        refine lv_bipush (v := (nI 44)) hC.1 hC.2.1 dX7_work_46 (by decide) ?_
        refine M_V (n := 1) (C := RX7) (T := TX7) hC hl.1 hK hX hw hrd kp (by decide) rfl (sigS l N ad K _ R rd 44 T n b2 wk rv b3 (s2) (Or.inl rfl) (zs1) (hb3)) (lw_V q544 q546 qs13 q77 q547) (by decide +kernel) ⟨by decide, by decide⟩ rfl rfl (Nat.le_of_ble_eq_true rfl) dX7_work_48 ⟨by simp only [gN]; omega, by simp only [gN]; omega⟩ ?_
        rintro _ N2 ad2 K2 I2 R2 H locs ⟨I3, R3, e3, rfl, J3, e4, s3, o3⟩ hg hw
        cases e3
        cases e4
        replace o3 := (o2).tr o3
        have htk3 := tk_num s3.2.1.2.2.2
        obtain ⟨b4, hb4⟩ : ∃ z, (ntT T n b3).1 = z := ⟨_, rfl⟩
        obtain ⟨b5, hb5⟩ : ∃ z, (ntT T n b4).1 = z := ⟨_, rfl⟩
        have zz := pW2_step (T := T) (n := n) (b := b3) (wk := wk) (x := x) (k := nI k) (rv := rv)
        simp only [hb4, hb5] at zz
        rcases zz with ⟨zf, zE⟩ | ⟨zt, zf, zE⟩ | ⟨zt, zi2, y, hy, ey, ⟨zf, zE⟩ | ⟨zr, ⟨zf, zE⟩ | ⟨zs2, zE⟩⟩⟩
        · obtain ⟨tE, htE⟩ : ∃ z, I2 rd 3 = z := ⟨_, rfl⟩
          refine lv_aload_n hC.1 hC.2.1 dX7_work_51 rfl (lv_at hl 2 rfl) ?_
          refine lv_aload_n hC.1 hC.2.1 dX7_work_52 rfl (lv_at hl 2 rfl) ?_
          refine g_get (C := RX7) (T := TX7) (ref := RX7) hC hK hw (List.mem_range.mpr hrd) kp (by decide) rfl in_X7 3 (by decide) q462 (fun x h => h) (v := .int tE) (by show Value.int _ = _; rw [htE]) dX7_work_53 ?_
          refine lv_iconst (v := (nI 2)) hC.1 hC.2.1 dX7_work_56 (by decide) ?_
          refine lv_icmp_ne (tgt := 64) hC.1 hC.2.1 dX7_work_57 (by decide) (fun c57 => ?_) (fun c57 => ?_)
          · refine lv_iconst (v := (nI 0)) hC.1 hC.2.1 dX7_work_64 (by decide) ?_
            refine lv_iconst (v := (nI 1)) hC.1 hC.2.1 dX7_work_65 (by decide) ?_
            refine T_V (n := 2) (C := RX7) (T := TX7) hC hl.1 hK hX hZ hst hw hrd kp (by decide) rfl (tX7_must_t l N ad K _ R rd (nI 1) (hrd) (kp)) (lw_V q508 q510 qs11 q77 q511) (by decide +kernel) ⟨by decide, by decide⟩ rfl rfl (Nat.le_of_ble_eq_true rfl) dX7_work_66 ⟨by simp only [gN]; omega, by simp only [gN]; omega⟩ (fun x0 N2 ad2 K2 I2 R2 H locs e2 hg hw => ?_)
            cases e2
            exact T_out hlk htb hw hg ⟨by simp only [gN]; omega, by simp only [gN]; omega⟩ (by cases (er_inj (zE.symm.trans hE2)); exact rTh.of (o3) hrd s3.2.1.2.1)
          · exact absurd (htk3.1.mp (htE.trans c57)) zf
        · refine lv_aload_n hC.1 hC.2.1 dX7_work_51 rfl (lv_at hl 2 rfl) ?_
          refine lv_aload_n hC.1 hC.2.1 dX7_work_52 rfl (lv_at hl 2 rfl) ?_
          refine g_get (C := RX7) (T := TX7) (ref := RX7) hC hK hw (List.mem_range.mpr hrd) kp (by decide) rfl in_X7 3 (by decide) q462 (fun x h => h) (v := .int (nI 2)) (by show Value.int _ = _; rw [htk3.1.mpr zt]) dX7_work_53 ?_
          refine lv_iconst (v := (nI 2)) hC.1 hC.2.1 dX7_work_56 (by decide) ?_
          refine k_ne (tgt := 64) hC (by omega) (by omega) dX7_work_57 (by decide) (fun c57 => ?_) (fun c57 => ?_)
          · exact absurd rfl c57
          · refine lv_iconst (v := (nI 1)) hC.1 hC.2.1 dX7_work_60 (by decide) ?_
            refine lv_goto (tgt := 65) hC.1 hC.2.1 dX7_work_61 (by decide) ?_
            refine lv_iconst (v := (nI 1)) hC.1 hC.2.1 dX7_work_65 (by decide) ?_
            refine M_V (n := 2) (C := RX7) (T := TX7) hC hl.1 hK hX hw hrd kp (by decide) rfl (tX7_must l N ad K _ R rd (nI 1) ) (lw_V q508 q510 qs11 q77 q511) (by decide +kernel) ⟨by decide, by decide⟩ rfl rfl (Nat.le_of_ble_eq_true rfl) dX7_work_66 ⟨by simp only [gN]; omega, by simp only [gN]; omega⟩ ?_
            rintro _ N2 ad2 K2 I2 R2 H locs ⟨I3, R3, e3, rfl, e4⟩ hg hw
            cases e3
            cases e4
            refine lv_aload_n hC.1 hC.2.1 dX7_work_69 rfl (lv_at hl 2 rfl) ?_
            refine lv_aload_n hC.1 hC.2.1 dX7_work_70 rfl (lv_at hl 2 rfl) ?_
            refine g_get (C := RX7) (T := TX7) (ref := RX7) hC hK hw (List.mem_range.mpr hrd) kp (by decide) rfl in_X7 5 (by decide) q464 (fun x h => h) (v := .int ((ntT T n b3).2.2)) (by show Value.int _ = _; rw [htk3.2.1 zt]) dX7_work_71 ?_
            refine lv_i2l hC.1 hC.2.1 dX7_work_74 rfl ?_
            refine lv_lconst (v := 0) hC.1 hC.2.1 dX7_work_75 (by decide) ?_
            refine lv_ldc2 hC.1 hC.2.1 hC.2.2.2.1 (hC.2.2.2.2 _ q647) dX7_work_76 ?_
            refine pS_callN (n := 3) hC hl.1 hX (tX0_isInI l ((ntT T n b3).2.2) 0 (nI 3)) q497 q334 q60 q335 rfl rfl (by decide +kernel) ⟨by decide, by decide⟩ rfl rfl (Nat.le_of_ble_eq_true rfl) dX7_work_79 ⟨Nat.zero_le _, Nat.zero_le _⟩ ?_
            refine k_beq (tgt := 107) hC dX7_work_82 (by decide) (fun c82 => ?_) (fun c82 => ?_)
            · refine lv_iconst (v := (nI 0)) hC.1 hC.2.1 dX7_work_107 (by decide) ?_
              refine lv_iconst (v := (nI 2)) hC.1 hC.2.1 dX7_work_108 (by decide) ?_
              refine T_V (n := 2) (C := RX7) (T := TX7) hC hl.1 hK hX hZ hst hw hrd kp (by decide) rfl (tX7_must_t l N ad K _ R rd (nI 2) (hrd) (kp)) (lw_V q508 q510 qs11 q77 q511) (by decide +kernel) ⟨by decide, by decide⟩ rfl rfl (Nat.le_of_ble_eq_true rfl) dX7_work_109 ⟨by simp only [gN]; omega, by simp only [gN]; omega⟩ (fun x0 N2 ad2 K2 I2 R2 H locs e2 hg hw => ?_)
              cases e2
              exact T_out hlk htb hw hg ⟨by simp only [gN]; omega, by simp only [gN]; omega⟩ (by cases (er_inj (zE.symm.trans hE2)); exact rTh.of (o3) hrd s3.2.1.2.1)
            · exact absurd c82 (by rw [zf]; decide)
        · refine lv_aload_n hC.1 hC.2.1 dX7_work_51 rfl (lv_at hl 2 rfl) ?_
          refine lv_aload_n hC.1 hC.2.1 dX7_work_52 rfl (lv_at hl 2 rfl) ?_
          refine g_get (C := RX7) (T := TX7) (ref := RX7) hC hK hw (List.mem_range.mpr hrd) kp (by decide) rfl in_X7 3 (by decide) q462 (fun x h => h) (v := .int (nI 2)) (by show Value.int _ = _; rw [htk3.1.mpr zt]) dX7_work_53 ?_
          refine lv_iconst (v := (nI 2)) hC.1 hC.2.1 dX7_work_56 (by decide) ?_
          refine k_ne (tgt := 64) hC (by omega) (by omega) dX7_work_57 (by decide) (fun c57 => ?_) (fun c57 => ?_)
          · exact absurd rfl c57
          · refine lv_iconst (v := (nI 1)) hC.1 hC.2.1 dX7_work_60 (by decide) ?_
            refine lv_goto (tgt := 65) hC.1 hC.2.1 dX7_work_61 (by decide) ?_
            refine lv_iconst (v := (nI 1)) hC.1 hC.2.1 dX7_work_65 (by decide) ?_
            refine M_V (n := 2) (C := RX7) (T := TX7) hC hl.1 hK hX hw hrd kp (by decide) rfl (tX7_must l N ad K _ R rd (nI 1) ) (lw_V q508 q510 qs11 q77 q511) (by decide +kernel) ⟨by decide, by decide⟩ rfl rfl (Nat.le_of_ble_eq_true rfl) dX7_work_66 ⟨by simp only [gN]; omega, by simp only [gN]; omega⟩ ?_
            rintro _ N2 ad2 K2 I2 R2 H locs ⟨I3, R3, e3, rfl, e4⟩ hg hw
            cases e3
            cases e4
            refine lv_aload_n hC.1 hC.2.1 dX7_work_69 rfl (lv_at hl 2 rfl) ?_
            refine lv_aload_n hC.1 hC.2.1 dX7_work_70 rfl (lv_at hl 2 rfl) ?_
            refine g_get (C := RX7) (T := TX7) (ref := RX7) hC hK hw (List.mem_range.mpr hrd) kp (by decide) rfl in_X7 5 (by decide) q464 (fun x h => h) (v := .int (nI y)) (by show Value.int _ = _; rw [htk3.2.1 zt, ey]) dX7_work_71 ?_
            refine lv_i2l hC.1 hC.2.1 dX7_work_74 rfl ?_
            refine lv_lconst (v := 0) hC.1 hC.2.1 dX7_work_75 (by decide) ?_
            refine lv_ldc2 hC.1 hC.2.1 hC.2.2.2.1 (hC.2.2.2.2 _ q647) dX7_work_76 ?_
            refine pS_callN (n := 3) hC hl.1 hX (tX0_isInI l (nI y) 0 (nI 3)) q497 q334 q60 q335 rfl rfl (by decide +kernel) ⟨by decide, by decide⟩ rfl rfl (Nat.le_of_ble_eq_true rfl) dX7_work_79 ⟨Nat.zero_le _, Nat.zero_le _⟩ ?_
            refine k_beq (tgt := 107) hC dX7_work_82 (by decide) (fun c82 => ?_) (fun c82 => ?_)
            · exact absurd c82 (by rw [← ey, zi2]; decide)
            · refine lv_aload_n hC.1 hC.2.1 dX7_work_85 rfl (lv_at hl 2 rfl) ?_
              refine g_get (C := RX7) (T := TX7) (ref := RX7) hC hK hw (List.mem_range.mpr hrd) kp (by decide) rfl in_X7 6 (by decide) q465 (fun x h => h) (v := .ref (ad (rd + 1))) (by show va_rf _ = _; rw [hmk]; rfl) dX7_work_86 ?_
              refine lv_iconst (v := (nI 4)) hC.1 hC.2.1 dX7_work_89 (by decide) ?_
              refine lv_iload_n hC.1 hC.2.1 dX7_work_90 rfl (lv_at hl 0 rfl) ?_
              refine k_mul hC dX7_work_91 ?_
              refine lv_aload_n hC.1 hC.2.1 dX7_work_92 rfl (lv_at hl 2 rfl) ?_
              refine g_get (C := RX7) (T := TX7) (ref := RX7) hC hK hw (List.mem_range.mpr hrd) kp (by decide) rfl in_X7 5 (by decide) q464 (fun x h => h) (v := .int (nI y)) (by show Value.int _ = _; rw [htk3.2.1 zt, ey]) dX7_work_93 ?_
              refine k_add hC dX7_work_96 ?_
              refine g_calli (n := 1) (C := RX2) (T := TX2) hC hl.1 hK hX hw (hp1).1.1 (hp1).2.1.1 (by decide) rfl (tX2_has l (List.range N) ad K _ R (rd + 1) ((4 * x) + y) (hp1) (by omega)) (lw_V q648 q644 q645 q62 q646) rfl rfl (by decide +kernel) ⟨by decide, by decide⟩ rfl rfl (Nat.le_of_ble_eq_true rfl) dX7_work_97 ⟨Nat.zero_le _, Nat.zero_le _⟩ ?_
              rintro r_2 I2 R2 H locs ⟨hr2, hS2⟩ hw
              rw [hr2]
              replace hw := hw.eq (Prod.mk.inj hS2).1 (Prod.mk.inj hS2).2
              clear hS2
              refine k_bne (tgt := 107) hC dX7_work_100 (by decide) (fun c100 => ?_) (fun c100 => ?_)
              · refine lv_iconst (v := (nI 0)) hC.1 hC.2.1 dX7_work_107 (by decide) ?_
                refine lv_iconst (v := (nI 2)) hC.1 hC.2.1 dX7_work_108 (by decide) ?_
                refine T_V (n := 2) (C := RX7) (T := TX7) hC hl.1 hK hX hZ hst hw hrd kp (by decide) rfl (tX7_must_t l N ad K _ R rd (nI 2) (hrd) (kp)) (lw_V q508 q510 qs11 q77 q511) (by decide +kernel) ⟨by decide, by decide⟩ rfl rfl (Nat.le_of_ble_eq_true rfl) dX7_work_109 ⟨by simp only [gN]; omega, by simp only [gN]; omega⟩ (fun x0 N2 ad2 K2 I2 R2 H locs e2 hg hw => ?_)
                cases e2
                exact T_out hlk htb hw hg ⟨by simp only [gN]; omega, by simp only [gN]; omega⟩ (by cases (er_inj (zE.symm.trans hE2)); exact rTh.of (o3) hrd s3.2.1.2.1)
              · exact absurd c100 (by rw [← s3.2.2.1.wk (by omega), zf]; decide)
        · refine lv_aload_n hC.1 hC.2.1 dX7_work_51 rfl (lv_at hl 2 rfl) ?_
          refine lv_aload_n hC.1 hC.2.1 dX7_work_52 rfl (lv_at hl 2 rfl) ?_
          refine g_get (C := RX7) (T := TX7) (ref := RX7) hC hK hw (List.mem_range.mpr hrd) kp (by decide) rfl in_X7 3 (by decide) q462 (fun x h => h) (v := .int (nI 2)) (by show Value.int _ = _; rw [htk3.1.mpr zt]) dX7_work_53 ?_
          refine lv_iconst (v := (nI 2)) hC.1 hC.2.1 dX7_work_56 (by decide) ?_
          refine k_ne (tgt := 64) hC (by omega) (by omega) dX7_work_57 (by decide) (fun c57 => ?_) (fun c57 => ?_)
          · exact absurd rfl c57
          · refine lv_iconst (v := (nI 1)) hC.1 hC.2.1 dX7_work_60 (by decide) ?_
            refine lv_goto (tgt := 65) hC.1 hC.2.1 dX7_work_61 (by decide) ?_
            refine lv_iconst (v := (nI 1)) hC.1 hC.2.1 dX7_work_65 (by decide) ?_
            refine M_V (n := 2) (C := RX7) (T := TX7) hC hl.1 hK hX hw hrd kp (by decide) rfl (tX7_must l N ad K _ R rd (nI 1) ) (lw_V q508 q510 qs11 q77 q511) (by decide +kernel) ⟨by decide, by decide⟩ rfl rfl (Nat.le_of_ble_eq_true rfl) dX7_work_66 ⟨by simp only [gN]; omega, by simp only [gN]; omega⟩ ?_
            rintro _ N2 ad2 K2 I2 R2 H locs ⟨I3, R3, e3, rfl, e4⟩ hg hw
            cases e3
            cases e4
            refine lv_aload_n hC.1 hC.2.1 dX7_work_69 rfl (lv_at hl 2 rfl) ?_
            refine lv_aload_n hC.1 hC.2.1 dX7_work_70 rfl (lv_at hl 2 rfl) ?_
            refine g_get (C := RX7) (T := TX7) (ref := RX7) hC hK hw (List.mem_range.mpr hrd) kp (by decide) rfl in_X7 5 (by decide) q464 (fun x h => h) (v := .int (nI y)) (by show Value.int _ = _; rw [htk3.2.1 zt, ey]) dX7_work_71 ?_
            refine lv_i2l hC.1 hC.2.1 dX7_work_74 rfl ?_
            refine lv_lconst (v := 0) hC.1 hC.2.1 dX7_work_75 (by decide) ?_
            refine lv_ldc2 hC.1 hC.2.1 hC.2.2.2.1 (hC.2.2.2.2 _ q647) dX7_work_76 ?_
            refine pS_callN (n := 3) hC hl.1 hX (tX0_isInI l (nI y) 0 (nI 3)) q497 q334 q60 q335 rfl rfl (by decide +kernel) ⟨by decide, by decide⟩ rfl rfl (Nat.le_of_ble_eq_true rfl) dX7_work_79 ⟨Nat.zero_le _, Nat.zero_le _⟩ ?_
            refine k_beq (tgt := 107) hC dX7_work_82 (by decide) (fun c82 => ?_) (fun c82 => ?_)
            · exact absurd c82 (by rw [← ey, zi2]; decide)
            · refine lv_aload_n hC.1 hC.2.1 dX7_work_85 rfl (lv_at hl 2 rfl) ?_
              refine g_get (C := RX7) (T := TX7) (ref := RX7) hC hK hw (List.mem_range.mpr hrd) kp (by decide) rfl in_X7 6 (by decide) q465 (fun x h => h) (v := .ref (ad (rd + 1))) (by show va_rf _ = _; rw [hmk]; rfl) dX7_work_86 ?_
              refine lv_iconst (v := (nI 4)) hC.1 hC.2.1 dX7_work_89 (by decide) ?_
              refine lv_iload_n hC.1 hC.2.1 dX7_work_90 rfl (lv_at hl 0 rfl) ?_
              refine k_mul hC dX7_work_91 ?_
              refine lv_aload_n hC.1 hC.2.1 dX7_work_92 rfl (lv_at hl 2 rfl) ?_
              refine g_get (C := RX7) (T := TX7) (ref := RX7) hC hK hw (List.mem_range.mpr hrd) kp (by decide) rfl in_X7 5 (by decide) q464 (fun x h => h) (v := .int (nI y)) (by show Value.int _ = _; rw [htk3.2.1 zt, ey]) dX7_work_93 ?_
              refine k_add hC dX7_work_96 ?_
              refine g_calli (n := 1) (C := RX2) (T := TX2) hC hl.1 hK hX hw (hp1).1.1 (hp1).2.1.1 (by decide) rfl (tX2_has l (List.range N) ad K _ R (rd + 1) ((4 * x) + y) (hp1) (by omega)) (lw_V q648 q644 q645 q62 q646) rfl rfl (by decide +kernel) ⟨by decide, by decide⟩ rfl rfl (Nat.le_of_ble_eq_true rfl) dX7_work_97 ⟨Nat.zero_le _, Nat.zero_le _⟩ ?_
              rintro r_2 I2 R2 H locs ⟨hr2, hS2⟩ hw
              rw [hr2]
              replace hw := hw.eq (Prod.mk.inj hS2).1 (Prod.mk.inj hS2).2
              clear hS2
              refine k_bne (tgt := 107) hC dX7_work_100 (by decide) (fun c100 => ?_) (fun c100 => ?_)
              · exact absurd c100 (by rw [← s3.2.2.1.wk (by omega), zr]; decide)
              · refine lv_iconst (v := (nI 1)) hC.1 hC.2.1 dX7_work_103 (by decide) ?_
                refine lv_goto (tgt := 108) hC.1 hC.2.1 dX7_work_104 (by decide) ?_
                refine lv_iconst (v := (nI 2)) hC.1 hC.2.1 dX7_work_108 (by decide) ?_
                refine M_V (n := 2) (C := RX7) (T := TX7) hC hl.1 hK hX hw hrd kp (by decide) rfl (tX7_must l N ad K _ R rd (nI 2) ) (lw_V q508 q510 qs11 q77 q511) (by decide +kernel) ⟨by decide, by decide⟩ rfl rfl (Nat.le_of_ble_eq_true rfl) dX7_work_109 ⟨by simp only [gN]; omega, by simp only [gN]; omega⟩ ?_
                rintro _ N2 ad2 K2 I2 R2 H locs ⟨I3, R3, e3, rfl, e4⟩ hg hw
                cases e3
                cases e4
                refine lv_iconst (v := (nI 4)) hC.1 hC.2.1 dX7_work_112 (by decide) ?_
                refine lv_iload_n hC.1 hC.2.1 dX7_work_113 rfl (lv_at hl 0 rfl) ?_
                refine k_mul hC dX7_work_114 ?_
                refine lv_aload_n hC.1 hC.2.1 dX7_work_115 rfl (lv_at hl 2 rfl) ?_
                refine lv_iconst (v := (nI 0)) hC.1 hC.2.1 dX7_work_116 (by decide) ?_
                refine lv_iconst (v := (nI 3)) hC.1 hC.2.1 dX7_work_117 (by decide) ?_
                refine M_V (n := 2) (C := RX7) (T := TX7) hC hl.1 hK hX hw hrd kp (by decide) rfl (figS l N ad K _ R rd 0 (nI 3) T n b3 wk rv b4 (s3) (zt) (zi2) (hb4)) (lw_V q540 q542 qs12 q77 q543) (by decide +kernel) ⟨by decide, by decide⟩ rfl rfl (Nat.le_of_ble_eq_true rfl) dX7_work_118 ⟨by simp only [gN]; omega, by simp only [gN]; omega⟩ ?_
                rintro _ N2 ad2 K2 I2 R2 H locs ⟨I3, R3, e3, rfl, J4, e4, s4, o4⟩ hg hw
                cases e3
                cases e4
                replace o4 := (o3).tr o4
                have htk4 := tk_num s4.2.1.2.2.2
                rw [ey]
                refine k_add hC dX7_work_121 ?_
                refine lv_istore_n (lv' := [(3, .int (nI ((4 * x) + y))), (2, .int (nI x)), (1, .int (nI k)), (0, .ref (ad rd))]) hC.1 hC.2.1 dX7_work_122 rfl hl (by decide) rfl (fun ls hl => ?_)
                refine lv_aload_n hC.1 hC.2.1 dX7_work_123 rfl (lv_at hl 3 rfl) ?_
                refine lv_bipush (v := (nI 44)) hC.1 hC.2.1 dX7_work_124 (by decide) ?_
                refine T_V (n := 1) (C := RX7) (T := TX7) hC hl.1 hK hX hZ hst hw hrd kp (by decide) rfl (tX7_sign_t l N ad K _ R rd 44 T n b4 (s4.1) (s4.2.1) (Or.inl rfl) (zf)) (lw_V q544 q546 qs13 q77 q547) (by decide +kernel) ⟨by decide, by decide⟩ rfl rfl (Nat.le_of_ble_eq_true rfl) dX7_work_126 ⟨by simp only [gN]; omega, by simp only [gN]; omega⟩ (fun x0 N2 ad2 K2 I2 R2 H locs e2 hg hw => ?_)
                exact T_out hlk htb hw hg ⟨by simp only [gN]; omega, by simp only [gN]; omega⟩ (by cases (er_inj (zE.symm.trans hE2)); exact e2.tr (o4))
        · have hE3 := zE.symm.trans hE2
          refine lv_aload_n hC.1 hC.2.1 dX7_work_51 rfl (lv_at hl 2 rfl) ?_
          refine lv_aload_n hC.1 hC.2.1 dX7_work_52 rfl (lv_at hl 2 rfl) ?_
          refine g_get (C := RX7) (T := TX7) (ref := RX7) hC hK hw (List.mem_range.mpr hrd) kp (by decide) rfl in_X7 3 (by decide) q462 (fun x h => h) (v := .int (nI 2)) (by show Value.int _ = _; rw [htk3.1.mpr zt]) dX7_work_53 ?_
          refine lv_iconst (v := (nI 2)) hC.1 hC.2.1 dX7_work_56 (by decide) ?_
          refine k_ne (tgt := 64) hC (by omega) (by omega) dX7_work_57 (by decide) (fun c57 => ?_) (fun c57 => ?_)
          · exact absurd rfl c57
          · refine lv_iconst (v := (nI 1)) hC.1 hC.2.1 dX7_work_60 (by decide) ?_
            refine lv_goto (tgt := 65) hC.1 hC.2.1 dX7_work_61 (by decide) ?_
            refine lv_iconst (v := (nI 1)) hC.1 hC.2.1 dX7_work_65 (by decide) ?_
            refine M_V (n := 2) (C := RX7) (T := TX7) hC hl.1 hK hX hw hrd kp (by decide) rfl (tX7_must l N ad K _ R rd (nI 1) ) (lw_V q508 q510 qs11 q77 q511) (by decide +kernel) ⟨by decide, by decide⟩ rfl rfl (Nat.le_of_ble_eq_true rfl) dX7_work_66 ⟨by simp only [gN]; omega, by simp only [gN]; omega⟩ ?_
            rintro _ N2 ad2 K2 I2 R2 H locs ⟨I3, R3, e3, rfl, e4⟩ hg hw
            cases e3
            cases e4
            refine lv_aload_n hC.1 hC.2.1 dX7_work_69 rfl (lv_at hl 2 rfl) ?_
            refine lv_aload_n hC.1 hC.2.1 dX7_work_70 rfl (lv_at hl 2 rfl) ?_
            refine g_get (C := RX7) (T := TX7) (ref := RX7) hC hK hw (List.mem_range.mpr hrd) kp (by decide) rfl in_X7 5 (by decide) q464 (fun x h => h) (v := .int (nI y)) (by show Value.int _ = _; rw [htk3.2.1 zt, ey]) dX7_work_71 ?_
            refine lv_i2l hC.1 hC.2.1 dX7_work_74 rfl ?_
            refine lv_lconst (v := 0) hC.1 hC.2.1 dX7_work_75 (by decide) ?_
            refine lv_ldc2 hC.1 hC.2.1 hC.2.2.2.1 (hC.2.2.2.2 _ q647) dX7_work_76 ?_
            refine pS_callN (n := 3) hC hl.1 hX (tX0_isInI l (nI y) 0 (nI 3)) q497 q334 q60 q335 rfl rfl (by decide +kernel) ⟨by decide, by decide⟩ rfl rfl (Nat.le_of_ble_eq_true rfl) dX7_work_79 ⟨Nat.zero_le _, Nat.zero_le _⟩ ?_
            refine k_beq (tgt := 107) hC dX7_work_82 (by decide) (fun c82 => ?_) (fun c82 => ?_)
            · exact absurd c82 (by rw [← ey, zi2]; decide)
            · refine lv_aload_n hC.1 hC.2.1 dX7_work_85 rfl (lv_at hl 2 rfl) ?_
              refine g_get (C := RX7) (T := TX7) (ref := RX7) hC hK hw (List.mem_range.mpr hrd) kp (by decide) rfl in_X7 6 (by decide) q465 (fun x h => h) (v := .ref (ad (rd + 1))) (by show va_rf _ = _; rw [hmk]; rfl) dX7_work_86 ?_
              refine lv_iconst (v := (nI 4)) hC.1 hC.2.1 dX7_work_89 (by decide) ?_
              refine lv_iload_n hC.1 hC.2.1 dX7_work_90 rfl (lv_at hl 0 rfl) ?_
              refine k_mul hC dX7_work_91 ?_
              refine lv_aload_n hC.1 hC.2.1 dX7_work_92 rfl (lv_at hl 2 rfl) ?_
              refine g_get (C := RX7) (T := TX7) (ref := RX7) hC hK hw (List.mem_range.mpr hrd) kp (by decide) rfl in_X7 5 (by decide) q464 (fun x h => h) (v := .int (nI y)) (by show Value.int _ = _; rw [htk3.2.1 zt, ey]) dX7_work_93 ?_
              refine k_add hC dX7_work_96 ?_
              refine g_calli (n := 1) (C := RX2) (T := TX2) hC hl.1 hK hX hw (hp1).1.1 (hp1).2.1.1 (by decide) rfl (tX2_has l (List.range N) ad K _ R (rd + 1) ((4 * x) + y) (hp1) (by omega)) (lw_V q648 q644 q645 q62 q646) rfl rfl (by decide +kernel) ⟨by decide, by decide⟩ rfl rfl (Nat.le_of_ble_eq_true rfl) dX7_work_97 ⟨Nat.zero_le _, Nat.zero_le _⟩ ?_
              rintro r_2 I2 R2 H locs ⟨hr2, hS2⟩ hw
              rw [hr2]
              replace hw := hw.eq (Prod.mk.inj hS2).1 (Prod.mk.inj hS2).2
              clear hS2
              refine k_bne (tgt := 107) hC dX7_work_100 (by decide) (fun c100 => ?_) (fun c100 => ?_)
              · exact absurd c100 (by rw [← s3.2.2.1.wk (by omega), zr]; decide)
              · refine lv_iconst (v := (nI 1)) hC.1 hC.2.1 dX7_work_103 (by decide) ?_
                refine lv_goto (tgt := 108) hC.1 hC.2.1 dX7_work_104 (by decide) ?_
                refine lv_iconst (v := (nI 2)) hC.1 hC.2.1 dX7_work_108 (by decide) ?_
                refine M_V (n := 2) (C := RX7) (T := TX7) hC hl.1 hK hX hw hrd kp (by decide) rfl (tX7_must l N ad K _ R rd (nI 2) ) (lw_V q508 q510 qs11 q77 q511) (by decide +kernel) ⟨by decide, by decide⟩ rfl rfl (Nat.le_of_ble_eq_true rfl) dX7_work_109 ⟨by simp only [gN]; omega, by simp only [gN]; omega⟩ ?_
                rintro _ N2 ad2 K2 I2 R2 H locs ⟨I3, R3, e3, rfl, e4⟩ hg hw
                cases e3
                cases e4
                refine lv_iconst (v := (nI 4)) hC.1 hC.2.1 dX7_work_112 (by decide) ?_
                refine lv_iload_n hC.1 hC.2.1 dX7_work_113 rfl (lv_at hl 0 rfl) ?_
                refine k_mul hC dX7_work_114 ?_
                refine lv_aload_n hC.1 hC.2.1 dX7_work_115 rfl (lv_at hl 2 rfl) ?_
                refine lv_iconst (v := (nI 0)) hC.1 hC.2.1 dX7_work_116 (by decide) ?_
                refine lv_iconst (v := (nI 3)) hC.1 hC.2.1 dX7_work_117 (by decide) ?_
                refine M_V (n := 2) (C := RX7) (T := TX7) hC hl.1 hK hX hw hrd kp (by decide) rfl (figS l N ad K _ R rd 0 (nI 3) T n b3 wk rv b4 (s3) (zt) (zi2) (hb4)) (lw_V q540 q542 qs12 q77 q543) (by decide +kernel) ⟨by decide, by decide⟩ rfl rfl (Nat.le_of_ble_eq_true rfl) dX7_work_118 ⟨by simp only [gN]; omega, by simp only [gN]; omega⟩ ?_
                rintro _ N2 ad2 K2 I2 R2 H locs ⟨I3, R3, e3, rfl, J4, e4, s4, o4⟩ hg hw
                cases e3
                cases e4
                replace o4 := (o3).tr o4
                have htk4 := tk_num s4.2.1.2.2.2
                rw [ey]
                refine k_add hC dX7_work_121 ?_
                refine lv_istore_n (lv' := [(3, .int (nI ((4 * x) + y))), (2, .int (nI x)), (1, .int (nI k)), (0, .ref (ad rd))]) hC.1 hC.2.1 dX7_work_122 rfl hl (by decide) rfl (fun ls hl => ?_)
                refine lv_aload_n hC.1 hC.2.1 dX7_work_123 rfl (lv_at hl 3 rfl) ?_
                refine lv_bipush (v := (nI 44)) hC.1 hC.2.1 dX7_work_124 (by decide) ?_
                refine M_V (n := 1) (C := RX7) (T := TX7) hC hl.1 hK hX hw hrd kp (by decide) rfl (sigS l N ad K _ R rd 44 T n b4 wk rv b5 (s4) (Or.inl rfl) (zs2) (hb5)) (lw_V q544 q546 qs13 q77 q547) (by decide +kernel) ⟨by decide, by decide⟩ rfl rfl (Nat.le_of_ble_eq_true rfl) dX7_work_126 ⟨by simp only [gN]; omega, by simp only [gN]; omega⟩ ?_
                rintro _ N2 ad2 K2 I2 R2 H locs ⟨I3, R3, e3, rfl, J5, e4, s5, o5⟩ hg hw
                cases e3
                cases e4
                replace o5 := (o4).tr o5
                have htk5 := tk_num s5.2.1.2.2.2
                obtain ⟨b6, hb6⟩ : ∃ z, (ntT T n b5).1 = z := ⟨_, rfl⟩
                obtain ⟨b7, hb7⟩ : ∃ z, (ntT T n b6).1 = z := ⟨_, rfl⟩
                have zz := pN_step (T := T) (n := n) (b := b5) (wk := wk + 1) (a := 25 + (4 * x + y)) (hi := nI 99) (sg := nI 59) (rv := upd rv (9 + (4 * x + y)) (nI k))
                simp only [hb6, hb7] at zz
                rcases zz with ⟨w0, zf, zE⟩ | ⟨zt3, zi3, ⟨zf, zE⟩ | ⟨zs3, zE⟩⟩
                · refine lv_aload_n hC.1 hC.2.1 dX7_work_129 rfl (lv_at hl 3 rfl) ?_
                  refine lv_iconst (v := (nI 0)) hC.1 hC.2.1 dX7_work_130 (by decide) ?_
                  refine lv_bipush (v := (nI 99)) hC.1 hC.2.1 dX7_work_131 (by decide) ?_
                  refine T_V (n := 2) (C := RX7) (T := TX7) hC hl.1 hK hX hZ hst hw hrd kp (by decide) rfl (tX7_figure_t l N ad K _ R rd 0 (nI 99) T n b5 w0 (s5.1) (s5.2.1) (zf)) (lw_V q540 q542 qs12 q77 q543) (by decide +kernel) ⟨by decide, by decide⟩ rfl rfl (Nat.le_of_ble_eq_true rfl) dX7_work_133 ⟨by simp only [gN]; omega, by simp only [gN]; omega⟩ (fun x0 N2 ad2 K2 I2 R2 H locs e2 hg hw => ?_)
                  exact T_out hlk htb hw hg ⟨by simp only [gN]; omega, by simp only [gN]; omega⟩ (by cases (er_inj (zE.symm.trans hE3)); exact e2.tr (o5))
                · refine lv_aload_n hC.1 hC.2.1 dX7_work_129 rfl (lv_at hl 3 rfl) ?_
                  refine lv_iconst (v := (nI 0)) hC.1 hC.2.1 dX7_work_130 (by decide) ?_
                  refine lv_bipush (v := (nI 99)) hC.1 hC.2.1 dX7_work_131 (by decide) ?_
                  refine M_V (n := 2) (C := RX7) (T := TX7) hC hl.1 hK hX hw hrd kp (by decide) rfl (figS l N ad K _ R rd 0 (nI 99) T n b5 wk rv b6 (s5) (zt3) (zi3) (hb6)) (lw_V q540 q542 qs12 q77 q543) (by decide +kernel) ⟨by decide, by decide⟩ rfl rfl (Nat.le_of_ble_eq_true rfl) dX7_work_133 ⟨by simp only [gN]; omega, by simp only [gN]; omega⟩ ?_
                  rintro _ N2 ad2 K2 I2 R2 H locs ⟨I3, R3, e3, rfl, J6, e4, s6, o6⟩ hg hw
                  cases e3
                  cases e4
                  replace o6 := (o5).tr o6
                  have htk6 := tk_num s6.2.1.2.2.2
                  refine lv_istore (lv' := [(4, .int ((ntT T n b5).2.2)), (3, .int (nI ((4 * x) + y))), (2, .int (nI x)), (1, .int (nI k)), (0, .ref (ad rd))]) hC.1 hC.2.1 dX7_work_136 hl (by decide) rfl (fun ls hl => ?_)
                  refine lv_aload_n hC.1 hC.2.1 dX7_work_138 rfl (lv_at hl 4 rfl) ?_
                  refine lv_bipush (v := (nI 59)) hC.1 hC.2.1 dX7_work_139 (by decide) ?_
                  refine T_V (n := 1) (C := RX7) (T := TX7) hC hl.1 hK hX hZ hst hw hrd kp (by decide) rfl (tX7_sign_t l N ad K _ R rd 59 T n b6 (s6.1) (s6.2.1) (Or.inr rfl) (zf)) (lw_V q544 q546 qs13 q77 q547) (by decide +kernel) ⟨by decide, by decide⟩ rfl rfl (Nat.le_of_ble_eq_true rfl) dX7_work_141 ⟨by simp only [gN]; omega, by simp only [gN]; omega⟩ (fun x0 N2 ad2 K2 I2 R2 H locs e2 hg hw => ?_)
                  exact T_out hlk htb hw hg ⟨by simp only [gN]; omega, by simp only [gN]; omega⟩ (by cases (er_inj (zE.symm.trans hE3)); exact e2.tr (o6))
                · have hE4 := zE.symm.trans hE3
                  refine lv_aload_n hC.1 hC.2.1 dX7_work_129 rfl (lv_at hl 3 rfl) ?_
                  refine lv_iconst (v := (nI 0)) hC.1 hC.2.1 dX7_work_130 (by decide) ?_
                  refine lv_bipush (v := (nI 99)) hC.1 hC.2.1 dX7_work_131 (by decide) ?_
                  refine M_V (n := 2) (C := RX7) (T := TX7) hC hl.1 hK hX hw hrd kp (by decide) rfl (figS l N ad K _ R rd 0 (nI 99) T n b5 wk rv b6 (s5) (zt3) (zi3) (hb6)) (lw_V q540 q542 qs12 q77 q543) (by decide +kernel) ⟨by decide, by decide⟩ rfl rfl (Nat.le_of_ble_eq_true rfl) dX7_work_133 ⟨by simp only [gN]; omega, by simp only [gN]; omega⟩ ?_
                  rintro _ N2 ad2 K2 I2 R2 H locs ⟨I3, R3, e3, rfl, J6, e4, s6, o6⟩ hg hw
                  cases e3
                  cases e4
                  replace o6 := (o5).tr o6
                  have htk6 := tk_num s6.2.1.2.2.2
                  refine lv_istore (lv' := [(4, .int ((ntT T n b5).2.2)), (3, .int (nI ((4 * x) + y))), (2, .int (nI x)), (1, .int (nI k)), (0, .ref (ad rd))]) hC.1 hC.2.1 dX7_work_136 hl (by decide) rfl (fun ls hl => ?_)
                  refine lv_aload_n hC.1 hC.2.1 dX7_work_138 rfl (lv_at hl 4 rfl) ?_
                  refine lv_bipush (v := (nI 59)) hC.1 hC.2.1 dX7_work_139 (by decide) ?_
                  refine M_V (n := 1) (C := RX7) (T := TX7) hC hl.1 hK hX hw hrd kp (by decide) rfl (sigS l N ad K _ R rd 59 T n b6 wk rv b7 (s6) (Or.inr rfl) (zs3) (hb7)) (lw_V q544 q546 qs13 q77 q547) (by decide +kernel) ⟨by decide, by decide⟩ rfl rfl (Nat.le_of_ble_eq_true rfl) dX7_work_141 ⟨by simp only [gN]; omega, by simp only [gN]; omega⟩ ?_
                  rintro _ N2 ad2 K2 I2 R2 H locs ⟨I3, R3, e3, rfl, J7, e4, s7, o7⟩ hg hw
                  cases e3
                  cases e4
                  replace o7 := (o6).tr o7
                  have htk7 := tk_num s7.2.1.2.2.2
                  exact (no_ok hE4).elim
