/-! ===== Reader: all (by gen/w87.py) ===== -/
theorem psR.told {dom : List Nat} {K : gK} {I : mG} {R : gR} {u : Nat} {st : vV} (h : psR dom K I R u st) (x : Int32) : psR dom K (g2 I u 0 x) R u st := by
  obtain ⟨p1, p2, p3, p4⟩ := h
  have e : ∀ k, k ≠ 0 → g2 I u 0 x u k = I u k := fun k hk => by rw [g2_ap, if_neg (fun z => hk z.2)]
  refine ⟨p1, by rw [e 1 (by decide)]; exact p2, fun y hy => by rw [g2_ne _ _ _ (by omega), g2_ne _ _ _ (by omega)]; exact p3 y hy, fun c hc => ?_⟩
  obtain ⟨g1, g2', g3, g4⟩ := p4 c hc
  refine ⟨by rw [e 5 (by decide)]; exact g1, g2', g3, ?_⟩
  rcases g4 with z | ⟨w, k, z1, z2, z3, z4, z5, z6, z7, z8⟩
  · exact Or.inl z
  · have hw := p1.wk z5 z3 z4
    exact Or.inr ⟨w, k, z1, z2, z3, z4, z5, z6, by rw [g2_ne _ _ _ (by omega)]; exact z7, by rw [g2_ne _ _ _ (by omega)]; exact z8⟩
theorem rdS.told {N : Nat} {K : gK} {I : mG} {R : gR} {rd : Nat} {T : vV} {n b wk : Nat} {rv : vV} (h : rdS N K I R rd T n b wk rv) : rdB N K (g2 I (rd + 1) 0 (nI 1)) R rd T n ∧ rdP N K (g2 I (rd + 1) 0 (nI 1)) R rd wk rv ∧ g2 I (rd + 1) 0 (nI 1) (rd + 1) 0 = nI 1 := by
  obtain ⟨⟨h1, ⟨h2, h3, h4⟩, h5, h6⟩, -, p1, p2, p3⟩ := h
  exact ⟨⟨h1, ⟨h2, h3, by rw [g2_ne _ _ _ (by omega)]; exact h4⟩, h5, fun i hi => by rw [g2_ne _ _ _ (by omega)]; exact h6 i hi⟩, ⟨p1.told _, p2, p3⟩, g2_at _ _ _ _⟩
theorem nx0 (l : Launch) (N : Nat) (ad : Nat → Nat) (K : gK) (I : mG) (R : gR) (rd : Nat) (T : vV) (n : Nat) (rv : vV) (h0 : rdB N K I R rd T n) (h1 : I rd 2 = nI 0) (h2 : rdP N K I R rd 0 rv) : gA l yX7_next (ws_ yX7_next cX7_next 2 none) ({ frames := 1, cells := 0, slots := 0, locals := 25 } : Room) [.ref (ad rd)] N ad K I R (fun v S => v = none ∧ ∃ I1, S = (I1, R) ∧ rdS N K I1 R rd T n 0 0 rv ∧ rOff rd I I1 R R) := by
  refine gM.mono (tX7_next l N ad K I R rd T n 0 h0 h1 (Nat.zero_le _)) ?_
  rintro v S ⟨I', R', rfl, rfl, tk, va, e4, e5⟩
  cases e4
  exact ⟨_, _, rfl, rfl, _, rfl, ⟨h0.rdI _ _ _ _, rdT.nx (Nat.zero_le _) e5, h2.rdI h0.1.2.2.1 _ _ _ _⟩, rOff.rd⟩

set_option maxHeartbeats 800000 in
theorem tX7_all_r (sa sv : Nat) (l : Launch) (N : Nat) (ad : Nat → Nat) (K : gK) (I : mG) (R : gR) (rd : Nat) (T : vV) (n : Nat) (bz : Nat) (wz : Nat) (rz : vV) (h0 : rdB N K I R rd T n) (h1 : I rd 2 = nI 0) (h2 : rdP N K I R rd 0 z0) (h3 : pRead T n = .ok (bz, wz, rz)) : gMS sa sv l yX7_all (ws_ yX7_all cX7_all 1 none) ({ frames := 6, cells := 6, slots := 12, locals := 152 } : Room) [.ref (ad rd)] N ad K I R (fun v S => v = none ∧ rdB S.1 S.2.2.1 S.2.2.2.1 S.2.2.2.2 rd T n ∧ rdP S.1 S.2.2.1 S.2.2.2.1 S.2.2.2.2 rd wz rz ∧ S.2.2.2.1 (rd + 1) 0 = nI 1 ∧ rOff rd I S.2.2.2.1 R S.2.2.2.2) := by
  refine gMS.of (by decide) (Nat.le_of_ble_eq_true rfl) ?_
  intro D dA p e s m args below meth cd ls hC hlk hr hK hX hZ hst hF hl hw
  have hl : lv_has ls 1 [(0, .ref (ad rd))] := hl
  have hrd : rd < N := by have := h0.1; omega
  have kp := h0.1.2.2.1
  refine lv_aload_n hC.1 hC.2.1 dX7_all_0 rfl (lv_at hl 0 rfl) ?_
  refine M_V (n := 0) (C := RX7) (T := TX7) hC hl.1 hK hX hw hrd kp (by decide) rfl (nx0 l N ad K I R rd T n z0 h0 h1 h2) (lw_V q486 q488 qs7 q77 q489) (by decide +kernel) ⟨by decide, by decide⟩ rfl rfl (Nat.le_of_ble_eq_true rfl) dX7_all_1 ⟨by simp only [gN]; omega, by simp only [gN]; omega⟩ ?_
  rintro _ N2 ad2 K2 I2 R2 H locs ⟨I3, R3, e3, rfl, J0, e4, s0, o0⟩ hg hw
  cases e3
  cases e4
  refine lv_aload_n hC.1 hC.2.1 dX7_all_4 rfl (lv_at hl 0 rfl) ?_
  refine lv_bipush (v := (nI 97)) hC.1 hC.2.1 dX7_all_5 (by decide) ?_
  refine lv_aload_n hC.1 hC.2.1 dX7_all_7 rfl (lv_at hl 0 rfl) ?_
  refine g_get (C := RX7) (T := TX7) (ref := RX7) hC hK hw (List.mem_range.mpr hrd) kp (by decide) rfl in_X7 6 (by decide) q465 (fun x h => h) (v := .ref (ad (rd + 1))) (by show va_rf _ = _; rw [h0.2.1.2.1]; rfl) dX7_all_8 ?_
  refine p_ga hC hK hw h2.1.1 2 1 h2.1.1.2.2.1 (by decide) rfl q128 rfl dX7_all_11 ?_
  cases hA0 : pFour T n (nI 97) 1 0 0 z0 with
  | error Sx =>
    exact (ok_no ((pRead_a hA0).symm.trans h3)).elim
  | ok Sx =>
    obtain ⟨b1, w1, r1⟩ := Sx
    have hw1 : w1 = 0 := pFour_wk hA0
    subst hw1
    refine M_V (n := 2) (C := RX7) (T := TX7) hC hl.1 hK hX hw hrd kp (by decide) rfl (tX7_four l N ad K _ R rd 97 (rd + 1 + 1) T n 0 0 z0 1 b1 0 r1 s0 (Or.inl ⟨rfl, rfl⟩) (by decide) hA0) (lw_V q500 q502 qs9 q77 q503) (by decide +kernel) ⟨by decide, by decide⟩ rfl rfl (Nat.le_of_ble_eq_true rfl) dX7_all_14 ⟨by simp only [gN]; omega, by simp only [gN]; omega⟩ ?_
    rintro _ N2 ad2 K2 I2 R2 H locs ⟨I3, R3, e3, rfl, J1, e4, s1, o1⟩ hg hw
    cases e3
    cases e4
    replace o1 := (o0).tr o1
    refine lv_aload_n hC.1 hC.2.1 dX7_all_17 rfl (lv_at hl 0 rfl) ?_
    refine lv_bipush (v := (nI 98)) hC.1 hC.2.1 dX7_all_18 (by decide) ?_
    refine lv_aload_n hC.1 hC.2.1 dX7_all_20 rfl (lv_at hl 0 rfl) ?_
    refine g_get (C := RX7) (T := TX7) (ref := RX7) hC hK hw (List.mem_range.mpr hrd) kp (by decide) rfl in_X7 6 (by decide) q465 (fun x h => h) (v := .ref (ad (rd + 1))) (by show va_rf _ = _; rw [h0.2.1.2.1]; rfl) dX7_all_21 ?_
    refine p_ga hC hK hw h2.1.1 3 2 h2.1.1.2.2.2.1 (by decide) rfl q131 rfl dX7_all_24 ?_
    cases hA1 : pFour T n (nI 98) 5 b1 0 r1 with
    | error Sx =>
      exact (ok_no ((pRead_b hA0 hA1).symm.trans h3)).elim
    | ok Sx =>
      obtain ⟨b2, w2, r2⟩ := Sx
      have hw2 : w2 = 0 := pFour_wk hA1
      subst hw2
      refine M_V (n := 2) (C := RX7) (T := TX7) hC hl.1 hK hX hw hrd kp (by decide) rfl (tX7_four l N ad K _ R rd 98 (rd + 1 + 2) T n b1 0 r1 5 b2 0 r2 s1 (Or.inr ⟨rfl, rfl⟩) (by decide) hA1) (lw_V q500 q502 qs9 q77 q503) (by decide +kernel) ⟨by decide, by decide⟩ rfl rfl (Nat.le_of_ble_eq_true rfl) dX7_all_27 ⟨by simp only [gN]; omega, by simp only [gN]; omega⟩ ?_
      rintro _ N2 ad2 K2 I2 R2 H locs ⟨I3, R3, e3, rfl, J2, e4, s2, o2⟩ hg hw
      cases e3
      cases e4
      replace o2 := (o1).tr o2
      have h4 := (pRead_c hA0 hA1).2.symm.trans h3
      refine W.loopC (fun ls w H locs => ∃ N1 ad1 K1 I1 R1 b3 rv3, lv_has ls 1 [(0, .ref (ad1 rd))] ∧ gw D dA (nA (List.range N) ad s.heap.size) s.heap (List.range N1) ad1 K1 I1 R1 H locs ∧ (gGo N ad K (N1, ad1, K1, I1, R1)) ∧ (rdS N1 K1 I1 R1 rd T n b3 w rv3) ∧ (pAll T n (7 - w) b3 w rv3 = .ok (bz, wz, rz)) ∧ (rOff rd I I1 R R1) ∧ (w ≤ 6)) 30 (fun _ => []) (fun w => 7 - w) (fun w => w) (fun w => 2 * w) ?_ 0 ⟨_, _, _, _, _, _, _, hl.sub' [0] (by rfl), hw, gGo.rf, s2, h4, o2, by omega⟩
      rintro ls w H locs ⟨N1, ad1, K1, I1, R1, b3, rv3, hl, hw, gx, hx, h5, ox, hw6⟩ ih30
      have hrd7 := hx.1.1.2.1
      have hrd : rd < N1 := by omega
      have kp := hx.1.1.2.2.1
      refine lv_aload_n hC.1 hC.2.1 dX7_all_30 rfl (lv_at hl 0 rfl) ?_
      rcases tk_loop hx.2.1.2.2.2 with ⟨t1, c, hc, ev, ⟨k0, sx⟩ | ⟨k, hk, sx, hk5⟩⟩ | ⟨t1, k0⟩
      · exact (ok_no ((pAll_0 (T := T) (n := n) (rd := rv3) (b := b3) hw6 (fun z => absurd (((tk_num hx.2.1.2.2.2).2.2.mpr z).symm.trans t1) (by decide)) k0).symm.trans h5)).elim
      · have n3 : ¬ (ntT T n b3).2.1 = nI 3 := fun z => absurd (((tk_num hx.2.1.2.2.2).2.2.mpr z).symm.trans t1) (by decide)
        refine g_get (C := RX7) (T := TX7) (ref := RX7) hC hK hw (List.mem_range.mpr hrd) kp (by decide) rfl in_X7 3 (by decide) q462 (fun x h => h) (v := .int (nI 1)) (by show Value.int _ = _; rw [t1]) dX7_all_31 ?_
        refine lv_iconst (v := (nI 1)) hC.1 hC.2.1 dX7_all_34 (by decide) ?_
        refine k_ne (tgt := 57) hC (by omega) (by omega) dX7_all_35 (by decide) (fun c35 => ?_) (fun c35 => ?_)
        · exact absurd rfl c35
        · refine va_ldcS hC.1 hC.2.1 hC.2.2.2.1 hF.1 dX7_all_38 ?_
          refine lv_aload_n hC.1 hC.2.1 dX7_all_40 rfl (lv_at hl 0 rfl) ?_
          refine g_get (C := RX7) (T := TX7) (ref := RX7) hC hK hw (List.mem_range.mpr hrd) kp (by decide) rfl in_X7 5 (by decide) q464 (fun x h => h) (v := .int (nI c)) (by show Value.int _ = _; rw [ev]) dX7_all_41 ?_
          refine s_V (n := 1) hC hl.1 hF.2 hw.1.2.2.1 (tJ4_indexOf l sa sv c (by omega)) (lw_V q549 q550 q551 q71 q552) rfl rfl (by decide +kernel) ⟨by decide, by decide⟩ rfl rfl (Nat.le_of_ble_eq_true rfl) dX7_all_44 ⟨by simp only [gN]; omega, by simp only [gN]; omega⟩ ?_
          rw [sx]
          refine lv_if_lt (tgt := 57) hC.1 hC.2.1 dX7_all_47 (by decide) (fun c47 => ?_) (fun c47 => ?_)
          · exact absurd c47 (nI_pos (by omega))
          · refine lv_aload_n hC.1 hC.2.1 dX7_all_50 rfl (lv_at hl 0 rfl) ?_
            cases hW : pWork T n (nI (k + 1)) b3 w rv3 with
            | error Sx =>
              exact (ok_no ((pAll_er hw6 n3 hk (by omega) hW).symm.trans h5)).elim
            | ok Sx =>
              obtain ⟨b4, w4, r4⟩ := Sx
              obtain ⟨q1, q2, q3⟩ := pAll_ok hw6 n3 hk (by omega) hW
              subst q2
              refine S_V (n := 0) (C := RX7) (T := TX7) hC hl.1 hK hX hZ hst hF hw hrd kp (by decide) rfl (tX7_work_r sa sv l N1 ad1 K1 I1 R1 rd T n b3 w rv3 (k + 1) b4 (w + 1) r4 hx hk (by omega) hW) (lw_V q635 q637 qs14 q77 q638) (by decide +kernel) ⟨by decide, by decide⟩ rfl rfl (Nat.le_of_ble_eq_true rfl) dX7_all_51 ⟨by simp only [gN]; omega, by simp only [gN]; omega⟩ ?_
              rintro _ N4 ad4 K4 I4 R4 H locs ⟨rfl, s4, o4⟩ hg4 hw
              have e_ad4 : ad1 rd = ad4 rd := (hg4.2 rd (by omega)).1.symm
              rw [e_ad4] at hl
              refine lv_goto (tgt := 30) hC.1 hC.2.1 dX7_all_54 (by decide) ?_
              exact ih30 ls (w + 1) H locs ⟨_, _, _, _, _, _, _, hl.sub' [0] (by rfl), hw, gGo.tr gx hg4, s4, q3.symm.trans h5, ox.tr o4, q1⟩ (by omega)
      · by_cases n3 : (ntT T n b3).2.1 = nI 3
        · refine g_get (C := RX7) (T := TX7) (ref := RX7) hC hK hw (List.mem_range.mpr hrd) kp (by decide) rfl in_X7 3 (by decide) q462 (fun x h => h) (v := .int (nI 0)) (by show Value.int _ = _; rw [(tk_num hx.2.1.2.2.2).2.2.mpr n3]) dX7_all_31 ?_
          refine lv_iconst (v := (nI 1)) hC.1 hC.2.1 dX7_all_34 (by decide) ?_
          refine k_ne (tgt := 57) hC (by omega) (by omega) dX7_all_35 (by decide) (fun c35 => ?_) (fun c35 => ?_)
          · refine lv_aload_n hC.1 hC.2.1 dX7_all_57 rfl (lv_at hl 0 rfl) ?_
            refine lv_aload_n hC.1 hC.2.1 dX7_all_58 rfl (lv_at hl 0 rfl) ?_
            refine g_get (C := RX7) (T := TX7) (ref := RX7) hC hK hw (List.mem_range.mpr hrd) kp (by decide) rfl in_X7 3 (by decide) q462 (fun x h => h) (v := .int (nI 0)) (by show Value.int _ = _; rw [(tk_num hx.2.1.2.2.2).2.2.mpr n3]) dX7_all_59 ?_
            refine k_zne (tgt := 69) hC (by decide) dX7_all_62 (by decide) (fun h => absurd h (by decide)) (fun c62 => ?_)
            refine lv_iconst (v := (nI 1)) hC.1 hC.2.1 dX7_all_65 (by decide) ?_
            refine lv_goto (tgt := 70) hC.1 hC.2.1 dX7_all_66 (by decide) ?_
            refine lv_iconst (v := (nI 1)) hC.1 hC.2.1 dX7_all_70 (by decide) ?_
            refine M_V (n := 2) (C := RX7) (T := TX7) hC hl.1 hK hX hw hrd kp (by decide) rfl (tX7_must l N1 ad1 K1 I1 R1 rd (nI 1) ) (lw_V q508 q510 qs11 q77 q511) (by decide +kernel) ⟨by decide, by decide⟩ rfl rfl (Nat.le_of_ble_eq_true rfl) dX7_all_71 ⟨by simp only [gN]; omega, by simp only [gN]; omega⟩ ?_
            rintro _ N2 ad2 K2 I2 R2 H locs ⟨I3, R3, e3, rfl, e4⟩ hg hw
            cases e3
            cases e4
            have zO := (pAll_3 (rd := rv3) hw6 n3).symm.trans h5
            have q := hx.told
            refine lv_aload_n hC.1 hC.2.1 dX7_all_74 rfl (lv_at hl 0 rfl) ?_
            refine g_get (C := RX7) (T := TX7) (ref := RX7) hC hK hw (List.mem_range.mpr hrd) kp (by decide) rfl in_X7 6 (by decide) q465 (fun x h => h) (v := .ref (ad1 (rd + 1))) (by show va_rf _ = _; rw [hx.1.2.1.2.1]; rfl) dX7_all_75 ?_
            refine lv_iconst (v := (nI 1)) hC.1 hC.2.1 dX7_all_78 (by decide) ?_
            refine p_pi hC hK hw hx.2.2.1.1 0 (by decide) rfl q123 rfl rfl rfl (by decide) (by decide) dX7_all_79 (fun H locs hw => ?_)
            exact M_vret hC hlk hw gx.to ⟨by simp only [gN]; omega, by simp only [gN]; omega⟩ hr (by cases (ok_inj zO); exact ⟨rfl, q.1, q.2.1, q.2.2, ox.tr (rOff.g2 (by omega))⟩) dX7_all_82
          · exact absurd c35 (by decide)
        · exact (ok_no ((pAll_0 (rd := rv3) hw6 n3 k0).symm.trans h5)).elim

set_option maxHeartbeats 800000 in
theorem tX7_all_t (sa sv : Nat) (l : Launch) (N : Nat) (ad : Nat → Nat) (K : gK) (I : mG) (R : gR) (rd : Nat) (T : vV) (n : Nat) (bz : Nat) (wE : Int32) (h0 : rdB N K I R rd T n) (h1 : I rd 2 = nI 0) (h2 : rdP N K I R rd 0 z0) (h3 : pRead T n = .error (wE, bz)) : gMTS sa sv l yX7_all (ws_ yX7_all cX7_all 1 none) ({ frames := 7, cells := 7, slots := 20, locals := 179 } : Room) [.ref (ad rd)] N ad K I R RX8 (fun x S => rTh rd wE bz I R x S) := by
  refine gMTS.of (by decide) (Nat.le_of_ble_eq_true rfl) ?_
  intro D dA p e s m args below meth cd ls hC hlk htb hK hX hZ hst hF hl hw
  have hl : lv_has ls 1 [(0, .ref (ad rd))] := hl
  have hrd : rd < N := by have := h0.1; omega
  have kp := h0.1.2.2.1
  refine lv_aload_n hC.1 hC.2.1 dX7_all_0 rfl (lv_at hl 0 rfl) ?_
  refine M_V (n := 0) (C := RX7) (T := TX7) hC hl.1 hK hX hw hrd kp (by decide) rfl (nx0 l N ad K I R rd T n z0 h0 h1 h2) (lw_V q486 q488 qs7 q77 q489) (by decide +kernel) ⟨by decide, by decide⟩ rfl rfl (Nat.le_of_ble_eq_true rfl) dX7_all_1 ⟨by simp only [gN]; omega, by simp only [gN]; omega⟩ ?_
  rintro _ N2 ad2 K2 I2 R2 H locs ⟨I3, R3, e3, rfl, J0, e4, s0, o0⟩ hg hw
  cases e3
  cases e4
  refine lv_aload_n hC.1 hC.2.1 dX7_all_4 rfl (lv_at hl 0 rfl) ?_
  refine lv_bipush (v := (nI 97)) hC.1 hC.2.1 dX7_all_5 (by decide) ?_
  refine lv_aload_n hC.1 hC.2.1 dX7_all_7 rfl (lv_at hl 0 rfl) ?_
  refine g_get (C := RX7) (T := TX7) (ref := RX7) hC hK hw (List.mem_range.mpr hrd) kp (by decide) rfl in_X7 6 (by decide) q465 (fun x h => h) (v := .ref (ad (rd + 1))) (by show va_rf _ = _; rw [h0.2.1.2.1]; rfl) dX7_all_8 ?_
  refine p_ga hC hK hw h2.1.1 2 1 h2.1.1.2.2.1 (by decide) rfl q128 rfl dX7_all_11 ?_
  cases hA0 : pFour T n (nI 97) 1 0 0 z0 with
  | error Sx =>
    obtain ⟨eE, bE⟩ := Sx
    refine T_V (n := 2) (C := RX7) (T := TX7) hC hl.1 hK hX hZ hst hw hrd kp (by decide) rfl (tX7_four_t l N ad K _ R rd 97 (rd + 1 + 1) T n 0 0 z0 1 bE eE (s0) (Or.inl ⟨rfl, rfl⟩) (by decide) (hA0)) (lw_V q500 q502 qs9 q77 q503) (by decide +kernel) ⟨by decide, by decide⟩ rfl rfl (Nat.le_of_ble_eq_true rfl) dX7_all_14 ⟨by simp only [gN]; omega, by simp only [gN]; omega⟩ (fun x0 N2 ad2 K2 I2 R2 H locs e2 hg hw => ?_)
    exact T_out hlk htb hw hg ⟨by simp only [gN]; omega, by simp only [gN]; omega⟩ (by cases (er_inj ((pRead_a hA0).symm.trans h3)); exact e2.tr (o0))
  | ok Sx =>
    obtain ⟨b1, w1, r1⟩ := Sx
    have hw1 : w1 = 0 := pFour_wk hA0
    subst hw1
    refine M_V (n := 2) (C := RX7) (T := TX7) hC hl.1 hK hX hw hrd kp (by decide) rfl (tX7_four l N ad K _ R rd 97 (rd + 1 + 1) T n 0 0 z0 1 b1 0 r1 s0 (Or.inl ⟨rfl, rfl⟩) (by decide) hA0) (lw_V q500 q502 qs9 q77 q503) (by decide +kernel) ⟨by decide, by decide⟩ rfl rfl (Nat.le_of_ble_eq_true rfl) dX7_all_14 ⟨by simp only [gN]; omega, by simp only [gN]; omega⟩ ?_
    rintro _ N2 ad2 K2 I2 R2 H locs ⟨I3, R3, e3, rfl, J1, e4, s1, o1⟩ hg hw
    cases e3
    cases e4
    replace o1 := (o0).tr o1
    refine lv_aload_n hC.1 hC.2.1 dX7_all_17 rfl (lv_at hl 0 rfl) ?_
    refine lv_bipush (v := (nI 98)) hC.1 hC.2.1 dX7_all_18 (by decide) ?_
    refine lv_aload_n hC.1 hC.2.1 dX7_all_20 rfl (lv_at hl 0 rfl) ?_
    refine g_get (C := RX7) (T := TX7) (ref := RX7) hC hK hw (List.mem_range.mpr hrd) kp (by decide) rfl in_X7 6 (by decide) q465 (fun x h => h) (v := .ref (ad (rd + 1))) (by show va_rf _ = _; rw [h0.2.1.2.1]; rfl) dX7_all_21 ?_
    refine p_ga hC hK hw h2.1.1 3 2 h2.1.1.2.2.2.1 (by decide) rfl q131 rfl dX7_all_24 ?_
    cases hA1 : pFour T n (nI 98) 5 b1 0 r1 with
    | error Sx =>
      obtain ⟨eE, bE⟩ := Sx
      refine T_V (n := 2) (C := RX7) (T := TX7) hC hl.1 hK hX hZ hst hw hrd kp (by decide) rfl (tX7_four_t l N ad K _ R rd 98 (rd + 1 + 2) T n b1 0 r1 5 bE eE (s1) (Or.inr ⟨rfl, rfl⟩) (by decide) (hA1)) (lw_V q500 q502 qs9 q77 q503) (by decide +kernel) ⟨by decide, by decide⟩ rfl rfl (Nat.le_of_ble_eq_true rfl) dX7_all_27 ⟨by simp only [gN]; omega, by simp only [gN]; omega⟩ (fun x0 N2 ad2 K2 I2 R2 H locs e2 hg hw => ?_)
      exact T_out hlk htb hw hg ⟨by simp only [gN]; omega, by simp only [gN]; omega⟩ (by cases (er_inj ((pRead_b hA0 hA1).symm.trans h3)); exact e2.tr (o1))
    | ok Sx =>
      obtain ⟨b2, w2, r2⟩ := Sx
      have hw2 : w2 = 0 := pFour_wk hA1
      subst hw2
      refine M_V (n := 2) (C := RX7) (T := TX7) hC hl.1 hK hX hw hrd kp (by decide) rfl (tX7_four l N ad K _ R rd 98 (rd + 1 + 2) T n b1 0 r1 5 b2 0 r2 s1 (Or.inr ⟨rfl, rfl⟩) (by decide) hA1) (lw_V q500 q502 qs9 q77 q503) (by decide +kernel) ⟨by decide, by decide⟩ rfl rfl (Nat.le_of_ble_eq_true rfl) dX7_all_27 ⟨by simp only [gN]; omega, by simp only [gN]; omega⟩ ?_
      rintro _ N2 ad2 K2 I2 R2 H locs ⟨I3, R3, e3, rfl, J2, e4, s2, o2⟩ hg hw
      cases e3
      cases e4
      replace o2 := (o1).tr o2
      have h4 := (pRead_c hA0 hA1).2.symm.trans h3
      refine W.loopC (fun ls w H locs => ∃ N1 ad1 K1 I1 R1 b3 rv3, lv_has ls 1 [(0, .ref (ad1 rd))] ∧ gw D dA (nA (List.range N) ad s.heap.size) s.heap (List.range N1) ad1 K1 I1 R1 H locs ∧ (gGo N ad K (N1, ad1, K1, I1, R1)) ∧ (rdS N1 K1 I1 R1 rd T n b3 w rv3) ∧ (pAll T n (7 - w) b3 w rv3 = .error (wE, bz)) ∧ (rOff rd I I1 R R1) ∧ (w ≤ 6)) 30 (fun _ => []) (fun w => 7 - w) (fun w => w) (fun w => 2 * w) ?_ 0 ⟨_, _, _, _, _, _, _, hl.sub' [0] (by rfl), hw, gGo.rf, s2, h4, o2, by omega⟩
      rintro ls w H locs ⟨N1, ad1, K1, I1, R1, b3, rv3, hl, hw, gx, hx, h5, ox, hw6⟩ ih30
      have hrd7 := hx.1.1.2.1
      have hrd : rd < N1 := by omega
      have kp := hx.1.1.2.2.1
      refine lv_aload_n hC.1 hC.2.1 dX7_all_30 rfl (lv_at hl 0 rfl) ?_
      rcases tk_loop hx.2.1.2.2.2 with ⟨t1, c, hc, ev, ⟨k0, sx⟩ | ⟨k, hk, sx, hk5⟩⟩ | ⟨t1, k0⟩
      · have zE := pAll_0 (T := T) (n := n) (rd := rv3) (b := b3) hw6 (fun z => absurd (((tk_num hx.2.1.2.2.2).2.2.mpr z).symm.trans t1) (by decide)) k0
        refine g_get (C := RX7) (T := TX7) (ref := RX7) hC hK hw (List.mem_range.mpr hrd) kp (by decide) rfl in_X7 3 (by decide) q462 (fun x h => h) (v := .int (nI 1)) (by show Value.int _ = _; rw [t1]) dX7_all_31 ?_
        refine lv_iconst (v := (nI 1)) hC.1 hC.2.1 dX7_all_34 (by decide) ?_
        refine k_ne (tgt := 57) hC (by omega) (by omega) dX7_all_35 (by decide) (fun c35 => ?_) (fun c35 => ?_)
        · exact absurd rfl c35
        · refine va_ldcS hC.1 hC.2.1 hC.2.2.2.1 hF.1 dX7_all_38 ?_
          refine lv_aload_n hC.1 hC.2.1 dX7_all_40 rfl (lv_at hl 0 rfl) ?_
          refine g_get (C := RX7) (T := TX7) (ref := RX7) hC hK hw (List.mem_range.mpr hrd) kp (by decide) rfl in_X7 5 (by decide) q464 (fun x h => h) (v := .int (nI c)) (by show Value.int _ = _; rw [ev]) dX7_all_41 ?_
          refine s_V (n := 1) hC hl.1 hF.2 hw.1.2.2.1 (tJ4_indexOf l sa sv c (by omega)) (lw_V q549 q550 q551 q71 q552) rfl rfl (by decide +kernel) ⟨by decide, by decide⟩ rfl rfl (Nat.le_of_ble_eq_true rfl) dX7_all_44 ⟨by simp only [gN]; omega, by simp only [gN]; omega⟩ ?_
          rw [sx]
          refine lv_if_lt (tgt := 57) hC.1 hC.2.1 dX7_all_47 (by decide) (fun c47 => ?_) (fun c47 => ?_)
          · refine lv_aload_n hC.1 hC.2.1 dX7_all_57 rfl (lv_at hl 0 rfl) ?_
            refine lv_aload_n hC.1 hC.2.1 dX7_all_58 rfl (lv_at hl 0 rfl) ?_
            refine g_get (C := RX7) (T := TX7) (ref := RX7) hC hK hw (List.mem_range.mpr hrd) kp (by decide) rfl in_X7 3 (by decide) q462 (fun x h => h) (v := .int (nI 1)) (by show Value.int _ = _; rw [t1]) dX7_all_59 ?_
            refine k_zne (tgt := 69) hC (by decide) dX7_all_62 (by decide) (fun c62 => ?_) (fun h => absurd h (by decide))
            refine lv_iconst (v := (nI 0)) hC.1 hC.2.1 dX7_all_69 (by decide) ?_
            refine lv_iconst (v := (nI 1)) hC.1 hC.2.1 dX7_all_70 (by decide) ?_
            refine T_V (n := 2) (C := RX7) (T := TX7) hC hl.1 hK hX hZ hst hw hrd kp (by decide) rfl (tX7_must_t l N1 ad1 K1 I1 R1 rd (nI 1) (hrd) (kp)) (lw_V q508 q510 qs11 q77 q511) (by decide +kernel) ⟨by decide, by decide⟩ rfl rfl (Nat.le_of_ble_eq_true rfl) dX7_all_71 ⟨by simp only [gN]; omega, by simp only [gN]; omega⟩ (fun x0 N2 ad2 K2 I2 R2 H locs e2 hg hw => ?_)
            cases e2
            exact T_out hlk htb hw (gGo.tr gx hg) ⟨by simp only [gN]; omega, by simp only [gN]; omega⟩ (by cases (er_inj (zE.symm.trans h5)); exact rTh.of ox hrd hx.2.1.2.1)
          · exact absurd c47 (by decide)
      · have n3 : ¬ (ntT T n b3).2.1 = nI 3 := fun z => absurd (((tk_num hx.2.1.2.2.2).2.2.mpr z).symm.trans t1) (by decide)
        refine g_get (C := RX7) (T := TX7) (ref := RX7) hC hK hw (List.mem_range.mpr hrd) kp (by decide) rfl in_X7 3 (by decide) q462 (fun x h => h) (v := .int (nI 1)) (by show Value.int _ = _; rw [t1]) dX7_all_31 ?_
        refine lv_iconst (v := (nI 1)) hC.1 hC.2.1 dX7_all_34 (by decide) ?_
        refine k_ne (tgt := 57) hC (by omega) (by omega) dX7_all_35 (by decide) (fun c35 => ?_) (fun c35 => ?_)
        · exact absurd rfl c35
        · refine va_ldcS hC.1 hC.2.1 hC.2.2.2.1 hF.1 dX7_all_38 ?_
          refine lv_aload_n hC.1 hC.2.1 dX7_all_40 rfl (lv_at hl 0 rfl) ?_
          refine g_get (C := RX7) (T := TX7) (ref := RX7) hC hK hw (List.mem_range.mpr hrd) kp (by decide) rfl in_X7 5 (by decide) q464 (fun x h => h) (v := .int (nI c)) (by show Value.int _ = _; rw [ev]) dX7_all_41 ?_
          refine s_V (n := 1) hC hl.1 hF.2 hw.1.2.2.1 (tJ4_indexOf l sa sv c (by omega)) (lw_V q549 q550 q551 q71 q552) rfl rfl (by decide +kernel) ⟨by decide, by decide⟩ rfl rfl (Nat.le_of_ble_eq_true rfl) dX7_all_44 ⟨by simp only [gN]; omega, by simp only [gN]; omega⟩ ?_
          rw [sx]
          refine lv_if_lt (tgt := 57) hC.1 hC.2.1 dX7_all_47 (by decide) (fun c47 => ?_) (fun c47 => ?_)
          · exact absurd c47 (nI_pos (by omega))
          · refine lv_aload_n hC.1 hC.2.1 dX7_all_50 rfl (lv_at hl 0 rfl) ?_
            cases hW : pWork T n (nI (k + 1)) b3 w rv3 with
            | error Sx =>
              obtain ⟨eE, bE⟩ := Sx
              refine U_V (n := 0) (C := RX7) (T := TX7) hC hl.1 hK hX hZ hst hF hw hrd kp (by decide) rfl (tX7_work_t sa sv l N1 ad1 K1 I1 R1 rd T n b3 w rv3 (k + 1) bE eE hx hk (by omega) hW) (lw_V q635 q637 qs14 q77 q638) (by decide +kernel) ⟨by decide, by decide⟩ rfl rfl (Nat.le_of_ble_eq_true rfl) dX7_all_51 ⟨by simp only [gN]; omega, by simp only [gN]; omega⟩ (fun x0 N2 ad2 K2 I2 R2 H locs e2 hg hw => ?_)
              exact T_out hlk htb hw (gGo.tr gx hg) ⟨by simp only [gN]; omega, by simp only [gN]; omega⟩ (by cases (er_inj ((pAll_er hw6 n3 hk (by omega) hW).symm.trans h5)); exact e2.tr ox)
            | ok Sx =>
              obtain ⟨b4, w4, r4⟩ := Sx
              obtain ⟨q1, q2, q3⟩ := pAll_ok hw6 n3 hk (by omega) hW
              subst q2
              refine S_V (n := 0) (C := RX7) (T := TX7) hC hl.1 hK hX hZ hst hF hw hrd kp (by decide) rfl (tX7_work_r sa sv l N1 ad1 K1 I1 R1 rd T n b3 w rv3 (k + 1) b4 (w + 1) r4 hx hk (by omega) hW) (lw_V q635 q637 qs14 q77 q638) (by decide +kernel) ⟨by decide, by decide⟩ rfl rfl (Nat.le_of_ble_eq_true rfl) dX7_all_51 ⟨by simp only [gN]; omega, by simp only [gN]; omega⟩ ?_
              rintro _ N4 ad4 K4 I4 R4 H locs ⟨rfl, s4, o4⟩ hg4 hw
              have e_ad4 : ad1 rd = ad4 rd := (hg4.2 rd (by omega)).1.symm
              rw [e_ad4] at hl
              refine lv_goto (tgt := 30) hC.1 hC.2.1 dX7_all_54 (by decide) ?_
              exact ih30 ls (w + 1) H locs ⟨_, _, _, _, _, _, _, hl.sub' [0] (by rfl), hw, gGo.tr gx hg4, s4, q3.symm.trans h5, ox.tr o4, q1⟩ (by omega)
      · by_cases n3 : (ntT T n b3).2.1 = nI 3
        · exact (no_ok ((pAll_3 (rd := rv3) hw6 n3).symm.trans h5)).elim
        · have zE := pAll_0 (rd := rv3) hw6 n3 k0
          obtain ⟨tE, htE⟩ : ∃ z, I1 rd 3 = z := ⟨_, rfl⟩
          refine g_get (C := RX7) (T := TX7) (ref := RX7) hC hK hw (List.mem_range.mpr hrd) kp (by decide) rfl in_X7 3 (by decide) q462 (fun x h => h) (v := .int tE) (by show Value.int _ = _; rw [htE]) dX7_all_31 ?_
          refine lv_iconst (v := (nI 1)) hC.1 hC.2.1 dX7_all_34 (by decide) ?_
          refine lv_icmp_ne (tgt := 57) hC.1 hC.2.1 dX7_all_35 (by decide) (fun c35 => ?_) (fun c35 => ?_)
          · refine lv_aload_n hC.1 hC.2.1 dX7_all_57 rfl (lv_at hl 0 rfl) ?_
            refine lv_aload_n hC.1 hC.2.1 dX7_all_58 rfl (lv_at hl 0 rfl) ?_
            refine g_get (C := RX7) (T := TX7) (ref := RX7) hC hK hw (List.mem_range.mpr hrd) kp (by decide) rfl in_X7 3 (by decide) q462 (fun x h => h) (v := .int tE) (by show Value.int _ = _; rw [htE]) dX7_all_59 ?_
            refine lv_if_ne (tgt := 69) hC.1 hC.2.1 dX7_all_62 (by decide) (fun c62 => ?_) (fun c62 => ?_)
            · refine lv_iconst (v := (nI 0)) hC.1 hC.2.1 dX7_all_69 (by decide) ?_
              refine lv_iconst (v := (nI 1)) hC.1 hC.2.1 dX7_all_70 (by decide) ?_
              refine T_V (n := 2) (C := RX7) (T := TX7) hC hl.1 hK hX hZ hst hw hrd kp (by decide) rfl (tX7_must_t l N1 ad1 K1 I1 R1 rd (nI 1) (hrd) (kp)) (lw_V q508 q510 qs11 q77 q511) (by decide +kernel) ⟨by decide, by decide⟩ rfl rfl (Nat.le_of_ble_eq_true rfl) dX7_all_71 ⟨by simp only [gN]; omega, by simp only [gN]; omega⟩ (fun x0 N2 ad2 K2 I2 R2 H locs e2 hg hw => ?_)
              cases e2
              exact T_out hlk htb hw (gGo.tr gx hg) ⟨by simp only [gN]; omega, by simp only [gN]; omega⟩ (by cases (er_inj (zE.symm.trans h5)); exact rTh.of ox hrd hx.2.1.2.1)
            · exact absurd ((tk_num hx.2.1.2.2.2).2.2.mp (htE.trans c62)) n3
          · exact absurd (htE.trans c35) t1
