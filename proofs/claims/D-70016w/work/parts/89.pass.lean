/-! ===== WindCarver.pass (by gen/w89.py) ===== -/
set_option maxHeartbeats 800000 in
theorem tX0_pass (sa sv : Nat) (l : Launch) (hl0 : l.stackTraces = false) (N : Nat) (ad : Nat → Nat) (K : gK) (I : mG) (R : gR) (G : mG) (b : Bool) (h0 : wcR N K I R G b) : gMS sa sv l yX0_pass (wsW_ yX0_pass cX0_pass 5 (some FieldType.int) [(16, 20, 28, 150), (16, 20, 52, 0), (28, 45, 52, 0), (52, 54, 52, 0)]) ({ frames := 8, cells := 14, slots := 80, locals := 199 } : Room) [.ref (ad 0)] N ad K I R (fun v S => v = some (.int (mX6_pass G).1) ∧ ∃ b1, wcR S.1 S.2.2.1 S.2.2.2.1 S.2.2.2.2 (mX6_pass G).2 b1) := by
  refine gMS.ofH (by decide) (Nat.le_of_ble_eq_true rfl) ?_
  intro D dA p e s m args below meth cd ls hC hlk hr htb hK hX hZ hst hF hl hw
  have hl : lv_has ls 5 [(0, .ref (ad 0))] := hl
  have hge := h0.ge
  obtain ⟨ta1, ta2, ta3, t, ht, et, htp⟩ := h0.2.2.2.2.2.2.2
  refine M_new hC hK hw 10 (by decide) rfl in_X7 tyX7 tyX7_ok q451 q452 q77 (df_of (by decide +kernel)) (by simp only [gN]; omega) (by simp only [gN]; omega) dX0_pass_0 (fun ad0_1 H h0_1 hw => ?_)
  have e0_1 : ad 0 = ad0_1 0 := (h0_1 0 (by omega)).symm
  rw [e0_1] at hl
  have g0_1 : gGo N ad K (N + 1, ad0_1, va_up K N (10, 0), va_up I N (fun _ => nI 0), va_up R N (fun _ => none)) := gGo_new (I1 := I) (R1 := R) gGo.rf h0_1
  have h00 : wcR (N + 1) (va_up K N (10, 0)) (va_up I N (fun _ => nI 0)) (va_up R N (fun _ => none)) G b := h0.more (by omega) (fun n hn => ⟨va_up_ne _ _ (by omega), va_up_ne _ _ (by omega), va_up_ne _ _ (by omega)⟩)
  refine lv_dup hC.1 hC.2.1 dX0_pass_3 rfl ?_
  refine lv_aload_n hC.1 hC.2.1 dX0_pass_4 rfl (lv_at hl 0 rfl) ?_
  refine x_ga hC hK hw (by omega) h00.k0 1 10 h00.r1 (by decide) rfl q203 rfl dX0_pass_5 ?_
  refine lv_aload_n hC.1 hC.2.1 dX0_pass_8 rfl (lv_at hl 0 rfl) ?_
  refine x_gi hC hK hw (by omega) h00.k0 2 (by decide) rfl q204 rfl (v := (nI t)) (by rw [va_up_ne _ _ (by omega), ta1]; exact et) dX0_pass_9 ?_
  refine M_I (n := 2) hC hl.1 hK hX hw (tX7_init l (N + 1) ad0_1 _ _ _ N 10 t rfl (by rw [va_up_self]) (va_up_self _ _ _) (va_up_self _ _ _) (by omega)) q453 q454 q77 q455 rfl (by decide +kernel) ⟨by decide, by decide⟩ rfl rfl (Nat.le_of_ble_eq_true rfl) dX0_pass_12 ⟨by simp only [gN]; omega, by simp only [gN]; omega⟩ ?_
  rintro _ N2 ad2 K2 I2 R2 H locs ⟨rfl, eN, ps, iI, i0, i6, io⟩ hg2 hw
  dsimp only at eN ps iI i0 i6 io
  subst eN
  have e_ad2 : ad0_1 0 = ad2 0 := (hg2.2 0 (by omega)).1.symm
  rw [e_ad2] at hl
  have e_ad2 : ad0_1 N = ad2 N := (hg2.2 N (by omega)).1.symm
  rw [e_ad2]
  have g2_ := gGo.tr g0_1 hg2
  have k2N : (K2 N).1 = 10 := by
    have z : K2 N = va_up K N (10, 0) N := (hg2.2 N (by omega)).2
    rw [z, va_up_self]
  have h02 : wcR (N + 1 + 6) K2 I2 R2 G b := h0.more (by omega) (fun n hn => ⟨(g2_.2 n hn).2, ((io n (by omega)).1).trans (va_up_ne _ _ (by omega)), ((io n (by omega)).2).trans (va_up_ne _ _ (by omega))⟩)
  have rb : rdB (N + 1 + 6) K2 I2 R2 N (G 8) t := ⟨⟨by omega, by omega, k2N, h02.k10⟩, ⟨i0, i6, by rw [iI, if_pos rfl]⟩, ht, fun i hi => by obtain ⟨c, z1, z2, z3⟩ := htp i hi; exact ⟨c, z1, z2, by rw [(io 10 (by omega)).1, va_up_ne _ _ (by omega)]; exact z3⟩⟩
  have ra : I2 N 2 = nI 0 := by rw [iI, if_neg (by decide)]
  have rp : rdP (N + 1 + 6) K2 I2 R2 N 0 z0 := ⟨ps, ⟨(ps.many).trans (by decide), by decide⟩, ⟨fun y hy => ⟨⟨0, by decide, rfl⟩, ⟨0, by decide, rfl⟩⟩, 0, by decide, rfl⟩⟩
  have hN : ∀ n, n < N → I2 n = I n ∧ R2 n = R n := fun n hn => ⟨((io n (by omega)).1).trans (va_up_ne _ _ (by omega)), ((io n (by omega)).2).trans (va_up_ne _ _ (by omega))⟩
  refine lv_astore_n (lv' := [(1, .ref (ad2 N)), (0, .ref (ad2 0))]) hC.1 hC.2.1 dX0_pass_15 rfl hl (by decide) rfl (fun ls hl => ?_)
  refine lv_aload_n hC.1 hC.2.1 dX0_pass_16 rfl (lv_at hl 0 rfl) ?_
  cases hP : pRead (G 8) t with
  | error Sx =>
    obtain ⟨wE, bE⟩ := Sx
    refine U_V (n := 0) (C := RX7) (T := TX7) hC hl.1 hK hX hZ hst hF hw (by omega) k2N (by decide) rfl (tX7_all_t sa sv l (N + 1 + 6) ad2 K2 I2 R2 N (G 8) t bE wE rb ra rp hP) (lw_V q482 q483 q484 q77 q485) (by decide +kernel) ⟨by decide, by decide⟩ rfl rfl (Nat.le_of_ble_eq_true rfl) dX0_pass_17 ⟨by simp only [gN]; omega, by simp only [gN]; omega⟩ (fun x0 N3 ad3 K3 I3 R3 H locs e2 hg3 hw => ?_)
    obtain ⟨⟨nf, f1, f2, f3, f4, f5⟩, of⟩ := e2
    dsimp only at f1 f2 f3 f4 f5 of
    subst f2
    refine T_catch (pc := 17) htb (h := 28) (fun pl cX hpl hE => rt_hit (pc := 17) (x := ⟨16, 20, 28, 150⟩) hpl hC.2.2.2.1 hE (hC.2.2.2.2 _ q450) (hX _ q514 rfl) (by decide) (by decide)) ?_
    have e_ad3 : ad2 N = ad3 N := (hg3.2 N (by omega)).1.symm
    rw [e_ad3] at hl
    have e_ad3 : ad2 0 = ad3 0 := (hg3.2 0 (by omega)).1.symm
    rw [e_ad3] at hl
    have g3_ := gGo.tr g2_ hg3
    have h03 : wcR N3 K3 I3 R3 G b := h0.more (by have := g3_.1; omega) (fun n hn => ⟨(g3_.2 n hn).2, ((of n hn).1).trans (hN n hn).1, ((of n hn).2).trans (hN n hn).2⟩)
    have hge3 := h03.ge
    refine lv_astore_n (lv' := [(2, .ref (ad3 nf)), (1, .ref (ad3 N)), (0, .ref (ad3 0))]) hC.1 hC.2.1 dX0_pass_28 rfl hl (by decide) rfl (fun ls hl => ?_)
    refine lv_aload_n hC.1 hC.2.1 dX0_pass_29 rfl (lv_at hl 2 rfl) ?_
    refine lv_aload_n hC.1 hC.2.1 dX0_pass_30 rfl (lv_at hl 0 rfl) ?_
    refine g_get (C := RX8) (T := TXf) (ref := RX8) hC hK hw (List.mem_range.mpr f1) f3 (by decide) rfl in_Xf 0 (by decide) q531 (fun x h => h) (v := .int wE) (by show Value.int _ = _; rw [f4]) dX0_pass_31 ?_
    refine x_pi hC hK hw (by omega) h03.k0 3 (by decide) rfl q205 rfl rfl rfl rfl rfl dX0_pass_34 (fun H locs hw => ?_)
    refine lv_ldc hC.1 hC.2.1 hC.2.2.2.1 (hC.2.2.2.2 _ q688) dX0_pass_37 ?_
    refine lv_aload_n hC.1 hC.2.1 dX0_pass_39 rfl (lv_at hl 0 rfl) ?_
    refine g_get (C := RX8) (T := TXf) (ref := RX8) hC hK hw (List.mem_range.mpr f1) f3 (by decide) rfl in_Xf 1 (by decide) q533 (fun x h => h) (v := .int (nI bE)) (by show Value.int _ = _; rw [g2_ne _ _ _ (show nf ≠ 0 from fun z => by subst z; rw [h03.k0] at f3; cases f3), f5]) dX0_pass_40 ?_
    refine lv_isub hC.1 hC.2.1 dX0_pass_43 ?_
    refine lv_istore_n (lv' := [(3, .int ((-1000100 : Int32) - (nI bE))), (2, .ref (ad3 nf)), (1, .ref (ad3 N)), (0, .ref (ad3 0))]) hC.1 hC.2.1 dX0_pass_44 rfl hl (by decide) rfl (fun ls hl => ?_)
    refine lv_aload_n hC.1 hC.2.1 dX0_pass_45 rfl (lv_at hl 3 rfl) ?_
    refine lv_iconst (v := (nI 0)) hC.1 hC.2.1 dX0_pass_46 (by decide) ?_
    refine x_pi hC hK hw (by omega) h03.k0 2 (by decide) rfl q204 rfl rfl rfl rfl rfl dX0_pass_47 (fun H locs hw => ?_)
    refine lv_iload_n hC.1 hC.2.1 dX0_pass_50 rfl (lv_at hl 0 rfl) ?_
    exact M_iret hC hlk hw g3_.to ⟨by simp only [gN]; omega, by simp only [gN]; omega⟩ hr rfl (by rw [mpass_er ht et hP]; exact ⟨rfl, b, pass_er h03⟩) dX0_pass_51
  | ok Sx =>
    obtain ⟨bz, wz, rz⟩ := Sx
    refine S_V (n := 0) (C := RX7) (T := TX7) hC hl.1 hK hX hZ hst hF hw (by omega) k2N (by decide) rfl (tX7_all_r sa sv l (N + 1 + 6) ad2 K2 I2 R2 N (G 8) t bz wz rz rb ra rp hP) (lw_V q482 q483 q484 q77 q485) (by decide +kernel) ⟨by decide, by decide⟩ rfl rfl (Nat.le_of_ble_eq_true rfl) dX0_pass_17 ⟨by simp only [gN]; omega, by simp only [gN]; omega⟩ ?_
    rintro _ N3 ad3 K3 I3 R3 H locs ⟨rfl, rb3, rp3, rt3, of⟩ hg3 hw
    dsimp only at rb3 rp3 rt3 of
    have e_ad3 : ad2 N = ad3 N := (hg3.2 N (by omega)).1.symm
    rw [e_ad3] at hl
    have e_ad3 : ad2 0 = ad3 0 := (hg3.2 0 (by omega)).1.symm
    rw [e_ad3] at hl
    have g3_ := gGo.tr g2_ hg3
    have h03 : wcR N3 K3 I3 R3 G b := h0.more (by have := g3_.1; omega) (fun n hn => ⟨(g3_.2 n hn).2, ((of n hn).1).trans (hN n hn).1, ((of n hn).2).trans (hN n hn).2⟩)
    have hge3 := h03.ge
    have hN3 := rb3.1.2.1
    refine lv_aload_n hC.1 hC.2.1 dX0_pass_20 rfl (lv_at hl 1 rfl) ?_
    refine lv_iconst (v := (nI 0)) hC.1 hC.2.1 dX0_pass_21 (by decide) ?_
    refine x_pi hC hK hw (by omega) h03.k0 2 (by decide) rfl q204 rfl rfl rfl rfl rfl dX0_pass_22 (fun H locs hw => ?_)
    have h04 := h03.scal (k := 2) (k' := 8) (x := nI 0) (Or.inr (Or.inr ⟨rfl, rfl, rfl⟩))
    have psN : psR (List.range N3) K3 (g2 I3 0 2 (nI 0)) R3 (N + 1) rz := rp3.1.ag (Nat.le_refl _) (fun _ _ => rfl) (fun j hj => ⟨g2_ne _ _ _ (by omega), rfl⟩) (fun w k hw hk k1 k5 => g2_ne _ _ _ (fun e => by subst e; rw [h03.k0] at hk; omega))
    refine lv_goto (tgt := 62) hC.1 hC.2.1 dX0_pass_25 (by decide) ?_
    refine lv_aload_n hC.1 hC.2.1 dX0_pass_62 rfl (lv_at hl 1 rfl) ?_
    refine x_ga hC hK hw (by omega) h03.k0 4 11 h03.r4 (by decide) rfl q206 rfl dX0_pass_63 ?_
    refine lv_aload_n hC.1 hC.2.1 dX0_pass_66 rfl (lv_at hl 0 rfl) ?_
    refine g_get (C := RX7) (T := TX7) (ref := RX7) hC hK hw (List.mem_range.mpr (by omega)) rb3.1.2.2.1 (by decide) rfl in_X7 6 (by decide) q466 (fun x h => h) (v := .ref (ad3 (N + 1))) (by show va_rf _ = _; rw [rb3.2.1.2.1]; rfl) dX0_pass_67 ?_
    refine g_callv (n := 1) (C := RX2) (T := TX2) hC hl.1 hK hX hw (h04.ps.1).1.1 (h04.ps.1).2.1.1 (by decide) rfl (tX2_become l (List.range N3) ad3 K3 (g2 I3 0 2 (nI 0)) R3 11 (N + 1) rz true (h04.ps.1) (psN) (by omega) (by rw [g2_ne _ _ _ (by omega)]; exact rt3)) (lw_V q689 q690 q691 q62 q692) rfl rfl (by decide +kernel) ⟨by decide, by decide⟩ rfl rfl (Nat.le_of_ble_eq_true rfl) dX0_pass_70 ⟨by simp only [gN]; omega, by simp only [gN]; omega⟩ ?_
    rintro I4 R4 H locs ⟨b1, b2, b3⟩ hw
    dsimp only at b1 b2 b3
    have t4 : I4 11 0 = nI 1 := by rw [b3, g2_ne _ _ _ (by omega)]; exact rt3
    have h05 := h04.tell b2 b1 t4 rp3.2.2
    have hr4 : R4 0 = R3 0 := (b2.1 0 (by omega)).2
    have hk4 : I4 0 = g2 I3 0 2 (nI 0) 0 := (b2.1 0 (by omega)).1
    refine lv_aload_n hC.1 hC.2.1 dX0_pass_73 rfl (lv_at hl 1 rfl) ?_
    refine lv_iconst (v := (nI 0)) hC.1 hC.2.1 dX0_pass_74 (by decide) ?_
    refine x_pi hC hK hw (by omega) h03.k0 7 (by decide) rfl q209 rfl rfl rfl rfl rfl dX0_pass_75 (fun H locs hw => ?_)
    refine lv_aload_n hC.1 hC.2.1 dX0_pass_78 rfl (lv_at hl 1 rfl) ?_
    refine x_ga hC hK hw (by omega) h03.k0 4 11 (by rw [hr4]; exact h03.r4) (by decide) rfl q206 rfl dX0_pass_79 ?_
    refine g_calli (n := 0) (C := RX2) (T := TX2) hC hl.1 hK hX hw (b1.1).1.1 (b1.1).2.1.1 (by decide) rfl (tX2_many l (List.range N3) ad3 K3 (g2 I4 0 7 (nI 0)) R4 11 (b1.1)) (lw_V q694 q640 q641 q62 q642) rfl rfl (by decide +kernel) ⟨by decide, by decide⟩ rfl rfl (Nat.le_of_ble_eq_true rfl) dX0_pass_82 ⟨by simp only [gN]; omega, by simp only [gN]; omega⟩ ?_
    rintro r_2 I2 R2 H locs ⟨hr2, hS2⟩ hw
    rw [hr2]
    replace hw := hw.eq (Prod.mk.inj hS2).1 (Prod.mk.inj hS2).2
    clear hS2
    exact M_iret hC hlk hw g3_.to ⟨by simp only [gN]; omega, by simp only [gN]; omega⟩ hr rfl (by rw [mpass_ok ht et hP, ← rp3.2.1.1]; exact ⟨by rw [b1.many, rp3.1.many], true, by rw [rp3.2.1.1]; exact h05⟩) dX0_pass_85
