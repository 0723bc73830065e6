/-! ===== WindCarver.keep (by gen/w55.py) ===== -/
theorem wcR.ge {N : Nat} {K : gK} {I : mG} {R : gR} {G : mG} {b : Bool} (h : wcR N K I R G b) : 44 ≤ N := h.1.1
theorem wcR.k0 {N : Nat} {K : gK} {I : mG} {R : gR} {G : mG} {b : Bool} (h : wcR N K I R G b) : (K 0).1 = 0 := h.1.2.1
theorem wcR.r4 {N : Nat} {K : gK} {I : mG} {R : gR} {G : mG} {b : Bool} (h : wcR N K I R G b) : R 0 4 = some 11 := h.1.2.2.1.1
theorem wcR.r5 {N : Nat} {K : gK} {I : mG} {R : gR} {G : mG} {b : Bool} (h : wcR N K I R G b) : R 0 5 = some 17 := h.1.2.2.1.2.1
theorem wcR.r11 {N : Nat} {K : gK} {I : mG} {R : gR} {G : mG} {b : Bool} (h : wcR N K I R G b) : R 0 11 = some 27 := h.1.2.2.1.2.2
theorem wcR.k27 {N : Nat} {K : gK} {I : mG} {R : gR} {G : mG} {b : Bool} (h : wcR N K I R G b) : K 27 = (32, 16) := h.1.2.2.2.1.1
theorem wcR.k1 {N : Nat} {K : gK} {I : mG} {R : gR} {G : mG} {b : Bool} (h : wcR N K I R G b) : K 1 = (30, 8) := h.1.2.2.2.2.1.1
theorem wcR.k10 {N : Nat} {K : gK} {I : mG} {R : gR} {G : mG} {b : Bool} (h : wcR N K I R G b) : K 10 = (21, 120) := h.1.2.2.2.2.1.2.1
theorem wcR.k23 {N : Nat} {K : gK} {I : mG} {R : gR} {G : mG} {b : Bool} (h : wcR N K I R G b) : K 23 = (31, 24) := h.1.2.2.2.2.1.2.2.1
theorem wcR.k24 {N : Nat} {K : gK} {I : mG} {R : gR} {G : mG} {b : Bool} (h : wcR N K I R G b) : K 24 = (31, 2) := h.1.2.2.2.2.1.2.2.2
theorem wcR.r0 {N : Nat} {K : gK} {I : mG} {R : gR} {G : mG} {b : Bool} (h : wcR N K I R G b) : R 0 0 = some 1 := h.1.2.2.2.2.2.1.1
theorem wcR.r1 {N : Nat} {K : gK} {I : mG} {R : gR} {G : mG} {b : Bool} (h : wcR N K I R G b) : R 0 1 = some 10 := h.1.2.2.2.2.2.1.2.1
theorem wcR.r6 {N : Nat} {K : gK} {I : mG} {R : gR} {G : mG} {b : Bool} (h : wcR N K I R G b) : R 0 6 = some 23 := h.1.2.2.2.2.2.1.2.2.1
theorem wcR.r8 {N : Nat} {K : gK} {I : mG} {R : gR} {G : mG} {b : Bool} (h : wcR N K I R G b) : R 0 8 = some 24 := h.1.2.2.2.2.2.1.2.2.2
theorem wcR.sh {N : Nat} {K : gK} {I : mG} {R : gR} {G : mG} {b : Bool} (h : wcR N K I R G b) {k : Nat} (hk : k < 8) : R 1 k = some (2 + k) ∧ (K (2 + k)).1 = 1 := h.1.2.2.2.2.2.2 k hk
theorem wcR.ps {N : Nat} {K : gK} {I : mG} {R : gR} {G : mG} {b : Bool} (h : wcR N K I R G b) : psR (List.range N) K I R 11 (G 6) := h.2.2.1.1
theorem wcR.told {N : Nat} {K : gK} {I : mG} {R : gR} {G : mG} {b : Bool} (h : wcR N K I R G b) : I 11 0 = bI b := h.2.2.1.2.1
theorem wcR.g4 {N : Nat} {K : gK} {I : mG} {R : gR} {G : mG} {b : Bool} (h : wcR N K I R G b) : G 0 4 = bI b := h.2.2.1.2.2.1
theorem wcR.st {N : Nat} {K : gK} {I : mG} {R : gR} {G : mG} {b : Bool} (h : wcR N K I R G b) : stOk (G 6) := h.2.2.1.2.2.2
theorem wcR.p17 {N : Nat} {K : gK} {I : mG} {R : gR} {G : mG} {b : Bool} (h : wcR N K I R G b) : isPass (List.range N) K R 17 := h.wb.p17
/-- a pass as an element of a row of passes -/
theorem g_anyP {s : State} {H : Heap} {D : va_G} {dA : Nat → ClassId} {A : Nat → Prop} {H0 : Heap} {dom : List Nat} {ad : Nat → Nat} {K : gK} {I : mG} {R : gR} {locs : List Loc} (hK : va_K D cCl (cTy dA) s) (hw : gw D dA A H0 dom ad K I R H locs) {w ci : Nat} (C : String) {T : u_T} (hc : cCl[ci]? = some (C, T, gN ci)) (hc20 : ci < 20) (hn : w ∈ dom) (hk0 : (K w).1 = ci) : va_Any C s H (ad w) := by
  obtain ⟨q0, -, hq⟩ := nL_get (gCt dA K I R ad) ad hn
  have e1 : gCt dA K I R ad w = .inr (ci, gF ci (I w) (R w) ad) := gE_o hk0 hc20
  rw [e1] at hq
  exact va_rAny hK hw.1.1 hq hc (fun comp c0 h1 h2 => by cases h1.symm.trans h2; exact va_asg _ _)
def rotL (f : Nat → Option Nat) (i : Nat) : Nat → Option Nat := fun k => if k + 1 < i then f (k + 1) else f k
theorem rotL_1 (f : Nat → Option Nat) : rotL f 1 = f := by
  funext k
  unfold rotL
  rw [if_neg (by omega)]
theorem rotL_s (f : Nat → Option Nat) {i : Nat} (hi : 1 ≤ i) {x : Option Nat} (hx : f i = x) : va_up (rotL f i) (i - 1) x = rotL f (i + 1) := by
  funext k
  unfold rotL va_up
  by_cases e : k = i - 1
  · rw [if_pos e, if_pos (by omega), ← hx]
    congr 1
    omega
  · rw [if_neg e]
    dsimp only
    by_cases h : k + 1 < i
    · rw [if_pos h, if_pos (by omega)]
    · rw [if_neg h, if_neg (by omega)]
theorem rotL_e (f : Nat → Option Nat) {x : Option Nat} (hx : f 0 = x) : va_up (rotL f 24) 23 x = rotF f := by
  funext k
  unfold rotL va_up rotF
  by_cases e : k = 23
  · rw [if_pos e, if_neg (by omega), if_pos e, hx]
  · rw [if_neg e]
    dsimp only
    by_cases h : k + 1 < 24
    · rw [if_pos h, if_pos (by omega)]
    · rw [if_neg h, if_neg (by omega), if_neg e]

set_option maxHeartbeats 800000 in
theorem tX0_keep (l : Launch) (N : Nat) (ad : Nat → Nat) (K : gK) (I : mG) (R : gR) (G : mG) (h0 : wcR N K I R G true) : gM l yX0_keep (ws_ yX0_keep cX0_keep 3 none) ({ frames := 2, cells := 6, slots := 53, locals := 81 } : Room) [.ref (ad 0)] N ad K I R (fun v S => v = none ∧ wcR S.1 S.2.2.1 S.2.2.2.1 S.2.2.2.2 (noteG G) true) := by
  refine gM.of (by decide) (Nat.le_of_ble_eq_true rfl) ?_
  intro D dA p e s m args below meth cd ls hC hlk hr hin hK hX hl hw
  have hl : lv_has ls 3 [(0, .ref (ad 0))] := hl
  have hge := h0.ge
  obtain ⟨am, ham, a7, g22, a4, a5⟩ := h0.2.2.2.1
  refine lv_aload_n hC.1 hC.2.1 dX0_keep_0 rfl (lv_at hl 0 rfl) ?_
  refine x_gi hC hK hw (by omega) h0.k0 7 (by decide) rfl q209 rfl (v := (nI am)) (a7) dX0_keep_1 ?_
  refine lv_bipush (v := (nI 24)) hC.1 hC.2.1 dX0_keep_4 (by decide) ?_
  refine k_ne (tgt := 62) hC (by omega) (by omega) dX0_keep_6 (by decide) (fun c6 => ?_) (fun c6 => ?_)
  · have hc := h0
    have gc : G 0 22 = nI am := g22
    have i7 : I 0 7 = nI am := a7
    have hlt : am < 24 := by omega
    rcases hx : R 23 am with _ | q
    · refine lv_aload_n hC.1 hC.2.1 dX0_keep_62 rfl (lv_at hl 0 rfl) ?_
      refine x_ga hC hK hw (by omega) hc.k0 6 23 hc.r6 (by decide) rfl q208 rfl dX0_keep_63 ?_
      refine lv_aload_n hC.1 hC.2.1 dX0_keep_66 rfl (lv_at hl 0 rfl) ?_
      refine x_gi hC hK hw (by omega) hc.k0 7 (by decide) rfl q209 rfl (v := (nI am)) (i7) dX0_keep_67 ?_
      refine g_ldr (t := 1) (v := .null) hC hK hw (List.mem_range.mpr (by omega)) hc.k23 rfl (by omega) (by omega) (by rw [hx]; rfl) dX0_keep_70 ?_
      refine lv_ifnonnullN hC.1 hC.2.1 dX0_keep_71 ?_
      refine lv_aload_n hC.1 hC.2.1 dX0_keep_74 rfl (lv_at hl 0 rfl) ?_
      refine x_ga hC hK hw (by omega) hc.k0 6 23 hc.r6 (by decide) rfl q208 rfl dX0_keep_75 ?_
      refine lv_aload_n hC.1 hC.2.1 dX0_keep_78 rfl (lv_at hl 0 rfl) ?_
      refine x_gi hC hK hw (by omega) hc.k0 7 (by decide) rfl q209 rfl (v := (nI am)) (i7) dX0_keep_79 ?_
      refine M_new hC hK hw 2 (by decide) rfl in_X2 tyX2 tyX2_ok q114 q115 q62 (df_of (by decide +kernel)) (by simp only [gN]; omega) (by simp only [gN]; omega) dX0_keep_82 (fun ad82_1 H h82_1 hw => ?_)
      have e82_1 : ad 0 = ad82_1 0 := (h82_1 0 (by omega)).symm
      rw [e82_1] at hl
      have e82_1 : ad 23 = ad82_1 23 := (h82_1 23 (by omega)).symm
      rw [e82_1]
      have g82_1 : gGo N ad K (N + 1, ad82_1, va_up K N (2, 0), va_up I N (fun _ => nI 0), va_up R N (fun _ => none)) := gGo_new (I1 := I) (R1 := R) gGo.rf h82_1
      refine lv_dup hC.1 hC.2.1 dX0_keep_85 rfl ?_
      refine M_IN (n := 0) hC hl.1 hK hX hw (tX2_init l (N + 1) ad82_1 (va_up K N (2, 0)) (va_up I N (fun _ => nI 0)) (va_up R N (fun _ => none)) N (rfl) (by rw [va_up_self]) (va_up_self _ _ _) (va_up_self _ _ _)) q116 q117 q62 q118 rfl (by decide +kernel) ⟨by decide, by decide⟩ rfl rfl (Nat.le_of_ble_eq_true rfl) dX0_keep_86 ⟨by simp only [gN]; omega, by simp only [gN]; omega⟩ ?_
      rintro _ N2 ad2 K2 I2 R2 H locs ⟨rfl, eN, bP, tP, oP⟩ hg2 hw
      dsimp only at eN bP tP oP
      subst eN
      have lP : N + 6 ≤ N + 1 + 5 := by omega
      have e_ad2 : ad82_1 0 = ad2 0 := (hg2.2 0 (by omega)).1.symm
      rw [e_ad2] at hl
      have e_ad2 : ad82_1 N = ad2 N := (hg2.2 N (by omega)).1.symm
      rw [e_ad2]
      have e_ad2 : ad82_1 23 = ad2 23 := (hg2.2 23 (by omega)).1.symm
      rw [e_ad2]
      have g86 : gGo N ad K (N + 1 + 5, ad2, K2, I2, R2) := gGo.tr g82_1 hg2
      have kA : ∀ n, n < N → K2 n = K n := fun n hn => ((hg2.2 n (by omega)).2).trans (va_up_ne _ _ (by omega))
      have iA : ∀ n, n < N → I2 n = I n ∧ R2 n = R n := fun n hn => ⟨by rw [(oP n hn).1]; exact va_up_ne _ _ (by omega), by rw [(oP n hn).2]; exact va_up_ne _ _ (by omega)⟩
      have hc2 := hc.place (k := am) hlt hx kA iA bP.1
      refine g_str (t := 1) hC hK hw (List.mem_range.mpr (by omega)) hc2.k23 rfl (by omega) (by omega) (List.mem_range.mpr (by omega)) (g_anyP hK hw RX2 (ci := 2) rfl (by decide) (List.mem_range.mpr (by omega)) bP.1.2.1.1) dX0_keep_89 (fun H locs hw => ?_)
      have hx2 : r2 R2 23 am (some N) 23 am = some N := by unfold r2; rw [va_up_self, va_up_self]
      have i72 : I2 0 7 = nI am := by rw [(iA 0 (by omega)).1]; exact i7
      have hpN := bP.1.r2 (v := 23) (i := am) (x := some N) (by omega)
      refine lv_aload_n hC.1 hC.2.1 dX0_keep_90 rfl (lv_at hl 0 rfl) ?_
      refine x_ga hC hK hw (by omega) hc2.k0 6 23 hc2.r6 (by decide) rfl q208 rfl dX0_keep_91 ?_
      refine lv_aload_n hC.1 hC.2.1 dX0_keep_94 rfl (lv_at hl 0 rfl) ?_
      refine x_gi hC hK hw (by omega) hc2.k0 7 (by decide) rfl q209 rfl (v := (nI am)) (i72) dX0_keep_95 ?_
      refine g_ldr (t := 1) (v := .ref (ad2 N)) hC hK hw (List.mem_range.mpr (by omega)) hc2.k23 rfl (by omega) (by omega) (by rw [hx2]; rfl) dX0_keep_98 ?_
      refine lv_aload_n hC.1 hC.2.1 dX0_keep_99 rfl (lv_at hl 0 rfl) ?_
      refine x_ga hC hK hw (by omega) hc2.k0 4 11 hc2.r4 (by decide) rfl q206 rfl dX0_keep_100 ?_
      refine g_callv (n := 1) (C := RX2) (T := TX2) hC hl.1 hK hX hw (hpN).1.1 (hpN).2.1.1 (by decide) rfl (tX2_become l (List.range (N + 1 + 5)) ad2 K2 I2 (r2 R2 23 am (some N)) N 11 (G 6) true (hpN) (hc2.ps) (by omega) (hc2.told)) (lw_V q689 q690 q691 q62 q692) rfl rfl (by decide +kernel) ⟨by decide, by decide⟩ rfl rfl (Nat.le_of_ble_eq_true rfl) dX0_keep_103 ⟨by simp only [gN]; omega, by simp only [gN]; omega⟩ ?_
      rintro I5 R5 H locs ⟨b5, o5, t5⟩ hw
      dsimp only at b5 o5 t5
      have i75 : I5 0 7 = nI am := by rw [(o5.1 0 (by omega)).1]; exact i72
      have hf := hc2.note (am := am) hlt gc hx2 o5 b5 (by rw [t5]; exact hc2.told)
      refine lv_aload_n hC.1 hC.2.1 dX0_keep_106 rfl (lv_at hl 0 rfl) ?_
      refine lv_dup hC.1 hC.2.1 dX0_keep_107 rfl ?_
      refine x_gi hC hK hw (by omega) hc2.k0 7 (by decide) rfl q209 rfl (v := (nI am)) (i75) dX0_keep_108 ?_
      refine lv_iconst (v := (nI 1)) hC.1 hC.2.1 dX0_keep_111 (by decide) ?_
      refine k_add hC dX0_keep_112 ?_
      refine x_pi hC hK hw (by omega) hc2.k0 7 (by decide) rfl q209 rfl rfl rfl rfl rfl dX0_keep_113 (fun H locs hw => ?_)
      exact M_vret hC hlk hw g86.to ⟨by simp only [gN]; omega, by simp only [gN]; omega⟩ hr (⟨rfl, by rw [show noteG G = note2 G am from by unfold noteG; rw [g22, ix_nI (by omega), if_neg (by omega)]]; exact hf⟩) dX0_keep_116
    · have hpq := hc.2.1.at (i := 2 + am) (by omega) (by rw [plc_p (by omega)]; exact hx)
      have h44q := (hc.2.1.1 (2 + am) q (by omega) (by rw [plc_p (by omega)]; exact hx)).2 (by omega)
      refine lv_aload_n hC.1 hC.2.1 dX0_keep_62 rfl (lv_at hl 0 rfl) ?_
      refine x_ga hC hK hw (by omega) hc.k0 6 23 hc.r6 (by decide) rfl q208 rfl dX0_keep_63 ?_
      refine lv_aload_n hC.1 hC.2.1 dX0_keep_66 rfl (lv_at hl 0 rfl) ?_
      refine x_gi hC hK hw (by omega) hc.k0 7 (by decide) rfl q209 rfl (v := (nI am)) (i7) dX0_keep_67 ?_
      refine g_ldr (t := 1) (v := .ref (ad q)) hC hK hw (List.mem_range.mpr (by omega)) hc.k23 rfl (by omega) (by omega) (by rw [hx]; rfl) dX0_keep_70 ?_
      refine lv_ifnonnull (tgt := 90) hC.1 hC.2.1 dX0_keep_71 (by decide) ?_
      refine lv_aload_n hC.1 hC.2.1 dX0_keep_90 rfl (lv_at hl 0 rfl) ?_
      refine x_ga hC hK hw (by omega) hc.k0 6 23 hc.r6 (by decide) rfl q208 rfl dX0_keep_91 ?_
      refine lv_aload_n hC.1 hC.2.1 dX0_keep_94 rfl (lv_at hl 0 rfl) ?_
      refine x_gi hC hK hw (by omega) hc.k0 7 (by decide) rfl q209 rfl (v := (nI am)) (i7) dX0_keep_95 ?_
      refine g_ldr (t := 1) (v := .ref (ad q)) hC hK hw (List.mem_range.mpr (by omega)) hc.k23 rfl (by omega) (by omega) (by rw [hx]; rfl) dX0_keep_98 ?_
      refine lv_aload_n hC.1 hC.2.1 dX0_keep_99 rfl (lv_at hl 0 rfl) ?_
      refine x_ga hC hK hw (by omega) hc.k0 4 11 hc.r4 (by decide) rfl q206 rfl dX0_keep_100 ?_
      refine g_callv (n := 1) (C := RX2) (T := TX2) hC hl.1 hK hX hw (hpq).1.1 (hpq).2.1.1 (by decide) rfl (tX2_become l (List.range N) ad K I R q 11 (G 6) true (hpq) (hc.ps) (by omega) (hc.told)) (lw_V q689 q690 q691 q62 q692) rfl rfl (by decide +kernel) ⟨by decide, by decide⟩ rfl rfl (Nat.le_of_ble_eq_true rfl) dX0_keep_103 ⟨Nat.zero_le _, Nat.zero_le _⟩ ?_
      rintro I5 R5 H locs ⟨b5, o5, t5⟩ hw
      dsimp only at b5 o5 t5
      have i75 : I5 0 7 = nI am := by rw [(o5.1 0 (by omega)).1]; exact i7
      have hf := hc.note (am := am) hlt gc hx o5 b5 (by rw [t5]; exact hc.told)
      refine lv_aload_n hC.1 hC.2.1 dX0_keep_106 rfl (lv_at hl 0 rfl) ?_
      refine lv_dup hC.1 hC.2.1 dX0_keep_107 rfl ?_
      refine x_gi hC hK hw (by omega) hc.k0 7 (by decide) rfl q209 rfl (v := (nI am)) (i75) dX0_keep_108 ?_
      refine lv_iconst (v := (nI 1)) hC.1 hC.2.1 dX0_keep_111 (by decide) ?_
      refine k_add hC dX0_keep_112 ?_
      refine x_pi hC hK hw (by omega) hc.k0 7 (by decide) rfl q209 rfl rfl rfl rfl rfl dX0_keep_113 (fun H locs hw => ?_)
      exact M_vret hC hlk hw gGo.rf ⟨by simp only [gN]; omega, by simp only [gN]; omega⟩ hr (⟨rfl, by rw [show noteG G = note2 G am from by unfold noteG; rw [g22, ix_nI (by omega), if_neg (by omega)]]; exact hf⟩) dX0_keep_116
  · have hz : ∀ k, k < 24 → ∃ q, R 23 k = some q := fun k hk => by obtain ⟨_, q, z, _⟩ := a5 k (by omega); exact ⟨q, z⟩
    obtain ⟨p0, hp0⟩ := hz 0 (by omega)
    refine lv_aload_n hC.1 hC.2.1 dX0_keep_9 rfl (lv_at hl 0 rfl) ?_
    refine x_ga hC hK hw (by omega) h0.k0 6 23 h0.r6 (by decide) rfl q208 rfl dX0_keep_10 ?_
    refine lv_iconst (v := (nI 0)) hC.1 hC.2.1 dX0_keep_13 (by decide) ?_
    refine g_ldr (t := 1) (v := .ref (ad p0)) hC hK hw (List.mem_range.mpr (by omega)) h0.k23 rfl (by omega) (by omega) (by rw [hp0]; rfl) dX0_keep_14 ?_
    refine lv_astore_n (lv' := [(1, .ref (ad p0)), (0, .ref (ad 0))]) hC.1 hC.2.1 dX0_keep_15 rfl hl (by decide) rfl (fun ls hl => ?_)
    refine lv_iconst (v := (nI 1)) hC.1 hC.2.1 dX0_keep_16 (by decide) ?_
    refine lv_istore_n (lv' := [(2, .int (nI 1)), (1, .ref (ad p0)), (0, .ref (ad 0))]) hC.1 hC.2.1 dX0_keep_17 rfl hl (by decide) rfl (fun ls hl => ?_)
    refine W.loop (fun ls i H locs => lv_has ls 3 [(0, .ref (ad 0)), (1, .ref (ad p0)), (2, .int (nI i))] ∧ gw D dA (nA (List.range N) ad s.heap.size) s.heap (List.range N) ad K I (va_up R 23 (rotL (R 23) i)) H locs ∧ (1 ≤ i) ∧ (i ≤ 24)) 18 (fun _ => []) (fun i => 24 - i) ?_ 1 ⟨hl.sub' [2, 1, 0] (by rfl), hw.eq rfl (by rw [rotL_1, va_up_id]), by omega, by omega⟩
    rintro ls i H locs ⟨hl, hw, hi0, hi1⟩ ih18
    have hR0 : va_up R 23 (rotL (R 23) i) 0 = R 0 := va_up_ne _ _ (by decide)
    refine lv_iload_n hC.1 hC.2.1 dX0_keep_18 rfl (lv_at hl 2 rfl) ?_
    refine lv_bipush (v := (nI 24)) hC.1 hC.2.1 dX0_keep_19 (by decide) ?_
    refine k_ge (tgt := 44) hC (by omega) (by omega) dX0_keep_21 (by decide) (fun c21 => ?_) (fun c21 => ?_)
    · have eN : 24 = i := by omega
      subst eN
      have hR0 : va_up R 23 (rotL (R 23) 24) 0 = R 0 := va_up_ne _ _ (by decide)
      have h0P := (h0.2.1.at (i := 2) (by omega) (by rw [show (2 : Nat) = 2 + 0 from rfl, plc_p (by omega)]; exact hp0)).2.1.1
      have h0N := (h0.2.1.at (i := 2) (by omega) (by rw [show (2 : Nat) = 2 + 0 from rfl, plc_p (by omega)]; exact hp0)).lt
      refine lv_aload_n hC.1 hC.2.1 dX0_keep_44 rfl (lv_at hl 0 rfl) ?_
      refine x_ga hC hK hw (by omega) h0.k0 6 23 (by rw [hR0]; exact h0.r6) (by decide) rfl q208 rfl dX0_keep_45 ?_
      refine lv_bipush (v := (nI 23)) hC.1 hC.2.1 dX0_keep_48 (by decide) ?_
      refine lv_aload_n hC.1 hC.2.1 dX0_keep_50 rfl (lv_at hl 1 rfl) ?_
      refine g_str (t := 1) hC hK hw (List.mem_range.mpr (by omega)) h0.k23 rfl (by omega) (by omega) (List.mem_range.mpr (by omega)) (g_anyP hK hw RX2 (ci := 2) rfl (by decide) (List.mem_range.mpr (by omega)) h0P) dX0_keep_51 (fun H locs hw => ?_)
      replace hw := hw.eq rfl (show r2 (va_up R 23 (rotL (R 23) 24)) 23 23 (some p0) = va_up R 23 (rotF (R 23)) by rw [r2_up, rotL_e _ hp0])
      have hR0 : va_up R 23 (rotF (R 23)) 0 = R 0 := va_up_ne _ _ (by decide)
      refine lv_aload_n hC.1 hC.2.1 dX0_keep_52 rfl (lv_at hl 0 rfl) ?_
      refine lv_dup hC.1 hC.2.1 dX0_keep_53 rfl ?_
      refine x_gi hC hK hw (by omega) h0.k0 7 (by decide) rfl q209 rfl (v := (nI 24)) (by rw [a7, c6]) dX0_keep_54 ?_
      refine lv_iconst (v := (nI 1)) hC.1 hC.2.1 dX0_keep_57 (by decide) ?_
      refine k_sub hC (by omega) dX0_keep_58 ?_
      refine x_pi hC hK hw (by omega) h0.k0 7 (by decide) rfl q209 rfl rfl rfl rfl rfl dX0_keep_59 (fun H locs hw => ?_)
      have hc := h0.rot (by rw [g22, c6])
      have gc : note1 G 0 22 = nI 23 := by rw [note1_0, if_pos rfl]
      have i7 : g2 I 0 7 (nI (24 - 1)) 0 7 = nI 23 := by rw [g2_at]
      have hlt : 23 < 24 := by decide
      rcases hx : (va_up R 23 (rotF (R 23))) 23 23 with _ | q
      · refine lv_aload_n hC.1 hC.2.1 dX0_keep_62 rfl (lv_at hl 0 rfl) ?_
        refine x_ga hC hK hw (by omega) hc.k0 6 23 hc.r6 (by decide) rfl q208 rfl dX0_keep_63 ?_
        refine lv_aload_n hC.1 hC.2.1 dX0_keep_66 rfl (lv_at hl 0 rfl) ?_
        refine x_gi hC hK hw (by omega) hc.k0 7 (by decide) rfl q209 rfl (v := (nI 23)) (i7) dX0_keep_67 ?_
        refine g_ldr (t := 1) (v := .null) hC hK hw (List.mem_range.mpr (by omega)) hc.k23 rfl (by omega) (by omega) (by rw [hx]; rfl) dX0_keep_70 ?_
        refine lv_ifnonnullN hC.1 hC.2.1 dX0_keep_71 ?_
        refine lv_aload_n hC.1 hC.2.1 dX0_keep_74 rfl (lv_at hl 0 rfl) ?_
        refine x_ga hC hK hw (by omega) hc.k0 6 23 hc.r6 (by decide) rfl q208 rfl dX0_keep_75 ?_
        refine lv_aload_n hC.1 hC.2.1 dX0_keep_78 rfl (lv_at hl 0 rfl) ?_
        refine x_gi hC hK hw (by omega) hc.k0 7 (by decide) rfl q209 rfl (v := (nI 23)) (i7) dX0_keep_79 ?_
        refine M_new hC hK hw 2 (by decide) rfl in_X2 tyX2 tyX2_ok q114 q115 q62 (df_of (by decide +kernel)) (by simp only [gN]; omega) (by simp only [gN]; omega) dX0_keep_82 (fun ad82_1 H h82_1 hw => ?_)
        have e82_1 : ad 0 = ad82_1 0 := (h82_1 0 (by omega)).symm
        rw [e82_1] at hl
        have e82_1 : ad p0 = ad82_1 p0 := (h82_1 p0 (by omega)).symm
        rw [e82_1] at hl
        have e82_1 : ad 23 = ad82_1 23 := (h82_1 23 (by omega)).symm
        rw [e82_1]
        have g82_1 : gGo N ad K (N + 1, ad82_1, va_up K N (2, 0), va_up (g2 I 0 7 (nI (24 - 1))) N (fun _ => nI 0), va_up (va_up R 23 (rotF (R 23))) N (fun _ => none)) := gGo_new (I1 := g2 I 0 7 (nI (24 - 1))) (R1 := va_up R 23 (rotF (R 23))) gGo.rf h82_1
        refine lv_dup hC.1 hC.2.1 dX0_keep_85 rfl ?_
        refine M_IN (n := 0) hC hl.1 hK hX hw (tX2_init l (N + 1) ad82_1 (va_up K N (2, 0)) (va_up (g2 I 0 7 (nI (24 - 1))) N (fun _ => nI 0)) (va_up (va_up R 23 (rotF (R 23))) N (fun _ => none)) N (rfl) (by rw [va_up_self]) (va_up_self _ _ _) (va_up_self _ _ _)) q116 q117 q62 q118 rfl (by decide +kernel) ⟨by decide, by decide⟩ rfl rfl (Nat.le_of_ble_eq_true rfl) dX0_keep_86 ⟨by simp only [gN]; omega, by simp only [gN]; omega⟩ ?_
        rintro _ N2 ad2 K2 I2 R2 H locs ⟨rfl, eN, bP, tP, oP⟩ hg2 hw
        dsimp only at eN bP tP oP
        subst eN
        have lP : N + 6 ≤ N + 1 + 5 := by omega
        have e_ad2 : ad82_1 0 = ad2 0 := (hg2.2 0 (by omega)).1.symm
        rw [e_ad2] at hl
        have e_ad2 : ad82_1 p0 = ad2 p0 := (hg2.2 p0 (by omega)).1.symm
        rw [e_ad2] at hl
        have e_ad2 : ad82_1 N = ad2 N := (hg2.2 N (by omega)).1.symm
        rw [e_ad2]
        have e_ad2 : ad82_1 23 = ad2 23 := (hg2.2 23 (by omega)).1.symm
        rw [e_ad2]
        have g86 : gGo N ad K (N + 1 + 5, ad2, K2, I2, R2) := gGo.tr g82_1 hg2
        have kA : ∀ n, n < N → K2 n = K n := fun n hn => ((hg2.2 n (by omega)).2).trans (va_up_ne _ _ (by omega))
        have iA : ∀ n, n < N → I2 n = (g2 I 0 7 (nI (24 - 1))) n ∧ R2 n = (va_up R 23 (rotF (R 23))) n := fun n hn => ⟨by rw [(oP n hn).1]; exact va_up_ne _ _ (by omega), by rw [(oP n hn).2]; exact va_up_ne _ _ (by omega)⟩
        have hc2 := hc.place (k := 23) hlt hx kA iA bP.1
        refine g_str (t := 1) hC hK hw (List.mem_range.mpr (by omega)) hc2.k23 rfl (by omega) (by omega) (List.mem_range.mpr (by omega)) (g_anyP hK hw RX2 (ci := 2) rfl (by decide) (List.mem_range.mpr (by omega)) bP.1.2.1.1) dX0_keep_89 (fun H locs hw => ?_)
        have hx2 : r2 R2 23 23 (some N) 23 23 = some N := by unfold r2; rw [va_up_self, va_up_self]
        have i72 : I2 0 7 = nI 23 := by rw [(iA 0 (by omega)).1]; exact i7
        have hpN := bP.1.r2 (v := 23) (i := 23) (x := some N) (by omega)
        refine lv_aload_n hC.1 hC.2.1 dX0_keep_90 rfl (lv_at hl 0 rfl) ?_
        refine x_ga hC hK hw (by omega) hc2.k0 6 23 hc2.r6 (by decide) rfl q208 rfl dX0_keep_91 ?_
        refine lv_aload_n hC.1 hC.2.1 dX0_keep_94 rfl (lv_at hl 0 rfl) ?_
        refine x_gi hC hK hw (by omega) hc2.k0 7 (by decide) rfl q209 rfl (v := (nI 23)) (i72) dX0_keep_95 ?_
        refine g_ldr (t := 1) (v := .ref (ad2 N)) hC hK hw (List.mem_range.mpr (by omega)) hc2.k23 rfl (by omega) (by omega) (by rw [hx2]; rfl) dX0_keep_98 ?_
        refine lv_aload_n hC.1 hC.2.1 dX0_keep_99 rfl (lv_at hl 0 rfl) ?_
        refine x_ga hC hK hw (by omega) hc2.k0 4 11 hc2.r4 (by decide) rfl q206 rfl dX0_keep_100 ?_
        refine g_callv (n := 1) (C := RX2) (T := TX2) hC hl.1 hK hX hw (hpN).1.1 (hpN).2.1.1 (by decide) rfl (tX2_become l (List.range (N + 1 + 5)) ad2 K2 I2 (r2 R2 23 23 (some N)) N 11 (note1 G 6) true (hpN) (hc2.ps) (by omega) (hc2.told)) (lw_V q689 q690 q691 q62 q692) rfl rfl (by decide +kernel) ⟨by decide, by decide⟩ rfl rfl (Nat.le_of_ble_eq_true rfl) dX0_keep_103 ⟨by simp only [gN]; omega, by simp only [gN]; omega⟩ ?_
        rintro I5 R5 H locs ⟨b5, o5, t5⟩ hw
        dsimp only at b5 o5 t5
        have i75 : I5 0 7 = nI 23 := by rw [(o5.1 0 (by omega)).1]; exact i72
        have hf := hc2.note (am := 23) hlt gc hx2 o5 b5 (by rw [t5]; exact hc2.told)
        refine lv_aload_n hC.1 hC.2.1 dX0_keep_106 rfl (lv_at hl 0 rfl) ?_
        refine lv_dup hC.1 hC.2.1 dX0_keep_107 rfl ?_
        refine x_gi hC hK hw (by omega) hc2.k0 7 (by decide) rfl q209 rfl (v := (nI 23)) (i75) dX0_keep_108 ?_
        refine lv_iconst (v := (nI 1)) hC.1 hC.2.1 dX0_keep_111 (by decide) ?_
        refine k_add hC dX0_keep_112 ?_
        refine x_pi hC hK hw (by omega) hc2.k0 7 (by decide) rfl q209 rfl rfl rfl rfl rfl dX0_keep_113 (fun H locs hw => ?_)
        exact M_vret hC hlk hw g86.to ⟨by simp only [gN]; omega, by simp only [gN]; omega⟩ hr (⟨rfl, by rw [show noteG G = note2 (note1 G) 23 from by unfold noteG; rw [g22, ix_nI (by omega), if_pos (by omega)]]; exact hf⟩) dX0_keep_116
      · have hpq := hc.2.1.at (i := 2 + 23) (by omega) (by rw [plc_p (by omega)]; exact hx)
        have h44q := (hc.2.1.1 (2 + 23) q (by omega) (by rw [plc_p (by omega)]; exact hx)).2 (by omega)
        refine lv_aload_n hC.1 hC.2.1 dX0_keep_62 rfl (lv_at hl 0 rfl) ?_
        refine x_ga hC hK hw (by omega) hc.k0 6 23 hc.r6 (by decide) rfl q208 rfl dX0_keep_63 ?_
        refine lv_aload_n hC.1 hC.2.1 dX0_keep_66 rfl (lv_at hl 0 rfl) ?_
        refine x_gi hC hK hw (by omega) hc.k0 7 (by decide) rfl q209 rfl (v := (nI 23)) (i7) dX0_keep_67 ?_
        refine g_ldr (t := 1) (v := .ref (ad q)) hC hK hw (List.mem_range.mpr (by omega)) hc.k23 rfl (by omega) (by omega) (by rw [hx]; rfl) dX0_keep_70 ?_
        refine lv_ifnonnull (tgt := 90) hC.1 hC.2.1 dX0_keep_71 (by decide) ?_
        refine lv_aload_n hC.1 hC.2.1 dX0_keep_90 rfl (lv_at hl 0 rfl) ?_
        refine x_ga hC hK hw (by omega) hc.k0 6 23 hc.r6 (by decide) rfl q208 rfl dX0_keep_91 ?_
        refine lv_aload_n hC.1 hC.2.1 dX0_keep_94 rfl (lv_at hl 0 rfl) ?_
        refine x_gi hC hK hw (by omega) hc.k0 7 (by decide) rfl q209 rfl (v := (nI 23)) (i7) dX0_keep_95 ?_
        refine g_ldr (t := 1) (v := .ref (ad q)) hC hK hw (List.mem_range.mpr (by omega)) hc.k23 rfl (by omega) (by omega) (by rw [hx]; rfl) dX0_keep_98 ?_
        refine lv_aload_n hC.1 hC.2.1 dX0_keep_99 rfl (lv_at hl 0 rfl) ?_
        refine x_ga hC hK hw (by omega) hc.k0 4 11 hc.r4 (by decide) rfl q206 rfl dX0_keep_100 ?_
        refine g_callv (n := 1) (C := RX2) (T := TX2) hC hl.1 hK hX hw (hpq).1.1 (hpq).2.1.1 (by decide) rfl (tX2_become l (List.range N) ad K (g2 I 0 7 (nI (24 - 1))) (va_up R 23 (rotF (R 23))) q 11 (note1 G 6) true (hpq) (hc.ps) (by omega) (hc.told)) (lw_V q689 q690 q691 q62 q692) rfl rfl (by decide +kernel) ⟨by decide, by decide⟩ rfl rfl (Nat.le_of_ble_eq_true rfl) dX0_keep_103 ⟨Nat.zero_le _, Nat.zero_le _⟩ ?_
        rintro I5 R5 H locs ⟨b5, o5, t5⟩ hw
        dsimp only at b5 o5 t5
        have i75 : I5 0 7 = nI 23 := by rw [(o5.1 0 (by omega)).1]; exact i7
        have hf := hc.note (am := 23) hlt gc hx o5 b5 (by rw [t5]; exact hc.told)
        refine lv_aload_n hC.1 hC.2.1 dX0_keep_106 rfl (lv_at hl 0 rfl) ?_
        refine lv_dup hC.1 hC.2.1 dX0_keep_107 rfl ?_
        refine x_gi hC hK hw (by omega) hc.k0 7 (by decide) rfl q209 rfl (v := (nI 23)) (i75) dX0_keep_108 ?_
        refine lv_iconst (v := (nI 1)) hC.1 hC.2.1 dX0_keep_111 (by decide) ?_
        refine k_add hC dX0_keep_112 ?_
        refine x_pi hC hK hw (by omega) hc.k0 7 (by decide) rfl q209 rfl rfl rfl rfl rfl dX0_keep_113 (fun H locs hw => ?_)
        exact M_vret hC hlk hw gGo.rf ⟨by simp only [gN]; omega, by simp only [gN]; omega⟩ hr (⟨rfl, by rw [show noteG G = note2 (note1 G) 23 from by unfold noteG; rw [g22, ix_nI (by omega), if_pos (by omega)]]; exact hf⟩) dX0_keep_116
    · obtain ⟨q, hq⟩ := hz i (by omega)
      have hq1 : va_up R 23 (rotL (R 23) i) 23 i = some q := by rw [va_up_self]; unfold rotL; rw [if_neg (by omega)]; exact hq
      have hqP := (h0.2.1.at (i := 2 + i) (by omega) (by rw [plc_p (by omega)]; exact hq)).2.1.1
      have hqN := (h0.2.1.at (i := 2 + i) (by omega) (by rw [plc_p (by omega)]; exact hq)).lt
      refine lv_aload_n hC.1 hC.2.1 dX0_keep_24 rfl (lv_at hl 0 rfl) ?_
      refine x_ga hC hK hw (by omega) h0.k0 6 23 (by rw [hR0]; exact h0.r6) (by decide) rfl q208 rfl dX0_keep_25 ?_
      refine lv_iload_n hC.1 hC.2.1 dX0_keep_28 rfl (lv_at hl 2 rfl) ?_
      refine lv_iconst (v := (nI 1)) hC.1 hC.2.1 dX0_keep_29 (by decide) ?_
      refine k_sub hC (by omega) dX0_keep_30 ?_
      refine lv_aload_n hC.1 hC.2.1 dX0_keep_31 rfl (lv_at hl 0 rfl) ?_
      refine x_ga hC hK hw (by omega) h0.k0 6 23 (by rw [hR0]; exact h0.r6) (by decide) rfl q208 rfl dX0_keep_32 ?_
      refine lv_iload_n hC.1 hC.2.1 dX0_keep_35 rfl (lv_at hl 2 rfl) ?_
      refine g_ldr (t := 1) (v := .ref (ad q)) hC hK hw (List.mem_range.mpr (by omega)) h0.k23 rfl (by omega) (by omega) (by rw [hq1]; rfl) dX0_keep_36 ?_
      refine g_str (t := 1) hC hK hw (List.mem_range.mpr (by omega)) h0.k23 rfl (by omega) (by omega) (List.mem_range.mpr (by omega)) (g_anyP hK hw RX2 (ci := 2) rfl (by decide) (List.mem_range.mpr (by omega)) hqP) dX0_keep_37 (fun H locs hw => ?_)
      refine k_iinc (k := 2) (d := 1) (lv' := [(2, .int (nI (i + 1))), (0, .ref (ad 0)), (1, .ref (ad p0))]) hC dX0_keep_38 hl rfl (by decide) (by decide) rfl (fun ls hl => ?_)
      refine lv_goto (tgt := 18) hC.1 hC.2.1 dX0_keep_41 (by decide) ?_
      exact ih18 ls (i + 1) H locs ⟨hl.sub' [1, 2, 0] (by rfl), hw.eq rfl (by rw [r2_up, rotL_s _ hi0 hq]), by omega, by omega⟩ (by omega)
