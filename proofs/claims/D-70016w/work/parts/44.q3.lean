/-! ===== WindCarver: walls that are tried (by gen/w44.py) ===== -/
theorem blF_congr {st st' : vV} (h : ∀ j, j < 25 ∨ 41 ≤ j → st j = st' j) : ∀ n, n ≤ 16 → blF st n = blF st' n
  | 0, _ => by
    show (bl0 st, nI 0) = (bl0 st', nI 0)
    have e : bl0 st = bl0 st' := by
      funext j
      unfold bl0
      by_cases hj : j < 4
      · rw [if_pos hj, if_pos hj, h _ (by omega)]
      · rw [if_neg hj, if_neg hj]
    rw [e]
  | n + 1, hn => by
    show cellF st (blF st n) n = cellF st' (blF st' n) n
    rw [blF_congr h n (by omega)]
    unfold cellF
    rw [h 0 (by omega), h (9 + n) (by omega), h (41 + n) (by omega)]
/-- what works hold doesn't turn the air -/
theorem bl_congr {st st' : vV} (h : ∀ j, j < 25 ∨ 41 ≤ j → st j = st' j) : bl st = bl st' := by
  rw [bl_eq, bl_eq, blF_congr h 16 (Nat.le_refl _)]
/-- a work is put on a cell of the pass u -/
theorem psR.put {dom : List Nat} {K : gK} {I : mG} {R : gR} {u a w k : Nat} {st : vV} {x : Int32} (h : psR dom K I R u st) (ha : a < 16) (hw : w ∈ dom) (hk : (K w).1 = 3 + k) (h1 : 1 ≤ k) (h5 : k ≤ 5) (e0 : I w 0 = nI a) (e1 : I w 1 = x) : psR dom K I (r2 R (u + 3) a (some w)) u (upd (upd st (9 + a) (nI k)) (25 + a) x) := by
  obtain ⟨p1, p2, p3, p4⟩ := h
  refine ⟨p1.r2 (by omega), ?_, fun y hy => ?_, fun c hc => ?_⟩
  · rw [upd_at, if_neg (by omega), upd_at, if_neg (by omega)]; exact p2
  · rw [upd_at, if_neg (by omega), upd_at, if_neg (by omega), upd_at, if_neg (by omega), upd_at, if_neg (by omega)]; exact p3 y hy
  · obtain ⟨g1, g2, g3, g4⟩ := p4 c hc
    have e41 : upd (upd st (9 + a) (nI k)) (25 + a) x (41 + c) = st (41 + c) := by rw [upd_at, if_neg (by omega), upd_at, if_neg (by omega)]
    rw [e41]
    by_cases hca : c = a
    · subst hca
      have e9 : upd (upd st (9 + c) (nI k)) (25 + c) x (9 + c) = nI k := by rw [upd_at, if_neg (by omega), upd_at, if_pos rfl]
      have e25 : upd (upd st (9 + c) (nI k)) (25 + c) x (25 + c) = x := by rw [upd_at, if_pos rfl]
      refine ⟨g1, g2, fun q => ?_, Or.inr ⟨w, k, ?_, hw, h1, h5, hk, e9, e0, by rw [e25]; exact e1⟩⟩
      · rw [e9] at q; exact absurd ((nI_eq (by omega) (by decide)).mp q) (by omega)
      · unfold _root_.Jvm.Pilot.CWindCarverLaw_law_r1084_15bd83.r2; rw [va_up_self, va_up_self]
    · have e9 : upd (upd st (9 + a) (nI k)) (25 + a) x (9 + c) = st (9 + c) := by rw [upd_at, if_neg (by omega), upd_at, if_neg (by omega)]
      have e25 : upd (upd st (9 + a) (nI k)) (25 + a) x (25 + c) = st (25 + c) := by rw [upd_at, if_neg (by omega), upd_at, if_neg (by omega)]
      have eR : r2 R (u + 3) a (some w) (u + 3) c = R (u + 3) c := by unfold _root_.Jvm.Pilot.CWindCarverLaw_law_r1084_15bd83.r2; rw [va_up_self, va_up_ne _ _ hca]
      rw [e9, eR]
      refine ⟨g1, g2, g3, ?_⟩
      rcases g4 with ⟨z1, z2⟩ | ⟨w', k', z1, z2, z3, z4, z5, z6, z7, z8⟩
      · exact Or.inl ⟨z1, by rw [e9]; exact z2⟩
      · exact Or.inr ⟨w', k', z1, z2, z3, z4, z5, by rw [e9]; exact z6, z7, by rw [e25]; exact z8⟩
theorem pOff_r2 (u i : Nat) (I : mG) (R : gR) (x : Option Nat) : pOff u I I R (r2 R (u + 3) i x) := ⟨fun n hn => ⟨rfl, va_up_ne _ _ (by omega)⟩, fun n hn => va_up_ne _ _ hn⟩
theorem bl_try (st : vV) (a b : Nat) (x y : Int32) : bl (upd (upd (upd (upd st (9 + a) (nI 1)) (25 + a) x) (9 + b) (nI 1)) (25 + b) y) = bl (upd (upd st (9 + a) (nI 1)) (9 + b) (nI 1)) ∨ 16 ≤ a ∨ 16 ≤ b := by
  by_cases ha : 16 ≤ a
  · exact Or.inr (Or.inl ha)
  · by_cases hb : 16 ≤ b
    · exact Or.inr (Or.inr hb)
    · left
      apply bl_congr
      intro j hj
      simp only [upd_at]
      by_cases e1 : j = 25 + b
      · omega
      · rw [if_neg e1]
        by_cases e2 : j = 9 + b
        · rw [if_pos e2, if_pos e2]
        · rw [if_neg e2, if_neg e2, if_neg (by omega)]
theorem bl_try' {st : vV} {a b : Nat} (ha : a < 16) (hb : b < 16) (x y : Int32) : bl (upd (upd (upd (upd st (9 + a) (nI 1)) (25 + a) x) (9 + b) (nI 1)) (25 + b) y) = bl (upd (upd st (9 + a) (nI 1)) (9 + b) (nI 1)) := by
  rcases bl_try st a b x y with h | h | h
  · exact h
  · omega
  · omega
theorem bl_try1 {st : vV} {a : Nat} (ha : a < 16) (k x : Int32) : bl (upd (upd st (9 + a) k) (25 + a) x) = bl (upd st (9 + a) k) := by
  apply bl_congr
  intro j hj
  rw [upd_at, if_neg (by omega)]

set_option maxHeartbeats 800000 in
theorem tX0_feltBy (l : Launch) (N : Nat) (ad : Nat → Nat) (K : gK) (I : mG) (R : gR) (cell : Nat) (a : Nat) (d : Nat) (st : vV) (b : Bool) (h0 : wB N K I R st b) (h1 : cell < 16) (h2 : a < 16) (h3 : d < 16) : gA l yX0_feltBy (ws_ yX0_feltBy cX0_feltBy 5 (some FieldType.int)) ({ frames := 4, cells := 0, slots := 0, locals := 101 } : Room) [.ref (ad 0), .int (nI cell), .int (nI a), .int (nI d)] N ad K I R (fun v S => v = some (.int ((bl (upd (upd st (9 + a) (nI 1)) (9 + d) (nI 1))).1 cell)) ∧ pOff 17 I S.1 R S.2) := by
  refine gM.of (by decide) (Nat.le_of_ble_eq_true rfl) ?_
  intro D dA p e s m args below meth cd ls hC hlk hr hin hK hX hl hw
  have hl : lv_has ls 5 [(0, .ref (ad 0)), (1, .int (nI cell)), (2, .int (nI a)), (3, .int (nI d))] := hl
  have hge := h0.ge
  obtain ⟨h, hh, eh⟩ := h0.hr
  refine lv_aload_n hC.1 hC.2.1 dX0_feltBy_0 rfl (lv_at hl 0 rfl) ?_
  refine M_V (n := 0) (C := RX0) (T := TX0) hC hl.1 hK hX hw (by omega) h0.k0 (by decide) rfl (tX0_asNow l N ad K I R st b (h0)) (lw_V q836 q838 qs19 q60 q839) (by decide +kernel) ⟨by decide, by decide⟩ rfl rfl (Nat.le_of_ble_eq_true rfl) dX0_feltBy_1 ⟨by simp only [gN]; omega, by simp only [gN]; omega⟩ ?_
  rintro _ N2 ad2 K2 I1 R1 H locs ⟨I3, R3, e3, rfl, b1, o1⟩ hg hw
  cases e3
  dsimp only at b1 o1
  have w1 := (h0).off o1
  refine lv_astore (lv' := [(4, .ref (ad 17)), (0, .ref (ad 0)), (1, .int (nI cell)), (2, .int (nI a)), (3, .int (nI d))]) hC.1 hC.2.1 dX0_feltBy_4 hl (by decide) rfl (fun ls hl => ?_)
  refine lv_aload hC.1 hC.2.1 dX0_feltBy_6 (lv_at hl 0 rfl) ?_
  refine p_ga hC hK hw b1.1 4 3 b1.1.2.2.2.2.1 (by decide) rfl q135 rfl dX0_feltBy_8 ?_
  refine lv_iload_n hC.1 hC.2.1 dX0_feltBy_11 rfl (lv_at hl 3 rfl) ?_
  refine lv_aload_n hC.1 hC.2.1 dX0_feltBy_12 rfl (lv_at hl 1 rfl) ?_
  refine x_ga hC hK hw (by omega) w1.k0 11 27 w1.r11 (by decide) rfl q213 rfl dX0_feltBy_13 ?_
  refine lv_iload_n hC.1 hC.2.1 dX0_feltBy_16 rfl (lv_at hl 3 rfl) ?_
  refine g_ldr (t := 2) (v := .ref (ad (28 + a))) hC hK hw (List.mem_range.mpr (by omega)) w1.k27 rfl (by omega) (by omega) (by rw [(w1.tr (show a < 16 by omega)).1]; rfl) dX0_feltBy_17 ?_
  refine g_str (t := 2) hC hK hw b1.1.1.2.2.2.1 b1.1.2.1.2.2.2.1 rfl (by omega) (by omega) (List.mem_range.mpr (by omega)) (g_any (k := 1) hK hX hw (List.mem_range.mpr (by omega)) (w1.tr (show a < 16 by omega)).2.1 ⟨by decide, by decide⟩) dX0_feltBy_18 (fun H locs hw => ?_)
  have b18 := (b1).put (x := nI 99) (k := 1) (show a < 16 by omega) (List.mem_range.mpr (by omega)) (w1.tr (show a < 16 by omega)).2.1 (by decide) (by decide) (w1.tr (show a < 16 by omega)).2.2.1 (w1.tr (show a < 16 by omega)).2.2.2
  have o18 := (o1).tr (pOff_r2 17 a I1 R1 (some (28 + a)))
  have w18 := h0.off o18
  refine lv_aload hC.1 hC.2.1 dX0_feltBy_19 (lv_at hl 0 rfl) ?_
  refine p_ga hC hK hw b18.1 4 3 b18.1.2.2.2.2.1 (by decide) rfl q135 rfl dX0_feltBy_21 ?_
  refine lv_iload_n hC.1 hC.2.1 dX0_feltBy_24 rfl (lv_at hl 4 rfl) ?_
  refine lv_aload_n hC.1 hC.2.1 dX0_feltBy_25 rfl (lv_at hl 1 rfl) ?_
  refine x_ga hC hK hw (by omega) w18.k0 11 27 w18.r11 (by decide) rfl q213 rfl dX0_feltBy_26 ?_
  refine lv_iload_n hC.1 hC.2.1 dX0_feltBy_29 rfl (lv_at hl 4 rfl) ?_
  refine g_ldr (t := 2) (v := .ref (ad (28 + d))) hC hK hw (List.mem_range.mpr (by omega)) w18.k27 rfl (by omega) (by omega) (by rw [(w18.tr (show d < 16 by omega)).1]; rfl) dX0_feltBy_30 ?_
  refine g_str (t := 2) hC hK hw b18.1.1.2.2.2.1 b18.1.2.1.2.2.2.1 rfl (by omega) (by omega) (List.mem_range.mpr (by omega)) (g_any (k := 1) hK hX hw (List.mem_range.mpr (by omega)) (w18.tr (show d < 16 by omega)).2.1 ⟨by decide, by decide⟩) dX0_feltBy_31 (fun H locs hw => ?_)
  have b31 := (b18).put (x := nI 99) (k := 1) (show d < 16 by omega) (List.mem_range.mpr (by omega)) (w18.tr (show d < 16 by omega)).2.1 (by decide) (by decide) (w18.tr (show d < 16 by omega)).2.2.1 (w18.tr (show d < 16 by omega)).2.2.2
  have o31 := (o18).tr (pOff_r2 17 d I1 (r2 R1 (17 + 3) a (some (28 + a))) (some (28 + d)))
  have w31 := h0.off o31
  refine lv_aload hC.1 hC.2.1 dX0_feltBy_32 (lv_at hl 0 rfl) ?_
  refine g_callv (n := 0) (C := RX2) (T := TX2) hC hl.1 hK hX hw (b31.1).1.1 (b31.1).2.1.1 (by decide) rfl (tX2_blow l (List.range N) ad K I1 (r2 (r2 R1 (17 + 3) a (some (28 + a))) (17 + 3) d (some (28 + d))) 17 (upd (upd (upd (upd st (9 + a) (nI 1)) (25 + a) (nI 99)) (9 + d) (nI 1)) (25 + d) (nI 99)) h (b31) (by rw [upd_at, if_neg (by omega), upd_at, if_neg (by omega), upd_at, if_neg (by omega), upd_at, if_neg (by omega)]; exact eh) (by omega)) (lw_V q840 q768 q769 q62 q770) rfl rfl (by decide +kernel) ⟨by decide, by decide⟩ rfl rfl (Nat.le_of_ble_eq_true rfl) dX0_feltBy_34 ⟨Nat.zero_le _, Nat.zero_le _⟩ ?_
  rintro I2 R2 H locs hS2 hw
  replace hw := hw.eq (Prod.mk.inj hS2).1 (Prod.mk.inj hS2).2
  clear hS2
  refine lv_aload hC.1 hC.2.1 dX0_feltBy_37 (lv_at hl 0 rfl) ?_
  refine p_ga hC hK hw b31.1 6 4 b31.1.2.2.2.2.2.1 (by decide) rfl q140 rfl dX0_feltBy_39 ?_
  refine lv_iload_n hC.1 hC.2.1 dX0_feltBy_42 rfl (lv_at hl 2 rfl) ?_
  refine g_ldi hC hK hw b31.1.1.2.2.2.2.1 b31.1.2.1.2.2.2.2.1 (by omega) (by omega) (v := ((bl (upd (upd st (9 + a) (nI 1)) (9 + d) (nI 1))).1 cell)) (by rw [pFL_4, bl_try' h2 h3]) dX0_feltBy_43 ?_
  exact M_iret hC hlk hw gGo.rf ⟨by simp only [gN]; omega, by simp only [gN]; omega⟩ hr rfl (⟨_, _, rfl, rfl, o31.tr (pOff_fl 17 _ _ _)⟩) dX0_feltBy_44

noncomputable def wb1V (st : vV) (cell : Nat) (v : Int32) : Int32 := match fstP (wl1 st cell v) 16 0 with
  | some a => nI (16 * a + a)
  | none => (-1000000 : Int32)
noncomputable def wb2V (st : vV) (cell : Nat) (v : Int32) : Int32 := match fstP (wl3 st cell v) 16 0 with
  | some a => nI (16 * a + (a + 1 + (wl2b st cell v a).getD 0))
  | none => (-1000000 : Int32)
theorem wl1_t' {st : vV} {cell a : Nat} {v : Int32} (c1 : isWk st a = false) (c2 : ¬ (bl (upd (upd st (9 + a) (nI 1)) (9 + a) (nI 1))).1 cell < v) : wl1 st cell v a = true := by
  rw [upd_uu] at c2
  simp only [wl1, c1, c2]
  rfl
theorem wl1_f2' {st : vV} {cell a : Nat} {v : Int32} (c2 : (bl (upd (upd st (9 + a) (nI 1)) (9 + a) (nI 1))).1 cell < v) : wl1 st cell v a = false := by
  rw [upd_uu] at c2
  simp only [wl1, c2]
  simp
theorem wl2_t' {st : vV} {cell a b : Nat} {v : Int32} (c1 : isWk st a = false) (c2 : isWk st b = false) (c3 : ¬ (bl (upd (upd st (9 + a) (nI 1)) (9 + b) (nI 1))).1 cell < v) : wl2 st cell v a b = true := by
  simp only [wl2, c1, c2, c3]
  rfl
theorem wl2_f3' {st : vV} {cell a b : Nat} {v : Int32} (c3 : (bl (upd (upd st (9 + a) (nI 1)) (9 + b) (nI 1))).1 cell < v) : wl2 st cell v a b = false := by
  simp only [wl2, c3]
  simp

set_option maxHeartbeats 800000 in
theorem tX0_wallsBy1 (l : Launch) (N : Nat) (ad : Nat → Nat) (K : gK) (I : mG) (R : gR) (cell : Nat) (v : Int32) (st : vV) (b : Bool) (h0 : wB N K I R st b) (h1 : cell < 16) : gA l yX0_wallsBy (ws_ yX0_wallsBy cX0_wallsBy 6 (some FieldType.int)) ({ frames := 5, cells := 0, slots := 0, locals := 125 } : Room) [.ref (ad 0), .int (nI cell), .int v, .int (nI 1)] N ad K I R (fun vv S => vv = some (.int (wb1V st cell v)) ∧ pOff 17 I S.1 R S.2) := by
  refine gM.of (by decide) (Nat.le_of_ble_eq_true rfl) ?_
  intro D dA p e s m args below meth cd ls hC hlk hr hin hK hX hl hw
  have hl : lv_has ls 6 [(0, .ref (ad 0)), (1, .int (nI cell)), (2, .int v), (3, .int (nI 1))] := hl
  have hge := h0.ge
  refine lv_iconst (v := (nI 0)) hC.1 hC.2.1 dX0_wallsBy_0 (by decide) ?_
  refine lv_istore (lv' := [(4, .int (nI 0)), (0, .ref (ad 0)), (1, .int (nI cell)), (2, .int v), (3, .int (nI 1))]) hC.1 hC.2.1 dX0_wallsBy_1 hl (by decide) rfl (fun ls hl => ?_)
  refine W.loop (fun ls a H locs => ∃ Ix Rx, lv_has ls 6 [(0, .ref (ad 0)), (1, .int (nI cell)), (2, .int v), (3, .int (nI 1)), (4, .int (nI a))] ∧ gw D dA (nA (List.range N) ad s.heap.size) s.heap (List.range N) ad K Ix Rx H locs ∧ (pOff 17 I Ix R Rx) ∧ (a ≤ 16) ∧ (fstP (wl1 st cell v) 16 0 = fstP (wl1 st cell v) (16 - a) a)) 3 (fun _ => []) (fun a => 16 - a) ?_ 0 ⟨_, _, hl.sub' [1, 2, 3, 4, 0] (by rfl), hw, pOff.rf, by omega, rfl⟩
  rintro ls a H locs ⟨Ix, Rx, hl, hw, ox, ha, hE⟩ ih3
  have wx := h0.off ox
  refine lv_iload hC.1 hC.2.1 dX0_wallsBy_3 (lv_at hl 4 rfl) ?_
  refine lv_bipush (v := (nI 16)) hC.1 hC.2.1 dX0_wallsBy_5 (by decide) ?_
  refine k_ge (tgt := 103) hC (by omega) (by omega) dX0_wallsBy_7 (by decide) (fun c7 => ?_) (fun c7 => ?_)
  · refine lv_ldc hC.1 hC.2.1 hC.2.2.2.1 (hC.2.2.2.2 _ q841) dX0_wallsBy_103 ?_
    exact M_iret hC hlk hw gGo.rf ⟨by simp only [gN]; omega, by simp only [gN]; omega⟩ hr rfl (⟨_, _, rfl, congrArg (fun z => some (Value.int z)) (by unfold wb1V; rw [fst_end hE (by omega)]), ox⟩) dX0_wallsBy_105
  · refine lv_iload_n hC.1 hC.2.1 dX0_wallsBy_10 rfl (lv_at hl 3 rfl) ?_
    refine lv_iconst (v := (nI 1)) hC.1 hC.2.1 dX0_wallsBy_11 (by decide) ?_
    refine k_ne (tgt := 20) hC (by decide) (by decide) dX0_wallsBy_12 (by decide) (fun c12 => ?_) (fun c12 => ?_)
    · exact absurd c12 (by decide)
    · refine lv_iload hC.1 hC.2.1 dX0_wallsBy_15 (lv_at hl 4 rfl) ?_
      refine lv_goto (tgt := 24) hC.1 hC.2.1 dX0_wallsBy_17 (by decide) ?_
      refine lv_istore (lv' := [(5, .int (nI a)), (0, .ref (ad 0)), (1, .int (nI cell)), (2, .int v), (3, .int (nI 1)), (4, .int (nI a))]) hC.1 hC.2.1 dX0_wallsBy_24 hl (by decide) rfl (fun ls hl => ?_)
      refine lv_iload hC.1 hC.2.1 dX0_wallsBy_26 (lv_at hl 0 rfl) ?_
      refine lv_iload_n hC.1 hC.2.1 dX0_wallsBy_28 rfl (lv_at hl 4 rfl) ?_
      refine lv_iconst (v := (nI 1)) hC.1 hC.2.1 dX0_wallsBy_29 (by decide) ?_
      refine k_ne (tgt := 40) hC (by decide) (by decide) dX0_wallsBy_30 (by decide) (fun c30 => ?_) (fun c30 => ?_)
      · exact absurd c30 (by decide)
      · refine lv_iload hC.1 hC.2.1 dX0_wallsBy_33 (lv_at hl 5 rfl) ?_
        refine lv_iconst (v := (nI 1)) hC.1 hC.2.1 dX0_wallsBy_35 (by decide) ?_
        refine k_add hC dX0_wallsBy_36 ?_
        refine lv_goto (tgt := 42) hC.1 hC.2.1 dX0_wallsBy_37 (by decide) ?_
        refine k_ge (tgt := 97) hC (by omega) (by omega) dX0_wallsBy_42 (by decide) (fun c42 => ?_) (fun c42 => ?_)
        · exact absurd c42 (by omega)
        · have ew := wx.ps.wk (c := a) (by omega)
          refine lv_aload_n hC.1 hC.2.1 dX0_wallsBy_45 rfl (lv_at hl 1 rfl) ?_
          refine x_ga hC hK hw (by omega) wx.k0 4 11 wx.r4 (by decide) rfl q206 rfl dX0_wallsBy_46 ?_
          refine lv_iload hC.1 hC.2.1 dX0_wallsBy_49 (lv_at hl 5 rfl) ?_
          refine g_calli (n := 1) (C := RX2) (T := TX2) hC hl.1 hK hX hw (wx.ps.1).1.1 (wx.ps.1).2.1.1 (by decide) rfl (tX2_has l (List.range N) ad K Ix Rx 11 a (wx.ps.1) (by omega)) (lw_V q713 q644 q645 q62 q646) rfl rfl (by decide +kernel) ⟨by decide, by decide⟩ rfl rfl (Nat.le_of_ble_eq_true rfl) dX0_wallsBy_51 ⟨Nat.zero_le _, Nat.zero_le _⟩ ?_
          rintro r_2 I2 R2 H locs ⟨hr2, hS2⟩ hw
          rw [hr2]
          replace hw := hw.eq (Prod.mk.inj hS2).1 (Prod.mk.inj hS2).2
          clear hS2
          refine k_bne (tgt := 91) hC dX0_wallsBy_54 (by decide) (fun c54 => ?_) (fun c54 => ?_)
          · refine k_iinc (k := 0) (d := 1) (lv' := [(5, .int (nI (a + 1))), (0, .ref (ad 0)), (1, .int (nI cell)), (2, .int v), (3, .int (nI 1)), (4, .int (nI a))]) hC dX0_wallsBy_91 hl rfl (by decide) (by decide) rfl (fun ls hl => ?_)
            refine lv_goto (tgt := 26) hC.1 hC.2.1 dX0_wallsBy_94 (by decide) ?_
            refine lv_iload hC.1 hC.2.1 dX0_wallsBy_26 (lv_at hl 0 rfl) ?_
            refine lv_iload_n hC.1 hC.2.1 dX0_wallsBy_28 rfl (lv_at hl 4 rfl) ?_
            refine lv_iconst (v := (nI 1)) hC.1 hC.2.1 dX0_wallsBy_29 (by decide) ?_
            refine k_ne (tgt := 40) hC (by decide) (by decide) dX0_wallsBy_30 (by decide) (fun c30 => ?_) (fun c30 => ?_)
            · exact absurd c30 (by decide)
            · refine lv_iload hC.1 hC.2.1 dX0_wallsBy_33 (lv_at hl 5 rfl) ?_
              refine lv_iconst (v := (nI 1)) hC.1 hC.2.1 dX0_wallsBy_35 (by decide) ?_
              refine k_add hC dX0_wallsBy_36 ?_
              refine lv_goto (tgt := 42) hC.1 hC.2.1 dX0_wallsBy_37 (by decide) ?_
              refine k_ge (tgt := 97) hC (by omega) (by omega) dX0_wallsBy_42 (by decide) (fun c42 => ?_) (fun c42 => ?_)
              · refine k_iinc (k := 5) (d := 1) (lv' := [(4, .int (nI (a + 1))), (5, .int (nI (a + 1))), (0, .ref (ad 0)), (1, .int (nI cell)), (2, .int v), (3, .int (nI 1))]) hC dX0_wallsBy_97 hl rfl (by decide) (by decide) rfl (fun ls hl => ?_)
                refine lv_goto (tgt := 3) hC.1 hC.2.1 dX0_wallsBy_100 (by decide) ?_
                exact ih3 ls (a + 1) H locs ⟨_, _, hl.sub' [2, 3, 4, 5, 0] (by rfl), hw, ox, by omega, fst_next hE (by omega) (wl1_f1 (by rw [ew]; exact c54))⟩ (by omega)
              · exact absurd c42 (by omega)
          · refine lv_aload_n hC.1 hC.2.1 dX0_wallsBy_57 rfl (lv_at hl 1 rfl) ?_
            refine x_ga hC hK hw (by omega) wx.k0 4 11 wx.r4 (by decide) rfl q206 rfl dX0_wallsBy_58 ?_
            refine lv_iload hC.1 hC.2.1 dX0_wallsBy_61 (lv_at hl 0 rfl) ?_
            refine g_calli (n := 1) (C := RX2) (T := TX2) hC hl.1 hK hX hw (wx.ps.1).1.1 (wx.ps.1).2.1.1 (by decide) rfl (tX2_has l (List.range N) ad K Ix Rx 11 a (wx.ps.1) (by omega)) (lw_V q713 q644 q645 q62 q646) rfl rfl (by decide +kernel) ⟨by decide, by decide⟩ rfl rfl (Nat.le_of_ble_eq_true rfl) dX0_wallsBy_63 ⟨Nat.zero_le _, Nat.zero_le _⟩ ?_
            rintro r_2 I2 R2 H locs ⟨hr2, hS2⟩ hw
            rw [hr2]
            replace hw := hw.eq (Prod.mk.inj hS2).1 (Prod.mk.inj hS2).2
            clear hS2
            refine k_bne (tgt := 91) hC dX0_wallsBy_66 (by decide) (fun c66 => ?_) (fun c66 => ?_)
            · refine k_iinc (k := 0) (d := 1) (lv' := [(5, .int (nI (a + 1))), (0, .ref (ad 0)), (1, .int (nI cell)), (2, .int v), (3, .int (nI 1)), (4, .int (nI a))]) hC dX0_wallsBy_91 hl rfl (by decide) (by decide) rfl (fun ls hl => ?_)
              refine lv_goto (tgt := 26) hC.1 hC.2.1 dX0_wallsBy_94 (by decide) ?_
              refine lv_iload hC.1 hC.2.1 dX0_wallsBy_26 (lv_at hl 0 rfl) ?_
              refine lv_iload_n hC.1 hC.2.1 dX0_wallsBy_28 rfl (lv_at hl 4 rfl) ?_
              refine lv_iconst (v := (nI 1)) hC.1 hC.2.1 dX0_wallsBy_29 (by decide) ?_
              refine k_ne (tgt := 40) hC (by decide) (by decide) dX0_wallsBy_30 (by decide) (fun c30 => ?_) (fun c30 => ?_)
              · exact absurd c30 (by decide)
              · refine lv_iload hC.1 hC.2.1 dX0_wallsBy_33 (lv_at hl 5 rfl) ?_
                refine lv_iconst (v := (nI 1)) hC.1 hC.2.1 dX0_wallsBy_35 (by decide) ?_
                refine k_add hC dX0_wallsBy_36 ?_
                refine lv_goto (tgt := 42) hC.1 hC.2.1 dX0_wallsBy_37 (by decide) ?_
                refine k_ge (tgt := 97) hC (by omega) (by omega) dX0_wallsBy_42 (by decide) (fun c42 => ?_) (fun c42 => ?_)
                · refine k_iinc (k := 5) (d := 1) (lv' := [(4, .int (nI (a + 1))), (5, .int (nI (a + 1))), (0, .ref (ad 0)), (1, .int (nI cell)), (2, .int v), (3, .int (nI 1))]) hC dX0_wallsBy_97 hl rfl (by decide) (by decide) rfl (fun ls hl => ?_)
                  refine lv_goto (tgt := 3) hC.1 hC.2.1 dX0_wallsBy_100 (by decide) ?_
                  exact ih3 ls (a + 1) H locs ⟨_, _, hl.sub' [2, 3, 4, 5, 0] (by rfl), hw, ox, by omega, fst_next hE (by omega) (wl1_f1 (by rw [ew]; exact c66))⟩ (by omega)
                · exact absurd c42 (by omega)
            · refine lv_aload_n hC.1 hC.2.1 dX0_wallsBy_69 rfl (lv_at hl 1 rfl) ?_
              refine lv_iload_n hC.1 hC.2.1 dX0_wallsBy_70 rfl (lv_at hl 2 rfl) ?_
              refine lv_iload hC.1 hC.2.1 dX0_wallsBy_71 (lv_at hl 5 rfl) ?_
              refine lv_iload hC.1 hC.2.1 dX0_wallsBy_73 (lv_at hl 0 rfl) ?_
              refine M_V (n := 3) (C := RX0) (T := TX0) hC hl.1 hK hX hw (by omega) wx.k0 (by decide) rfl (tX0_feltBy l N ad K Ix Rx cell a a st b (wx) (by omega) (by omega) (by omega)) (lw_V q907 q909 qs24 q60 q910) (by decide +kernel) ⟨by decide, by decide⟩ rfl rfl (Nat.le_of_ble_eq_true rfl) dX0_wallsBy_75 ⟨by simp only [gN]; omega, by simp only [gN]; omega⟩ ?_
              rintro _ N2 ad2 K2 I75 R75 H locs ⟨I3, R3, e3, rfl, o75⟩ hg hw
              cases e3
              dsimp only at o75
              have w75 := (wx).off o75
              refine lv_iload_n hC.1 hC.2.1 dX0_wallsBy_78 rfl (lv_at hl 3 rfl) ?_
              refine lv_icmp_lt (tgt := 91) hC.1 hC.2.1 dX0_wallsBy_79 (by decide) (fun c79 => ?_) (fun c79 => ?_)
              · refine k_iinc (k := 0) (d := 1) (lv' := [(5, .int (nI (a + 1))), (0, .ref (ad 0)), (1, .int (nI cell)), (2, .int v), (3, .int (nI 1)), (4, .int (nI a))]) hC dX0_wallsBy_91 hl rfl (by decide) (by decide) rfl (fun ls hl => ?_)
                refine lv_goto (tgt := 26) hC.1 hC.2.1 dX0_wallsBy_94 (by decide) ?_
                refine lv_iload hC.1 hC.2.1 dX0_wallsBy_26 (lv_at hl 0 rfl) ?_
                refine lv_iload_n hC.1 hC.2.1 dX0_wallsBy_28 rfl (lv_at hl 4 rfl) ?_
                refine lv_iconst (v := (nI 1)) hC.1 hC.2.1 dX0_wallsBy_29 (by decide) ?_
                refine k_ne (tgt := 40) hC (by decide) (by decide) dX0_wallsBy_30 (by decide) (fun c30 => ?_) (fun c30 => ?_)
                · exact absurd c30 (by decide)
                · refine lv_iload hC.1 hC.2.1 dX0_wallsBy_33 (lv_at hl 5 rfl) ?_
                  refine lv_iconst (v := (nI 1)) hC.1 hC.2.1 dX0_wallsBy_35 (by decide) ?_
                  refine k_add hC dX0_wallsBy_36 ?_
                  refine lv_goto (tgt := 42) hC.1 hC.2.1 dX0_wallsBy_37 (by decide) ?_
                  refine k_ge (tgt := 97) hC (by omega) (by omega) dX0_wallsBy_42 (by decide) (fun c42 => ?_) (fun c42 => ?_)
                  · refine k_iinc (k := 5) (d := 1) (lv' := [(4, .int (nI (a + 1))), (5, .int (nI (a + 1))), (0, .ref (ad 0)), (1, .int (nI cell)), (2, .int v), (3, .int (nI 1))]) hC dX0_wallsBy_97 hl rfl (by decide) (by decide) rfl (fun ls hl => ?_)
                    refine lv_goto (tgt := 3) hC.1 hC.2.1 dX0_wallsBy_100 (by decide) ?_
                    exact ih3 ls (a + 1) H locs ⟨_, _, hl.sub' [2, 3, 4, 5, 0] (by rfl), hw, (ox.tr o75), by omega, fst_next hE (by omega) (wl1_f2' c79)⟩ (by omega)
                  · exact absurd c42 (by omega)
              · refine lv_bipush (v := (nI 16)) hC.1 hC.2.1 dX0_wallsBy_82 (by decide) ?_
                refine lv_iload hC.1 hC.2.1 dX0_wallsBy_84 (lv_at hl 5 rfl) ?_
                refine k_mul hC dX0_wallsBy_86 ?_
                refine lv_iload hC.1 hC.2.1 dX0_wallsBy_87 (lv_at hl 0 rfl) ?_
                refine k_add hC dX0_wallsBy_89 ?_
                exact M_iret hC hlk hw gGo.rf ⟨by simp only [gN]; omega, by simp only [gN]; omega⟩ hr rfl (⟨_, _, rfl, congrArg (fun z => some (Value.int z)) (by unfold wb1V; rw [fst_hit hE (by omega) (wl1_t' (by rw [ew]; exact c54) c79)]), (ox.tr o75)⟩) dX0_wallsBy_90

set_option maxHeartbeats 800000 in
theorem tX0_wallsBy2 (l : Launch) (N : Nat) (ad : Nat → Nat) (K : gK) (I : mG) (R : gR) (cell : Nat) (v : Int32) (st : vV) (b : Bool) (h0 : wB N K I R st b) (h1 : cell < 16) : gA l yX0_wallsBy (ws_ yX0_wallsBy cX0_wallsBy 6 (some FieldType.int)) ({ frames := 5, cells := 0, slots := 0, locals := 125 } : Room) [.ref (ad 0), .int (nI cell), .int v, .int (nI 2)] N ad K I R (fun vv S => vv = some (.int (wb2V st cell v)) ∧ pOff 17 I S.1 R S.2) := by
  refine gM.of (by decide) (Nat.le_of_ble_eq_true rfl) ?_
  intro D dA p e s m args below meth cd ls hC hlk hr hin hK hX hl hw
  have hl : lv_has ls 6 [(0, .ref (ad 0)), (1, .int (nI cell)), (2, .int v), (3, .int (nI 2))] := hl
  have hge := h0.ge
  refine lv_iconst (v := (nI 0)) hC.1 hC.2.1 dX0_wallsBy_0 (by decide) ?_
  refine lv_istore (lv' := [(4, .int (nI 0)), (0, .ref (ad 0)), (1, .int (nI cell)), (2, .int v), (3, .int (nI 2))]) hC.1 hC.2.1 dX0_wallsBy_1 hl (by decide) rfl (fun ls hl => ?_)
  refine W.loop (fun ls a H locs => ∃ Ix Rx, lv_has ls 6 [(0, .ref (ad 0)), (1, .int (nI cell)), (2, .int v), (3, .int (nI 2)), (4, .int (nI a))] ∧ gw D dA (nA (List.range N) ad s.heap.size) s.heap (List.range N) ad K Ix Rx H locs ∧ (pOff 17 I Ix R Rx) ∧ (a ≤ 16) ∧ (fstP (wl3 st cell v) 16 0 = fstP (wl3 st cell v) (16 - a) a)) 3 (fun _ => []) (fun a => 16 - a) ?_ 0 ⟨_, _, hl.sub' [1, 2, 3, 4, 0] (by rfl), hw, pOff.rf, by omega, rfl⟩
  rintro ls a H locs ⟨Ix, Rx, hl, hw, ox, ha, hE⟩ ih3
  have wx := h0.off ox
  refine lv_iload hC.1 hC.2.1 dX0_wallsBy_3 (lv_at hl 4 rfl) ?_
  refine lv_bipush (v := (nI 16)) hC.1 hC.2.1 dX0_wallsBy_5 (by decide) ?_
  refine k_ge (tgt := 103) hC (by omega) (by omega) dX0_wallsBy_7 (by decide) (fun c7 => ?_) (fun c7 => ?_)
  · refine lv_ldc hC.1 hC.2.1 hC.2.2.2.1 (hC.2.2.2.2 _ q841) dX0_wallsBy_103 ?_
    exact M_iret hC hlk hw gGo.rf ⟨by simp only [gN]; omega, by simp only [gN]; omega⟩ hr rfl (⟨_, _, rfl, congrArg (fun z => some (Value.int z)) (by unfold wb2V; rw [fst_end hE (by omega)]), ox⟩) dX0_wallsBy_105
  · refine lv_iload_n hC.1 hC.2.1 dX0_wallsBy_10 rfl (lv_at hl 3 rfl) ?_
    refine lv_iconst (v := (nI 1)) hC.1 hC.2.1 dX0_wallsBy_11 (by decide) ?_
    refine k_ne (tgt := 20) hC (by decide) (by decide) dX0_wallsBy_12 (by decide) (fun c12 => ?_) (fun c12 => ?_)
    · refine lv_iload hC.1 hC.2.1 dX0_wallsBy_20 (lv_at hl 4 rfl) ?_
      refine lv_iconst (v := (nI 1)) hC.1 hC.2.1 dX0_wallsBy_22 (by decide) ?_
      refine k_add hC dX0_wallsBy_23 ?_
      refine lv_istore (lv' := [(5, .int (nI (a + 1))), (0, .ref (ad 0)), (1, .int (nI cell)), (2, .int v), (3, .int (nI 2)), (4, .int (nI a))]) hC.1 hC.2.1 dX0_wallsBy_24 hl (by decide) rfl (fun ls hl => ?_)
      refine W.loop (fun ls t H locs => ∃ Iy Ry, lv_has ls 6 [(0, .ref (ad 0)), (1, .int (nI cell)), (2, .int v), (3, .int (nI 2)), (4, .int (nI a)), (5, .int (nI (a + 1 + t)))] ∧ gw D dA (nA (List.range N) ad s.heap.size) s.heap (List.range N) ad K Iy Ry H locs ∧ (pOff 17 I Iy R Ry) ∧ (t ≤ 15 - a) ∧ (fstP (fun t => wl2 st cell v a (a + 1 + t)) (15 - a) 0 = fstP (fun t => wl2 st cell v a (a + 1 + t)) (15 - a - t) t)) 26 (fun _ => []) (fun t => 15 - a - t) ?_ 0 ⟨_, _, hl.sub' [1, 2, 3, 4, 5, 0] (by rfl), hw, ox, by omega, rfl⟩
      rintro ls t H locs ⟨Iy, Ry, hl, hw, oy, ht, hI⟩ ih26
      have wy := h0.off oy
      refine lv_iload hC.1 hC.2.1 dX0_wallsBy_26 (lv_at hl 5 rfl) ?_
      refine lv_iload_n hC.1 hC.2.1 dX0_wallsBy_28 rfl (lv_at hl 3 rfl) ?_
      refine lv_iconst (v := (nI 1)) hC.1 hC.2.1 dX0_wallsBy_29 (by decide) ?_
      refine k_ne (tgt := 40) hC (by decide) (by decide) dX0_wallsBy_30 (by decide) (fun c30 => ?_) (fun c30 => ?_)
      · refine lv_bipush (v := (nI 16)) hC.1 hC.2.1 dX0_wallsBy_40 (by decide) ?_
        refine k_ge (tgt := 97) hC (by omega) (by omega) dX0_wallsBy_42 (by decide) (fun c42 => ?_) (fun c42 => ?_)
        · refine k_iinc (k := 4) (d := 1) (lv' := [(4, .int (nI (a + 1))), (0, .ref (ad 0)), (1, .int (nI cell)), (2, .int v), (3, .int (nI 2)), (5, .int (nI (a + 1 + t)))]) hC dX0_wallsBy_97 hl rfl (by decide) (by decide) rfl (fun ls hl => ?_)
          refine lv_goto (tgt := 3) hC.1 hC.2.1 dX0_wallsBy_100 (by decide) ?_
          exact ih3 ls (a + 1) H locs ⟨_, _, hl.sub' [1, 2, 3, 4, 0] (by rfl), hw, oy, by omega, fst_next hE (by omega) (wl3_f (fst_end hI (by omega)))⟩ (by omega)
        · have ew := wy.ps.wk (c := a) (by omega)
          have ey := wy.ps.wk (c := a + 1 + t) (by omega)
          refine lv_aload_n hC.1 hC.2.1 dX0_wallsBy_45 rfl (lv_at hl 0 rfl) ?_
          refine x_ga hC hK hw (by omega) wy.k0 4 11 wy.r4 (by decide) rfl q206 rfl dX0_wallsBy_46 ?_
          refine lv_iload hC.1 hC.2.1 dX0_wallsBy_49 (lv_at hl 4 rfl) ?_
          refine g_calli (n := 1) (C := RX2) (T := TX2) hC hl.1 hK hX hw (wy.ps.1).1.1 (wy.ps.1).2.1.1 (by decide) rfl (tX2_has l (List.range N) ad K Iy Ry 11 a (wy.ps.1) (by omega)) (lw_V q713 q644 q645 q62 q646) rfl rfl (by decide +kernel) ⟨by decide, by decide⟩ rfl rfl (Nat.le_of_ble_eq_true rfl) dX0_wallsBy_51 ⟨Nat.zero_le _, Nat.zero_le _⟩ ?_
          rintro r_2 I2 R2 H locs ⟨hr2, hS2⟩ hw
          rw [hr2]
          replace hw := hw.eq (Prod.mk.inj hS2).1 (Prod.mk.inj hS2).2
          clear hS2
          refine k_bne (tgt := 91) hC dX0_wallsBy_54 (by decide) (fun c54 => ?_) (fun c54 => ?_)
          · refine k_iinc (k := 5) (d := 1) (lv' := [(5, .int (nI ((a + 1 + t) + 1))), (0, .ref (ad 0)), (1, .int (nI cell)), (2, .int v), (3, .int (nI 2)), (4, .int (nI a))]) hC dX0_wallsBy_91 hl rfl (by decide) (by decide) rfl (fun ls hl => ?_)
            refine lv_goto (tgt := 26) hC.1 hC.2.1 dX0_wallsBy_94 (by decide) ?_
            exact ih26 ls (t + 1) H locs ⟨_, _, hl.sub' [1, 2, 3, 4, 5, 0] (by rfl), hw, oy, by omega, fst_next hI (by omega) (wl2_f1 (by rw [ew]; exact c54))⟩ (by omega)
          · refine lv_aload_n hC.1 hC.2.1 dX0_wallsBy_57 rfl (lv_at hl 0 rfl) ?_
            refine x_ga hC hK hw (by omega) wy.k0 4 11 wy.r4 (by decide) rfl q206 rfl dX0_wallsBy_58 ?_
            refine lv_iload hC.1 hC.2.1 dX0_wallsBy_61 (lv_at hl 5 rfl) ?_
            refine g_calli (n := 1) (C := RX2) (T := TX2) hC hl.1 hK hX hw (wy.ps.1).1.1 (wy.ps.1).2.1.1 (by decide) rfl (tX2_has l (List.range N) ad K Iy Ry 11 (a + 1 + t) (wy.ps.1) (by omega)) (lw_V q713 q644 q645 q62 q646) rfl rfl (by decide +kernel) ⟨by decide, by decide⟩ rfl rfl (Nat.le_of_ble_eq_true rfl) dX0_wallsBy_63 ⟨Nat.zero_le _, Nat.zero_le _⟩ ?_
            rintro r_2 I2 R2 H locs ⟨hr2, hS2⟩ hw
            rw [hr2]
            replace hw := hw.eq (Prod.mk.inj hS2).1 (Prod.mk.inj hS2).2
            clear hS2
            refine k_bne (tgt := 91) hC dX0_wallsBy_66 (by decide) (fun c66 => ?_) (fun c66 => ?_)
            · refine k_iinc (k := 5) (d := 1) (lv' := [(5, .int (nI ((a + 1 + t) + 1))), (0, .ref (ad 0)), (1, .int (nI cell)), (2, .int v), (3, .int (nI 2)), (4, .int (nI a))]) hC dX0_wallsBy_91 hl rfl (by decide) (by decide) rfl (fun ls hl => ?_)
              refine lv_goto (tgt := 26) hC.1 hC.2.1 dX0_wallsBy_94 (by decide) ?_
              exact ih26 ls (t + 1) H locs ⟨_, _, hl.sub' [1, 2, 3, 4, 5, 0] (by rfl), hw, oy, by omega, fst_next hI (by omega) (wl2_f2 (by rw [ey]; exact c66))⟩ (by omega)
            · refine lv_aload_n hC.1 hC.2.1 dX0_wallsBy_69 rfl (lv_at hl 0 rfl) ?_
              refine lv_iload_n hC.1 hC.2.1 dX0_wallsBy_70 rfl (lv_at hl 1 rfl) ?_
              refine lv_iload hC.1 hC.2.1 dX0_wallsBy_71 (lv_at hl 4 rfl) ?_
              refine lv_iload hC.1 hC.2.1 dX0_wallsBy_73 (lv_at hl 5 rfl) ?_
              refine M_V (n := 3) (C := RX0) (T := TX0) hC hl.1 hK hX hw (by omega) wy.k0 (by decide) rfl (tX0_feltBy l N ad K Iy Ry cell a (a + 1 + t) st b (wy) (by omega) (by omega) (by omega)) (lw_V q907 q909 qs24 q60 q910) (by decide +kernel) ⟨by decide, by decide⟩ rfl rfl (Nat.le_of_ble_eq_true rfl) dX0_wallsBy_75 ⟨by simp only [gN]; omega, by simp only [gN]; omega⟩ ?_
              rintro _ N2 ad2 K2 I75 R75 H locs ⟨I3, R3, e3, rfl, o75⟩ hg hw
              cases e3
              dsimp only at o75
              have w75 := (wy).off o75
              refine lv_iload_n hC.1 hC.2.1 dX0_wallsBy_78 rfl (lv_at hl 2 rfl) ?_
              refine lv_icmp_lt (tgt := 91) hC.1 hC.2.1 dX0_wallsBy_79 (by decide) (fun c79 => ?_) (fun c79 => ?_)
              · refine k_iinc (k := 5) (d := 1) (lv' := [(5, .int (nI ((a + 1 + t) + 1))), (0, .ref (ad 0)), (1, .int (nI cell)), (2, .int v), (3, .int (nI 2)), (4, .int (nI a))]) hC dX0_wallsBy_91 hl rfl (by decide) (by decide) rfl (fun ls hl => ?_)
                refine lv_goto (tgt := 26) hC.1 hC.2.1 dX0_wallsBy_94 (by decide) ?_
                exact ih26 ls (t + 1) H locs ⟨_, _, hl.sub' [1, 2, 3, 4, 5, 0] (by rfl), hw, (oy.tr o75), by omega, fst_next hI (by omega) (wl2_f3' c79)⟩ (by omega)
              · refine lv_bipush (v := (nI 16)) hC.1 hC.2.1 dX0_wallsBy_82 (by decide) ?_
                refine lv_iload hC.1 hC.2.1 dX0_wallsBy_84 (lv_at hl 4 rfl) ?_
                refine k_mul hC dX0_wallsBy_86 ?_
                refine lv_iload hC.1 hC.2.1 dX0_wallsBy_87 (lv_at hl 5 rfl) ?_
                refine k_add hC dX0_wallsBy_89 ?_
                exact M_iret hC hlk hw gGo.rf ⟨by simp only [gN]; omega, by simp only [gN]; omega⟩ hr rfl (⟨_, _, rfl, congrArg (fun z => some (Value.int z)) (by have hz := fst_hit hI (by omega) (wl2_t' (by rw [ew]; exact c54) (by rw [ey]; exact c66) c79); unfold wb2V; rw [fst_hit hE (by omega) (wl3_t hz)]; show _ = nI (16 * a + (a + 1 + (wl2b st cell v a).getD 0)); rw [show wl2b st cell v a = some t from hz]; rfl), (oy.tr o75)⟩) dX0_wallsBy_90
      · exact absurd c30 (by decide)
    · exact absurd c12 (by decide)
