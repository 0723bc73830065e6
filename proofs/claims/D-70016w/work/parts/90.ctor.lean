/-! ===== constructors: Shelf, shelves, walls, WindCarver (by gen/w90.py) ===== -/
set_option maxHeartbeats 800000 in
theorem tX1_init (l : Launch) (N : Nat) (ad : Nat → Nat) (K : gK) (I : mG) (R : gR) (u : Nat) : gA l yX1_init (ws_ yX1_init cX1_init 1 none) ({ frames := 1, cells := 0, slots := 0, locals := 40 } : Room) [.ref (ad u)] N ad K I R (fun v S => v = none ∧ S = (I, R)) := by
  refine gM.of (by decide) (Nat.le_of_ble_eq_true rfl) ?_
  intro D dA p e s m args below meth cd ls hC hlk hr hin hK hX hl hw
  have hl : lv_has ls 1 [(0, .ref (ad u))] := hl
  refine lv_aload_n hC.1 hC.2.1 dX1_init_0 rfl (lv_at hl 0 rfl) ?_
  refine W.objInit hC.1 hC.2.1 hC.2.2.2.1 (hC.2.2.2.2 _ q108) (hC.2.2.2.2 _ q97) (hC.2.2.2.2 _ q98) rfl (hl.1.trans hC.2.2.1.symm) rfl dX1_init_1 (Nat.le_of_ble_eq_true rfl) (Nat.le_of_ble_eq_true rfl) ?_
  exact M_vret hC hlk hw gGo.rf ⟨by simp only [gN]; omega, by simp only [gN]; omega⟩ hr (⟨_, _, rfl, rfl, rfl⟩) dX1_init_4

def shI (N j Nx : Nat) (K : gK) (I0 I : mG) (R0 R : gR) : Prop := Nx = N + 1 + j ∧ K N = (30, 8) ∧ (∀ k, k < j → (K (N + 1 + k)).1 = 1 ∧ R N k = some (N + 1 + k) ∧ R (N + 1 + k) 0 = none) ∧ ∀ m, m < N → I m = I0 m ∧ R m = R0 m
theorem shI.z {N : Nat} {K : gK} {I : mG} {R : gR} : shI N 0 (N + 1) (va_up K N (30, 8)) I (va_up I N (fun _ => nI 0)) R (va_up R N (fun _ => none)) := ⟨rfl, va_up_self _ _ _, fun k hk => absurd hk (by omega), fun m hm => ⟨va_up_ne _ _ (by omega), va_up_ne _ _ (by omega)⟩⟩
theorem shI.s {N j Nx : Nat} {K : gK} {I0 I : mG} {R0 R : gR} (h : shI N j Nx K I0 I R0 R) : shI N (j + 1) (Nx + 1) (va_up K Nx (1, 0)) I0 (va_up I Nx (fun _ => nI 0)) R0 (r2 (va_up R Nx (fun _ => none)) N j (some Nx)) := by
  obtain ⟨h1, h2, h3, h4⟩ := h
  refine ⟨by omega, by rw [va_up_ne _ _ (by omega)]; exact h2, fun k hk => ?_, fun m hm => ⟨by rw [va_up_ne _ _ (by omega)]; exact (h4 m hm).1, ?_⟩⟩
  · by_cases e : k = j
    · subst e
      refine ⟨by rw [← h1, va_up_self], by rw [r2_ap, if_pos ⟨rfl, rfl⟩, h1], ?_⟩
      rw [r2_ap, if_neg (by omega), ← h1, va_up_self]
    · obtain ⟨z1, z2, z3⟩ := h3 k (by omega)
      refine ⟨by rw [va_up_ne _ _ (by omega)]; exact z1, ?_, ?_⟩
      · rw [r2_ap, if_neg (fun z => e z.2), va_up_ne _ _ (by omega)]; exact z2
      · rw [r2_ap, if_neg (by omega), va_up_ne _ _ (by omega)]; exact z3
  · have e : r2 (va_up R Nx (fun _ => none)) N j (some Nx) m = va_up R Nx (fun _ => none) m := va_up_ne _ _ (by omega)
    rw [e, va_up_ne _ _ (by omega)]
    exact (h4 m hm).2
def wlI (N j Nx : Nat) (K : gK) (I0 I : mG) (R0 R : gR) : Prop := Nx = N + 1 + j ∧ K N = (32, 16) ∧ (∀ k, k < j → (K (N + 1 + k)).1 = 4 ∧ R N k = some (N + 1 + k) ∧ I (N + 1 + k) 0 = nI k ∧ I (N + 1 + k) 1 = nI 99) ∧ ∀ m, m < N → I m = I0 m ∧ R m = R0 m
theorem wlI.z {N : Nat} {K : gK} {I : mG} {R : gR} : wlI N 0 (N + 1) (va_up K N (32, 16)) I (va_up I N (fun _ => nI 0)) R (va_up R N (fun _ => none)) := ⟨rfl, va_up_self _ _ _, fun k hk => absurd hk (by omega), fun m hm => ⟨va_up_ne _ _ (by omega), va_up_ne _ _ (by omega)⟩⟩
theorem wlI.s {N j Nx : Nat} {K : gK} {I0 I : mG} {R0 R : gR} (h : wlI N j Nx K I0 I R0 R) : wlI N (j + 1) (Nx + 1) (va_up K Nx (4, 0)) I0 (g2 (g2 (va_up I Nx (fun _ => nI 0)) Nx 0 (nI j)) Nx 1 (nI 99)) R0 (r2 (va_up R Nx (fun _ => none)) N j (some Nx)) := by
  obtain ⟨h1, h2, h3, h4⟩ := h
  have eI : ∀ m, m ≠ Nx → g2 (g2 (va_up I Nx (fun _ => nI 0)) Nx 0 (nI j)) Nx 1 (nI 99) m = I m := fun m hm => by rw [g2_ne _ _ _ hm, g2_ne _ _ _ hm, va_up_ne _ _ hm]
  refine ⟨by omega, by rw [va_up_ne _ _ (by omega)]; exact h2, fun k hk => ?_, fun m hm => ⟨by rw [eI m (by omega)]; exact (h4 m hm).1, ?_⟩⟩
  · by_cases e : k = j
    · subst e
      refine ⟨by rw [← h1, va_up_self], by rw [r2_ap, if_pos ⟨rfl, rfl⟩, h1], ?_, ?_⟩
      · rw [← h1, g2_ap, if_neg (by omega), g2_ap, if_pos ⟨rfl, rfl⟩]
      · rw [← h1, g2_ap, if_pos ⟨rfl, rfl⟩]
    · obtain ⟨z1, z2, z3, z4⟩ := h3 k (by omega)
      refine ⟨by rw [va_up_ne _ _ (by omega)]; exact z1, ?_, by rw [eI _ (by omega)]; exact z3, by rw [eI _ (by omega)]; exact z4⟩
      rw [r2_ap, if_neg (fun z => e z.2), va_up_ne _ _ (by omega)]; exact z2
  · have e : r2 (va_up R Nx (fun _ => none)) N j (some Nx) m = va_up R Nx (fun _ => none) m := va_up_ne _ _ (by omega)
    rw [e, va_up_ne _ _ (by omega)]
    exact (h4 m hm).2

set_option maxHeartbeats 800000 in
theorem tX0_shelves (l : Launch) (N : Nat) (ad : Nat → Nat) (K : gK) (I : mG) (R : gR) : gM l yX0_shelves (ws_ yX0_shelves cX0_shelves 2 (some (FieldType.array (FieldType.object "WindCarver$Shelf")))) ({ frames := 2, cells := 9, slots := 16, locals := 60 } : Room) [] N ad K I R (fun v S => v = some (.ref (S.2.1 N)) ∧ shI N 8 S.1 S.2.2.1 I S.2.2.2.1 R S.2.2.2.2) := by
  refine gM.of (by decide) (Nat.le_of_ble_eq_true rfl) ?_
  intro D dA p e s m args below meth cd ls hC hlk hr hin hK hX hl hw
  have hl : lv_has ls 2 [] := hl
  refine lv_bipush (v := (nI 8)) hC.1 hC.2.1 dX0_shelves_0 (by decide) ?_
  refine M_newq (N' := 8) hC hK hX hw q102 q103 0 rfl (by decide) (by decide) (by simp only [gN]; omega) (by simp only [gN]; omega) dX0_shelves_2 (fun ad2_1 H h2_1 hw => ?_)
  have g2_1 : gGo N ad K (N + 1, ad2_1, va_up K N (30, 8), va_up I N (fun _ => nI 0), va_up R N (fun _ => none)) := gGo_new (I1 := I) (R1 := R) gGo.rf h2_1
  refine lv_astore_n (lv' := [(0, .ref (ad2_1 N))]) hC.1 hC.2.1 dX0_shelves_5 rfl hl (by decide) rfl (fun ls hl => ?_)
  refine lv_iconst (v := (nI 0)) hC.1 hC.2.1 dX0_shelves_6 (by decide) ?_
  refine lv_istore_n (lv' := [(1, .int (nI 0)), (0, .ref (ad2_1 N))]) hC.1 hC.2.1 dX0_shelves_7 rfl hl (by decide) rfl (fun ls hl => ?_)
  refine W.loopC (fun ls j H locs => ∃ Nx adx Kx Ix Rx, lv_has ls 2 [(0, .ref (adx N)), (1, .int (nI j))] ∧ gw D dA (nA (List.range N) ad s.heap.size) s.heap (List.range Nx) adx Kx Ix Rx H locs ∧ (gGo N ad K (Nx, adx, Kx, Ix, Rx)) ∧ (shI N j Nx Kx I Ix R Rx) ∧ (j ≤ 8)) 8 (fun _ => []) (fun j => 8 - j) (fun j => 1 + j) (fun j => 8 + 1 * j) ?_ 0 ⟨_, _, _, _, _, hl.sub' [1, 0] (by rfl), hw, g2_1, shI.z, by omega⟩
  rintro ls j H locs ⟨Nx, adx, Kx, Ix, Rx, hl, hw, gx, hs, hj⟩ ih8
  have hNx := hs.1
  have hN1 := gx.1
  refine lv_iload_n hC.1 hC.2.1 dX0_shelves_8 rfl (lv_at hl 1 rfl) ?_
  refine lv_bipush (v := (nI 8)) hC.1 hC.2.1 dX0_shelves_9 (by decide) ?_
  refine k_ge (tgt := 30) hC (by omega) (by omega) dX0_shelves_11 (by decide) (fun c11 => ?_) (fun c11 => ?_)
  · have ej : j = 8 := by omega
    subst ej
    refine lv_aload_n hC.1 hC.2.1 dX0_shelves_30 rfl (lv_at hl 0 rfl) ?_
    exact M_aret hC hlk hw gx.to ⟨by simp only [gN]; omega, by simp only [gN]; omega⟩ hr (Or.inr ⟨_, rfl⟩) (Or.inr ⟨_, rfl⟩) (⟨rfl, hs⟩) dX0_shelves_31
  · refine lv_aload_n hC.1 hC.2.1 dX0_shelves_14 rfl (lv_at hl 0 rfl) ?_
    refine lv_iload_n hC.1 hC.2.1 dX0_shelves_15 rfl (lv_at hl 1 rfl) ?_
    refine M_new hC hK hw 1 (by decide) rfl in_X1 tyX1 tyX1_ok q102 q104 q61 (df_of (by decide +kernel)) (by simp only [gN]; omega) (by simp only [gN]; omega) dX0_shelves_16 (fun ad16_2 H h16_2 hw => ?_)
    have e16_2 : adx N = ad16_2 N := (h16_2 N (by omega)).symm
    rw [e16_2] at hl
    rw [e16_2]
    have g16_2 : gGo N ad K (Nx + 1, ad16_2, va_up Kx Nx (1, 0), va_up Ix Nx (fun _ => nI 0), va_up Rx Nx (fun _ => none)) := gGo_new (I1 := Ix) (R1 := Rx) gx.to h16_2
    refine lv_dup hC.1 hC.2.1 dX0_shelves_19 rfl ?_
    refine M_IN (n := 0) (n0 := Nx) hC hl.1 hK hX hw (tX1_init l (Nx + 1) ad16_2 (va_up Kx Nx (1, 0)) (va_up Ix Nx (fun _ => nI 0)) (va_up Rx Nx (fun _ => none)) Nx ) q105 q106 q61 q107 rfl (by decide +kernel) ⟨by decide, by decide⟩ rfl rfl (Nat.le_of_ble_eq_true rfl) dX0_shelves_20 ⟨by simp only [gN]; omega, by simp only [gN]; omega⟩ ?_
    rintro _ N2 ad2 K2 I2 R2 H locs ⟨I3, R3, e3, rfl, e4⟩ hg hw
    cases e3
    cases e4
    refine g_str (t := 0) hC hK hw (List.mem_range.mpr (by omega)) (show (va_up Kx Nx (1, 0)) N = (30 + 0, 8) by rw [va_up_ne _ _ (by omega)]; exact hs.2.1) rfl (by omega) (by omega) (List.mem_range.mpr (by omega)) (g_anyP hK hw RX1 (ci := 1) rfl (by decide) (List.mem_range.mpr (by omega)) (by rw [va_up_self])) dX0_shelves_23 (fun H locs hw => ?_)
    have hs2 := hs.s
    refine k_iinc (k := 1) (d := 1) (lv' := [(1, .int (nI (j + 1))), (0, .ref (ad16_2 N))]) hC dX0_shelves_24 hl rfl (by decide) (by decide) rfl (fun ls hl => ?_)
    refine lv_goto (tgt := 8) hC.1 hC.2.1 dX0_shelves_27 (by decide) ?_
    exact ih8 ls (j + 1) H locs ⟨_, _, _, _, _, hl.sub' [1, 0] (by rfl), hw, g16_2.to, hs2, by omega⟩ (by omega)

set_option maxHeartbeats 800000 in
theorem tX0_walls (l : Launch) (N : Nat) (ad : Nat → Nat) (K : gK) (I : mG) (R : gR) : gM l yX0_walls (ws_ yX0_walls cX0_walls 2 (some (FieldType.array (FieldType.object "WindCarver$Work")))) ({ frames := 3, cells := 17, slots := 48, locals := 84 } : Room) [] N ad K I R (fun v S => v = some (.ref (S.2.1 N)) ∧ wlI N 16 S.1 S.2.2.1 I S.2.2.2.1 R S.2.2.2.2) := by
  refine gM.of (by decide) (Nat.le_of_ble_eq_true rfl) ?_
  intro D dA p e s m args below meth cd ls hC hlk hr hin hK hX hl hw
  have hl : lv_has ls 2 [] := hl
  refine lv_bipush (v := (nI 16)) hC.1 hC.2.1 dX0_walls_0 (by decide) ?_
  refine M_newq (N' := 16) hC hK hX hw q185 q121 2 rfl (by decide) (by decide) (by simp only [gN]; omega) (by simp only [gN]; omega) dX0_walls_2 (fun ad2_1 H h2_1 hw => ?_)
  have g2_1 : gGo N ad K (N + 1, ad2_1, va_up K N (32, 16), va_up I N (fun _ => nI 0), va_up R N (fun _ => none)) := gGo_new (I1 := I) (R1 := R) gGo.rf h2_1
  refine lv_astore_n (lv' := [(0, .ref (ad2_1 N))]) hC.1 hC.2.1 dX0_walls_5 rfl hl (by decide) rfl (fun ls hl => ?_)
  refine lv_iconst (v := (nI 0)) hC.1 hC.2.1 dX0_walls_6 (by decide) ?_
  refine lv_istore_n (lv' := [(1, .int (nI 0)), (0, .ref (ad2_1 N))]) hC.1 hC.2.1 dX0_walls_7 rfl hl (by decide) rfl (fun ls hl => ?_)
  refine W.loopC (fun ls j H locs => ∃ Nx adx Kx Ix Rx, lv_has ls 2 [(0, .ref (adx N)), (1, .int (nI j))] ∧ gw D dA (nA (List.range N) ad s.heap.size) s.heap (List.range Nx) adx Kx Ix Rx H locs ∧ (gGo N ad K (Nx, adx, Kx, Ix, Rx)) ∧ (wlI N j Nx Kx I Ix R Rx) ∧ (j ≤ 16)) 8 (fun _ => []) (fun j => 16 - j) (fun j => 1 + j) (fun j => 16 + 2 * j) ?_ 0 ⟨_, _, _, _, _, hl.sub' [1, 0] (by rfl), hw, g2_1, wlI.z, by omega⟩
  rintro ls j H locs ⟨Nx, adx, Kx, Ix, Rx, hl, hw, gx, hs, hj⟩ ih8
  have hNx := hs.1
  have hN1 := gx.1
  refine lv_iload_n hC.1 hC.2.1 dX0_walls_8 rfl (lv_at hl 1 rfl) ?_
  refine lv_bipush (v := (nI 16)) hC.1 hC.2.1 dX0_walls_9 (by decide) ?_
  refine k_ge (tgt := 33) hC (by omega) (by omega) dX0_walls_11 (by decide) (fun c11 => ?_) (fun c11 => ?_)
  · have ej : j = 16 := by omega
    subst ej
    refine lv_aload_n hC.1 hC.2.1 dX0_walls_33 rfl (lv_at hl 0 rfl) ?_
    exact M_aret hC hlk hw gx.to ⟨by simp only [gN]; omega, by simp only [gN]; omega⟩ hr (Or.inr ⟨_, rfl⟩) (Or.inr ⟨_, rfl⟩) (⟨rfl, hs⟩) dX0_walls_34
  · refine lv_aload_n hC.1 hC.2.1 dX0_walls_14 rfl (lv_at hl 0 rfl) ?_
    refine lv_iload_n hC.1 hC.2.1 dX0_walls_15 rfl (lv_at hl 1 rfl) ?_
    refine M_new hC hK hw 4 (by decide) rfl in_X5 tyX5 tyX5_ok q186 q187 q65 (df_of (by decide +kernel)) (by simp only [gN]; omega) (by simp only [gN]; omega) dX0_walls_16 (fun ad16_2 H h16_2 hw => ?_)
    have e16_2 : adx N = ad16_2 N := (h16_2 N (by omega)).symm
    rw [e16_2] at hl
    rw [e16_2]
    have g16_2 : gGo N ad K (Nx + 1, ad16_2, va_up Kx Nx (4, 0), va_up Ix Nx (fun _ => nI 0), va_up Rx Nx (fun _ => none)) := gGo_new (I1 := Ix) (R1 := Rx) gx.to h16_2
    refine lv_dup hC.1 hC.2.1 dX0_walls_19 rfl ?_
    refine lv_iload_n hC.1 hC.2.1 dX0_walls_20 rfl (lv_at hl 1 rfl) ?_
    refine lv_bipush (v := (nI 99)) hC.1 hC.2.1 dX0_walls_21 (by decide) ?_
    refine M_I (n := 2) (n0 := Nx) hC hl.1 hK hX hw (tX5_init l (Nx + 1) ad16_2 (va_up Kx Nx (4, 0)) (va_up Ix Nx (fun _ => nI 0)) (va_up Rx Nx (fun _ => none)) Nx j (nI 99) 1 (by omega) (by rw [va_up_self]) (by decide)) q188 q189 q65 q190 rfl (by decide +kernel) ⟨by decide, by decide⟩ rfl rfl (Nat.le_of_ble_eq_true rfl) dX0_walls_23 ⟨by simp only [gN]; omega, by simp only [gN]; omega⟩ ?_
    rintro _ N2 ad2 K2 I2 R2 H locs ⟨I3, R3, e3, rfl, e4⟩ hg hw
    cases e3
    cases e4
    refine g_str (t := 2) hC hK hw (List.mem_range.mpr (by omega)) (show (va_up Kx Nx (4, 0)) N = (30 + 2, 16) by rw [va_up_ne _ _ (by omega)]; exact hs.2.1) rfl (by omega) (by omega) (List.mem_range.mpr (by omega)) (g_any (k := 1) hK hX hw (List.mem_range.mpr (by omega)) (by rw [va_up_self]) (by decide)) dX0_walls_26 (fun H locs hw => ?_)
    have hs2 := hs.s
    refine k_iinc (k := 1) (d := 1) (lv' := [(1, .int (nI (j + 1))), (0, .ref (ad16_2 N))]) hC dX0_walls_27 hl rfl (by decide) (by decide) rfl (fun ls hl => ?_)
    refine lv_goto (tgt := 8) hC.1 hC.2.1 dX0_walls_30 (by decide) ?_
    exact ih8 ls (j + 1) H locs ⟨_, _, _, _, _, hl.sub' [1, 0] (by rfl), hw, g16_2.to, hs2, by omega⟩ (by omega)

/-! the constructor: what is made, cell by cell -/
abbrev ag0 (N : Nat) (K : gK) (I : mG) (R : gR) (K' : gK) (I' : mG) (R' : gR) : Prop := agr (fun n => n = 0) N K I R K' I' R'
theorem ag0.tr {N N1 : Nat} {K K1 K2 : gK} {I I1 I2 : mG} {R R1 R2 : gR} (h : ag0 N K I R K1 I1 R1) (h2 : ag0 N1 K1 I1 R1 K2 I2 R2) (hN : N ≤ N1) : ag0 N K I R K2 I2 R2 := fun n hn => ⟨((h2 n (by omega)).1).trans (h n hn).1, fun hx => ⟨(((h2 n (by omega)).2 hx).1).trans ((h n hn).2 hx).1, (((h2 n (by omega)).2 hx).2).trans ((h n hn).2 hx).2⟩⟩
def c1 (K : gK) (R : gR) : Prop := K 1 = (30, 8) ∧ ∀ k, k < 8 → (K (2 + k)).1 = 1 ∧ R 1 k = some (2 + k) ∧ R (2 + k) 0 = none
def c3 (N : Nat) (K : gK) (I : mG) (R : gR) : Prop := psR (List.range N) K I R 11 zst ∧ I 11 0 = nI 0
def c5 (K : gK) (R : gR) : Prop := K 23 = (31, 24) ∧ ∀ k, R 23 k = none
def c6 (K : gK) (R : gR) : Prop := K 24 = (31, 2) ∧ ∀ k, R 24 k = none
def c7 (K : gK) (I : mG) (R : gR) : Prop := (K 25).1 = 3 ∧ R 25 0 = some 26 ∧ K 26 = (20, 16) ∧ I 25 1 = nI 0
def c8 (K : gK) (I : mG) (R : gR) : Prop := K 27 = (32, 16) ∧ ∀ c, c < 16 → R 27 c = some (28 + c) ∧ (K (28 + c)).1 = 4 ∧ I (28 + c) 0 = nI c ∧ I (28 + c) 1 = nI 99
section CT
variable {N N' : Nat} {K K' : gK} {I I' : mG} {R R' : gR}
theorem c1.f (h : c1 K R) (f : ag0 N K I R K' I' R') (hN : 10 ≤ N) : c1 K' R' := by
  refine ⟨by rw [(f 1 (by omega)).1]; exact h.1, fun k hk => ?_⟩
  rw [(f (2 + k) (by omega)).1, ((f 1 (by omega)).2 (by omega)).2, ((f (2 + k) (by omega)).2 (by omega)).2]
  exact h.2 k hk
theorem c3.f (h : c3 N K I R) (f : ag0 N K I R K' I' R') (h0 : (K 0).1 = 0) (hN : 17 ≤ N) (hNN : N ≤ N') : c3 N' K' I' R' := by
  refine ⟨h.1.ag hNN f.k (fun j hj => (f (11 + j) (by omega)).2 (by omega)) (fun w k hw hk k1 k5 => ((f w hw).2 (fun e => by subst e; rw [h0] at hk; omega)).1), ?_⟩
  rw [((f 11 (by omega)).2 (by omega)).1]
  exact h.2
theorem c4f (h : isPass (List.range N) K R 17) (f : ag0 N K I R K' I' R') (hN : 23 ≤ N) (hNN : N ≤ N') : isPass (List.range N') K' R' 17 := h.ag hNN f.k ((f 17 (by omega)).2 (by omega)).2
theorem c5.f (h : c5 K R) (f : ag0 N K I R K' I' R') (hN : 24 ≤ N) : c5 K' R' := ⟨by rw [(f 23 (by omega)).1]; exact h.1, by rw [((f 23 (by omega)).2 (by omega)).2]; exact h.2⟩
theorem c6.f (h : c6 K R) (f : ag0 N K I R K' I' R') (hN : 25 ≤ N) : c6 K' R' := ⟨by rw [(f 24 (by omega)).1]; exact h.1, by rw [((f 24 (by omega)).2 (by omega)).2]; exact h.2⟩
theorem c7.f (h : c7 K I R) (f : ag0 N K I R K' I' R') (hN : 27 ≤ N) : c7 K' I' R' := ⟨by rw [(f 25 (by omega)).1]; exact h.1, by rw [((f 25 (by omega)).2 (by omega)).2]; exact h.2.1, by rw [(f 26 (by omega)).1]; exact h.2.2.1, by rw [((f 25 (by omega)).2 (by omega)).1]; exact h.2.2.2⟩
theorem c8.f (h : c8 K I R) (f : ag0 N K I R K' I' R') (hN : 44 ≤ N) : c8 K' I' R' := ⟨by rw [(f 27 (by omega)).1]; exact h.1, fun c hc => by rw [(f (28 + c) (by omega)).1, ((f 27 (by omega)).2 (by omega)).2, ((f (28 + c) (by omega)).2 (by omega)).1]; exact h.2 c hc⟩
theorem ag0.put {k : Nat} {y : Option Nat} : ag0 N K I R K I (r2 R 0 k y) := fun n _ => ⟨rfl, fun hx => ⟨rfl, va_up_ne _ _ hx⟩⟩
theorem ag0.new {kd : Nat × Nat} : ag0 N K I R (va_up K N kd) (va_up I N (fun _ => nI 0)) (va_up R N (fun _ => none)) := fun n hn => ⟨va_up_ne _ _ (by omega), fun _ => ⟨va_up_ne _ _ (by omega), va_up_ne _ _ (by omega)⟩⟩
end CT
theorem wcR.made {K : gK} {I : mG} {R : gR} (h0 : (K 0).1 = 0) (hI : ∀ k, I 0 k = nI 0) (r0 : R 0 0 = some 1) (r1 : R 0 1 = some 10) (r4 : R 0 4 = some 11) (r5 : R 0 5 = some 17) (r6 : R 0 6 = some 23) (r8 : R 0 8 = some 24) (r9 : R 0 9 = some 25) (r11 : R 0 11 = some 27) (d1 : c1 K R) (d2 : K 10 = (21, 120)) (d3 : c3 44 K I R) (d4 : isPass (List.range 44) K R 17) (d5 : c5 K R) (d6 : c6 K R) (d7 : c7 K I R) (d8 : c8 K I R) : wcR 44 K I R mGi false := by
  have hpl : ∀ i p, i < 28 → plc R i = some p → (i = 0 ∧ p = 11) ∨ (i = 1 ∧ p = 17) := by
    intro i p hi hp
    by_cases e0 : i = 0
    · subst e0; cases hp; exact Or.inl ⟨rfl, rfl⟩
    by_cases e1 : i = 1
    · subst e1; cases hp; exact Or.inr ⟨rfl, rfl⟩
    by_cases e2 : i < 26
    · obtain ⟨k, rfl⟩ : ∃ k, i = 2 + k := ⟨i - 2, by omega⟩
      rw [plc_p (by omega), d5.2] at hp
      cases hp
    · obtain ⟨k, rfl⟩ : ∃ k, i = 26 + k := ⟨i - 26, by omega⟩
      rw [plc_i, d6.2] at hp
      cases hp
  have hsep : ∀ a, 23 ≤ a → sep R a := fun a ha i p hi hp => by rcases hpl i p hi hp with ⟨-, rfl⟩ | ⟨-, rfl⟩ <;> omega
  refine ⟨⟨by decide, h0, ⟨r4, r5, r11⟩, d8, ⟨d1.1, d2, d5.1, d6.1⟩, ⟨r0, r1, r6, r8⟩, fun k hk => ⟨(d1.2 k hk).2.1, (d1.2 k hk).1⟩⟩, ⟨fun i p hi hp => ?_, fun i j p hi hj hp hq => ?_⟩, ⟨d3.1, d3.2, rfl, ⟨fun y hy => ⟨⟨0, by decide, rfl⟩, ⟨0, by decide, rfl⟩⟩, 0, by decide, rfl⟩⟩, ⟨0, by decide, hI 7, rfl, fun h => absurd h (by decide), fun k hk => absurd hk (by omega)⟩, fun k hk => Or.inl ⟨d6.2 k, rfl⟩, ⟨fun k hk => Or.inl ⟨(d1.2 k hk).2.2, rfl⟩, fun j k a hj hk h1 h2 => by rw [(d1.2 j hj).2.2] at h1; cases h1⟩, ⟨25, 26, 0, r9, by decide, by decide, d7.1, d7.2.1, by decide, by decide, d7.2.2.1, by decide, d7.2.2.2, rfl, fun i hi => absurd hi (by omega), hsep 26 (by decide), fun k hk => by rw [(d1.2 k hk).2.2]; exact fun h => by cases h⟩, ⟨hI 2, hI 3, hI 10, 0, by decide, rfl, fun i hi => absurd hi (by omega)⟩⟩
  · rcases hpl i p hi hp with ⟨rfl, rfl⟩ | ⟨rfl, rfl⟩
    · exact ⟨d3.1.1, fun h => absurd h (by decide)⟩
    · exact ⟨d4, fun h => absurd h (by decide)⟩
  · rcases hpl i p hi hp with ⟨rfl, rfl⟩ | ⟨rfl, rfl⟩ <;> rcases hpl j _ hj hq with ⟨rfl, h⟩ | ⟨rfl, h⟩ <;> first | rfl | exact absurd h (by decide)

set_option maxHeartbeats 1600000 in
theorem tX0_init (l : Launch) (ad : Nat → Nat) (K : gK) (I : mG) (R : gR) (h0 : (K 0).1 = 0) (h1 : I 0 = fun _ => nI 0) (h2 : R 0 = fun _ => none) : gM l yX0_init (ws_ yX0_init cX0_init 1 none) ({ frames := 4, cells := 43, slots := 334, locals := 105 } : Room) [.ref (ad 0)] 1 ad K I R (fun v S => v = none ∧ S.1 = 44 ∧ wcR 44 S.2.2.1 S.2.2.2.1 S.2.2.2.2 mGi false) := by
  refine gM.of (by decide) (Nat.le_of_ble_eq_true rfl) ?_
  intro D dA p e s m args below meth cd ls hC hlk hr hin hK hX hl hw
  have hl : lv_has ls 1 [(0, .ref (ad 0))] := hl
  have hI0 : ∀ k, I 0 k = nI 0 := fun k => by rw [h1]
  refine lv_aload_n hC.1 hC.2.1 dX0_init_0 rfl (lv_at hl 0 rfl) ?_
  refine W.objInit hC.1 hC.2.1 hC.2.2.2.1 (hC.2.2.2.2 _ q96) (hC.2.2.2.2 _ q97) (hC.2.2.2.2 _ q98) rfl (hl.1.trans hC.2.2.1.symm) rfl dX0_init_1 (Nat.le_of_ble_eq_true rfl) (Nat.le_of_ble_eq_true rfl) ?_
  have kz : (K 0).1 = 0 := h0
  refine lv_aload_n hC.1 hC.2.1 dX0_init_4 rfl (lv_at hl 0 rfl) ?_
  refine M_S (n := 0) hC hl.1 hK hX hw (tX0_shelves l 1 ad K I R) (lw_S q99 q100 q60 q101) (by decide +kernel) ⟨by decide, by decide⟩ rfl rfl (Nat.le_of_ble_eq_true rfl) dX0_init_5 ⟨by decide, by decide⟩ ?_
  rintro _ N1 ad1 K1 I1 R1 H locs ⟨rfl, eN, s1, s2, s3⟩ hg1 hw
  dsimp only at eN s1 s2 s3
  have eN : N1 = 10 := eN
  subst eN
  have f1 : ag0 1 K I R K1 I1 R1 := fun n hn => ⟨(hg1.2 n hn).2, fun _ => s3 n hn⟩
  have i1 : I1 0 = I 0 := (s3 0 (by decide)).1
  have ea : ad 0 = ad1 0 := (hg1.2 0 (by decide)).1.symm
  rw [ea] at hl
  rw [ea]
  have kz : (K1 0).1 = 0 := by rw [(f1 0 (by omega)).1]; exact kz
  have hI1 : ∀ k, I1 0 k = nI 0 := fun k => by rw [i1]; exact hI0 k
  have d1 : c1 K1 R1 := ⟨s1, fun k hk => by obtain ⟨z1, z2, z3⟩ := s2 k hk; exact ⟨z1, z2, z3⟩⟩
  refine g_putrF (ci := 0) (C := RX0) (T := TX0) (ref := RX0) (y := some 1) hC hK hw (List.mem_range.mpr (by decide)) kz (by decide) rfl in_X0 tyX0 tyX0_ok nmX0 0 (by decide) rfl q202 (fun x h => h) rfl hin rfl (fun j h => by cases h; exact List.mem_range.mpr (by decide)) rfl rfl rfl rfl dX0_init_8 (fun H locs hw => ?_)
  obtain ⟨Rp2, eRp2⟩ : ∃ z, z = r2 R1 0 0 (some 1) := ⟨_, rfl⟩
  rw [← eRp2] at hw
  have f2 : ag0 10 K1 I1 R1 K1 I1 Rp2 := by rw [eRp2]; exact ag0.put
  replace d1 := d1.f f2 (by decide)
  have z0_2 : Rp2 0 0 = some 1 := by rw [eRp2, r2_ap, if_pos ⟨rfl, rfl⟩]
  refine lv_aload_n hC.1 hC.2.1 dX0_init_11 rfl (lv_at hl 0 rfl) ?_
  refine lv_bipush (v := nI 120) hC.1 hC.2.1 dX0_init_12 (by decide) ?_
  refine M_newa (atype := .byte) (ty := .byte) (N' := 120) hC hK hw rfl q164 1 (by decide) rfl (fun c h => h) rfl (by decide) (by decide) (by decide) (by decide) dX0_init_14 (fun ad3 H h3 hw => ?_)
  obtain ⟨Kn3, eKn3⟩ : ∃ z, z = va_up K1 10 (21, 120) := ⟨_, rfl⟩
  obtain ⟨In3, eIn3⟩ : ∃ z, z = va_up I1 10 (fun _ => nI 0) := ⟨_, rfl⟩
  obtain ⟨Rn3, eRn3⟩ : ∃ z, z = va_up Rp2 10 (fun _ => none) := ⟨_, rfl⟩
  rw [← eKn3, ← eIn3, ← eRn3] at hw
  have f3 : ag0 10 K1 I1 Rp2 Kn3 In3 Rn3 := by rw [eKn3, eIn3, eRn3]; exact ag0.new
  have i3 : In3 0 = I1 0 := by rw [eIn3, va_up_ne _ _ (by decide)]
  have kr3 : Rn3 0 = Rp2 0 := by rw [eRn3, va_up_ne _ _ (by decide)]
  have g3 : gGo 1 ad K (10 + 1, ad3, Kn3, In3, Rn3) := by rw [eKn3, eIn3, eRn3]; exact gGo_new (I1 := I1) (R1 := Rp2) hg1.to h3
  have ea3 : ad1 0 = ad3 0 := (h3 0 (by decide)).symm
  rw [ea3] at hl
  rw [ea3]
  replace d1 := d1.f f3 (by decide)
  have z0_3 : Rn3 0 0 = some 1 := (congrFun kr3 _).trans z0_2
  have kN3 : Kn3 10 = (21, 120) := by rw [eKn3, va_up_self]
  have iN3 : In3 10 = fun _ => nI 0 := by rw [eIn3, va_up_self]
  have rN3 : Rn3 10 = fun _ => none := by rw [eRn3, va_up_self]
  have kz : (Kn3 0).1 = 0 := by rw [(f3 0 (by omega)).1]; exact kz
  have hI3 : ∀ k, In3 0 k = nI 0 := fun k => by rw [i3]; exact hI1 k
  have d2 : Kn3 10 = (21, 120) := kN3
  refine g_putrF (ci := 0) (C := RX0) (T := TX0) (ref := RX0) (y := some 10) hC hK hw (List.mem_range.mpr (by decide)) kz (by decide) rfl in_X0 tyX0 tyX0_ok nmX0 1 (by decide) rfl q203 (fun x h => h) rfl hin rfl (fun j h => by cases h; exact List.mem_range.mpr (by decide)) rfl rfl rfl rfl dX0_init_16 (fun H locs hw => ?_)
  obtain ⟨Rp4, eRp4⟩ : ∃ z, z = r2 Rn3 0 1 (some 10) := ⟨_, rfl⟩
  rw [← eRp4] at hw
  have f4 : ag0 11 Kn3 In3 Rn3 Kn3 In3 Rp4 := by rw [eRp4]; exact ag0.put
  replace d1 := d1.f f4 (by decide)
  replace d2 := ((f4 10 (by decide)).1).trans d2
  have z0_4 : Rp4 0 0 = some 1 := by rw [eRp4, r2_ap, if_neg (by decide)]; exact z0_3
  have z1_4 : Rp4 0 1 = some 10 := by rw [eRp4, r2_ap, if_pos ⟨rfl, rfl⟩]
  refine lv_aload_n hC.1 hC.2.1 dX0_init_19 rfl (lv_at hl 0 rfl) ?_
  refine M_new hC hK hw 2 (by decide) rfl in_X2 tyX2 tyX2_ok q114 q115 q62 (df_of (by decide +kernel)) (by decide) (by decide) dX0_init_20 (fun ad5 H h5 hw => ?_)
  obtain ⟨Kn5, eKn5⟩ : ∃ z, z = va_up Kn3 11 (2, 0) := ⟨_, rfl⟩
  obtain ⟨In5, eIn5⟩ : ∃ z, z = va_up In3 11 (fun _ => nI 0) := ⟨_, rfl⟩
  obtain ⟨Rn5, eRn5⟩ : ∃ z, z = va_up Rp4 11 (fun _ => none) := ⟨_, rfl⟩
  rw [← eKn5, ← eIn5, ← eRn5] at hw
  have f5 : ag0 11 Kn3 In3 Rp4 Kn5 In5 Rn5 := by rw [eKn5, eIn5, eRn5]; exact ag0.new
  have i5 : In5 0 = In3 0 := by rw [eIn5, va_up_ne _ _ (by decide)]
  have kr5 : Rn5 0 = Rp4 0 := by rw [eRn5, va_up_ne _ _ (by decide)]
  have g5 : gGo 1 ad K (11 + 1, ad5, Kn5, In5, Rn5) := by rw [eKn5, eIn5, eRn5]; exact gGo_new (I1 := In3) (R1 := Rp4) g3.to h5
  have ea5 : ad3 0 = ad5 0 := (h5 0 (by decide)).symm
  rw [ea5] at hl
  rw [ea5]
  replace d1 := d1.f f5 (by decide)
  replace d2 := ((f5 10 (by decide)).1).trans d2
  have z0_5 : Rn5 0 0 = some 1 := (congrFun kr5 _).trans z0_4
  have z1_5 : Rn5 0 1 = some 10 := (congrFun kr5 _).trans z1_4
  have kN5 : Kn5 11 = (2, 0) := by rw [eKn5, va_up_self]
  have iN5 : In5 11 = fun _ => nI 0 := by rw [eIn5, va_up_self]
  have rN5 : Rn5 11 = fun _ => none := by rw [eRn5, va_up_self]
  have kz : (Kn5 0).1 = 0 := by rw [(f5 0 (by omega)).1]; exact kz
  have hI5 : ∀ k, In5 0 k = nI 0 := fun k => by rw [i5]; exact hI3 k
  refine lv_dup hC.1 hC.2.1 dX0_init_23 rfl ?_
  refine M_IN (n := 0) (n0 := 11) hC hl.1 hK hX hw (tX2_init l 12 ad5 Kn5 In5 Rn5 11 rfl (by rw [kN5]) iN5 rN5) q116 q117 q62 q118 rfl (by decide +kernel) ⟨by decide, by decide⟩ rfl rfl (Nat.le_of_ble_eq_true rfl) dX0_init_24 ⟨by decide, by decide⟩ ?_
  rintro _ Nq ad6 K6 I6 R6 H locs ⟨rfl, eN, p6, t6, o6⟩ hg6 hw
  dsimp only at eN p6 t6 o6
  have eN : Nq = 17 := eN
  subst eN
  have f6 : ag0 11 Kn5 In5 Rn5 K6 I6 R6 := fun n hn => ⟨(hg6.2 n (by omega)).2, fun _ => o6 n hn⟩
  have g6 := gGo.tr g5 hg6
  have ea6 : ad5 0 = ad6 0 := (hg6.2 0 (by decide)).1.symm
  have eb6 : ad5 11 = ad6 11 := (hg6.2 11 (by decide)).1.symm
  rw [ea6] at hl
  rw [ea6, eb6]
  have i6 : I6 0 = In5 0 := (o6 0 (by decide)).1
  replace d1 := d1.f f6 (by decide)
  replace d2 := ((f6 10 (by decide)).1).trans d2
  have z0_6 : R6 0 0 = some 1 := (congrFun (o6 0 (by decide)).2 _).trans z0_5
  have z1_6 : R6 0 1 = some 10 := (congrFun (o6 0 (by decide)).2 _).trans z1_5
  have kz : (K6 0).1 = 0 := by rw [(f6 0 (by omega)).1]; exact kz
  have hI6 : ∀ k, I6 0 k = nI 0 := fun k => by rw [i6]; exact hI5 k
  have d3 : c3 17 K6 I6 R6 := ⟨p6, t6⟩
  refine g_putrF (ci := 0) (C := RX0) (T := TX0) (ref := RX0) (y := some 11) hC hK hw (List.mem_range.mpr (by decide)) kz (by decide) rfl in_X0 tyX0 tyX0_ok nmX0 4 (by decide) rfl q206 (fun x h => h) rfl hin rfl (fun j h => by cases h; exact List.mem_range.mpr (by decide)) rfl rfl rfl rfl dX0_init_27 (fun H locs hw => ?_)
  obtain ⟨Rp7, eRp7⟩ : ∃ z, z = r2 R6 0 4 (some 11) := ⟨_, rfl⟩
  rw [← eRp7] at hw
  have f7 : ag0 17 K6 I6 R6 K6 I6 Rp7 := by rw [eRp7]; exact ag0.put
  replace d1 := d1.f f7 (by decide)
  replace d2 := ((f7 10 (by decide)).1).trans d2
  replace d3 := c3.f (N := 17) (N' := 17) d3 (fun n hn => f7 n (by omega)) kz (by decide) (by decide)
  have z0_7 : Rp7 0 0 = some 1 := by rw [eRp7, r2_ap, if_neg (by decide)]; exact z0_6
  have z1_7 : Rp7 0 1 = some 10 := by rw [eRp7, r2_ap, if_neg (by decide)]; exact z1_6
  have z4_7 : Rp7 0 4 = some 11 := by rw [eRp7, r2_ap, if_pos ⟨rfl, rfl⟩]
  refine lv_aload_n hC.1 hC.2.1 dX0_init_30 rfl (lv_at hl 0 rfl) ?_
  refine M_new hC hK hw 2 (by decide) rfl in_X2 tyX2 tyX2_ok q114 q115 q62 (df_of (by decide +kernel)) (by decide) (by decide) dX0_init_31 (fun ad8 H h8 hw => ?_)
  obtain ⟨Kn8, eKn8⟩ : ∃ z, z = va_up K6 17 (2, 0) := ⟨_, rfl⟩
  obtain ⟨In8, eIn8⟩ : ∃ z, z = va_up I6 17 (fun _ => nI 0) := ⟨_, rfl⟩
  obtain ⟨Rn8, eRn8⟩ : ∃ z, z = va_up Rp7 17 (fun _ => none) := ⟨_, rfl⟩
  rw [← eKn8, ← eIn8, ← eRn8] at hw
  have f8 : ag0 17 K6 I6 Rp7 Kn8 In8 Rn8 := by rw [eKn8, eIn8, eRn8]; exact ag0.new
  have i8 : In8 0 = I6 0 := by rw [eIn8, va_up_ne _ _ (by decide)]
  have kr8 : Rn8 0 = Rp7 0 := by rw [eRn8, va_up_ne _ _ (by decide)]
  have g8 : gGo 1 ad K (17 + 1, ad8, Kn8, In8, Rn8) := by rw [eKn8, eIn8, eRn8]; exact gGo_new (I1 := I6) (R1 := Rp7) g6.to h8
  have ea8 : ad6 0 = ad8 0 := (h8 0 (by decide)).symm
  rw [ea8] at hl
  rw [ea8]
  replace d1 := d1.f f8 (by decide)
  replace d2 := ((f8 10 (by decide)).1).trans d2
  replace d3 := c3.f (N := 17) (N' := 17) d3 (fun n hn => f8 n (by omega)) kz (by decide) (by decide)
  have z0_8 : Rn8 0 0 = some 1 := (congrFun kr8 _).trans z0_7
  have z1_8 : Rn8 0 1 = some 10 := (congrFun kr8 _).trans z1_7
  have z4_8 : Rn8 0 4 = some 11 := (congrFun kr8 _).trans z4_7
  have kN8 : Kn8 17 = (2, 0) := by rw [eKn8, va_up_self]
  have iN8 : In8 17 = fun _ => nI 0 := by rw [eIn8, va_up_self]
  have rN8 : Rn8 17 = fun _ => none := by rw [eRn8, va_up_self]
  have kz : (Kn8 0).1 = 0 := by rw [(f8 0 (by omega)).1]; exact kz
  have hI8 : ∀ k, In8 0 k = nI 0 := fun k => by rw [i8]; exact hI6 k
  refine lv_dup hC.1 hC.2.1 dX0_init_34 rfl ?_
  refine M_IN (n := 0) (n0 := 17) hC hl.1 hK hX hw (tX2_init l 18 ad8 Kn8 In8 Rn8 17 rfl (by rw [kN8]) iN8 rN8) q116 q117 q62 q118 rfl (by decide +kernel) ⟨by decide, by decide⟩ rfl rfl (Nat.le_of_ble_eq_true rfl) dX0_init_35 ⟨by decide, by decide⟩ ?_
  rintro _ Nq ad9 K9 I9 R9 H locs ⟨rfl, eN, p9, t9, o9⟩ hg9 hw
  dsimp only at eN p9 t9 o9
  have eN : Nq = 23 := eN
  subst eN
  have f9 : ag0 17 Kn8 In8 Rn8 K9 I9 R9 := fun n hn => ⟨(hg9.2 n (by omega)).2, fun _ => o9 n hn⟩
  have g9 := gGo.tr g8 hg9
  have ea9 : ad8 0 = ad9 0 := (hg9.2 0 (by decide)).1.symm
  have eb9 : ad8 17 = ad9 17 := (hg9.2 17 (by decide)).1.symm
  rw [ea9] at hl
  rw [ea9, eb9]
  have i9 : I9 0 = In8 0 := (o9 0 (by decide)).1
  replace d1 := d1.f f9 (by decide)
  replace d2 := ((f9 10 (by decide)).1).trans d2
  replace d3 := c3.f (N := 17) (N' := 17) d3 (fun n hn => f9 n (by omega)) kz (by decide) (by decide)
  have z0_9 : R9 0 0 = some 1 := (congrFun (o9 0 (by decide)).2 _).trans z0_8
  have z1_9 : R9 0 1 = some 10 := (congrFun (o9 0 (by decide)).2 _).trans z1_8
  have z4_9 : R9 0 4 = some 11 := (congrFun (o9 0 (by decide)).2 _).trans z4_8
  have kz : (K9 0).1 = 0 := by rw [(f9 0 (by omega)).1]; exact kz
  have hI9 : ∀ k, I9 0 k = nI 0 := fun k => by rw [i9]; exact hI8 k
  have d4 : isPass (List.range 23) K9 R9 17 := p9.1
  refine g_putrF (ci := 0) (C := RX0) (T := TX0) (ref := RX0) (y := some 17) hC hK hw (List.mem_range.mpr (by decide)) kz (by decide) rfl in_X0 tyX0 tyX0_ok nmX0 5 (by decide) rfl q207 (fun x h => h) rfl hin rfl (fun j h => by cases h; exact List.mem_range.mpr (by decide)) rfl rfl rfl rfl dX0_init_38 (fun H locs hw => ?_)
  obtain ⟨Rp10, eRp10⟩ : ∃ z, z = r2 R9 0 5 (some 17) := ⟨_, rfl⟩
  rw [← eRp10] at hw
  have f10 : ag0 23 K9 I9 R9 K9 I9 Rp10 := by rw [eRp10]; exact ag0.put
  replace d1 := d1.f f10 (by decide)
  replace d2 := ((f10 10 (by decide)).1).trans d2
  replace d3 := c3.f (N := 17) (N' := 17) d3 (fun n hn => f10 n (by omega)) kz (by decide) (by decide)
  replace d4 := c4f (N := 23) (N' := 23) d4 (fun n hn => f10 n (by omega)) (by decide) (by decide)
  have z0_10 : Rp10 0 0 = some 1 := by rw [eRp10, r2_ap, if_neg (by decide)]; exact z0_9
  have z1_10 : Rp10 0 1 = some 10 := by rw [eRp10, r2_ap, if_neg (by decide)]; exact z1_9
  have z4_10 : Rp10 0 4 = some 11 := by rw [eRp10, r2_ap, if_neg (by decide)]; exact z4_9
  have z5_10 : Rp10 0 5 = some 17 := by rw [eRp10, r2_ap, if_pos ⟨rfl, rfl⟩]
  refine lv_aload_n hC.1 hC.2.1 dX0_init_41 rfl (lv_at hl 0 rfl) ?_
  refine lv_bipush (v := nI 24) hC.1 hC.2.1 dX0_init_42 (by decide) ?_
  refine M_newq (N' := 24) hC hK hX hw q114 q166 1 rfl (by decide) (by decide) (by decide) (by decide) dX0_init_44 (fun ad11 H h11 hw => ?_)
  obtain ⟨Kn11, eKn11⟩ : ∃ z, z = va_up K9 23 (31, 24) := ⟨_, rfl⟩
  obtain ⟨In11, eIn11⟩ : ∃ z, z = va_up I9 23 (fun _ => nI 0) := ⟨_, rfl⟩
  obtain ⟨Rn11, eRn11⟩ : ∃ z, z = va_up Rp10 23 (fun _ => none) := ⟨_, rfl⟩
  rw [← eKn11, ← eIn11, ← eRn11] at hw
  have f11 : ag0 23 K9 I9 Rp10 Kn11 In11 Rn11 := by rw [eKn11, eIn11, eRn11]; exact ag0.new
  have i11 : In11 0 = I9 0 := by rw [eIn11, va_up_ne _ _ (by decide)]
  have kr11 : Rn11 0 = Rp10 0 := by rw [eRn11, va_up_ne _ _ (by decide)]
  have g11 : gGo 1 ad K (23 + 1, ad11, Kn11, In11, Rn11) := by rw [eKn11, eIn11, eRn11]; exact gGo_new (I1 := I9) (R1 := Rp10) g9.to h11
  have ea11 : ad9 0 = ad11 0 := (h11 0 (by decide)).symm
  rw [ea11] at hl
  rw [ea11]
  replace d1 := d1.f f11 (by decide)
  replace d2 := ((f11 10 (by decide)).1).trans d2
  replace d3 := c3.f (N := 17) (N' := 17) d3 (fun n hn => f11 n (by omega)) kz (by decide) (by decide)
  replace d4 := c4f (N := 23) (N' := 23) d4 (fun n hn => f11 n (by omega)) (by decide) (by decide)
  have z0_11 : Rn11 0 0 = some 1 := (congrFun kr11 _).trans z0_10
  have z1_11 : Rn11 0 1 = some 10 := (congrFun kr11 _).trans z1_10
  have z4_11 : Rn11 0 4 = some 11 := (congrFun kr11 _).trans z4_10
  have z5_11 : Rn11 0 5 = some 17 := (congrFun kr11 _).trans z5_10
  have kN11 : Kn11 23 = (31, 24) := by rw [eKn11, va_up_self]
  have iN11 : In11 23 = fun _ => nI 0 := by rw [eIn11, va_up_self]
  have rN11 : Rn11 23 = fun _ => none := by rw [eRn11, va_up_self]
  have kz : (Kn11 0).1 = 0 := by rw [(f11 0 (by omega)).1]; exact kz
  have hI11 : ∀ k, In11 0 k = nI 0 := fun k => by rw [i11]; exact hI9 k
  have d5 : c5 Kn11 Rn11 := ⟨kN11, fun k => by rw [rN11]⟩
  refine g_putrF (ci := 0) (C := RX0) (T := TX0) (ref := RX0) (y := some 23) hC hK hw (List.mem_range.mpr (by decide)) kz (by decide) rfl in_X0 tyX0 tyX0_ok nmX0 6 (by decide) rfl q208 (fun x h => h) rfl hin rfl (fun j h => by cases h; exact List.mem_range.mpr (by decide)) rfl rfl rfl rfl dX0_init_47 (fun H locs hw => ?_)
  obtain ⟨Rp12, eRp12⟩ : ∃ z, z = r2 Rn11 0 6 (some 23) := ⟨_, rfl⟩
  rw [← eRp12] at hw
  have f12 : ag0 24 Kn11 In11 Rn11 Kn11 In11 Rp12 := by rw [eRp12]; exact ag0.put
  replace d1 := d1.f f12 (by decide)
  replace d2 := ((f12 10 (by decide)).1).trans d2
  replace d3 := c3.f (N := 17) (N' := 17) d3 (fun n hn => f12 n (by omega)) kz (by decide) (by decide)
  replace d4 := c4f (N := 23) (N' := 23) d4 (fun n hn => f12 n (by omega)) (by decide) (by decide)
  replace d5 := d5.f f12 (by decide)
  have z0_12 : Rp12 0 0 = some 1 := by rw [eRp12, r2_ap, if_neg (by decide)]; exact z0_11
  have z1_12 : Rp12 0 1 = some 10 := by rw [eRp12, r2_ap, if_neg (by decide)]; exact z1_11
  have z4_12 : Rp12 0 4 = some 11 := by rw [eRp12, r2_ap, if_neg (by decide)]; exact z4_11
  have z5_12 : Rp12 0 5 = some 17 := by rw [eRp12, r2_ap, if_neg (by decide)]; exact z5_11
  have z6_12 : Rp12 0 6 = some 23 := by rw [eRp12, r2_ap, if_pos ⟨rfl, rfl⟩]
  refine lv_aload_n hC.1 hC.2.1 dX0_init_50 rfl (lv_at hl 0 rfl) ?_
  refine lv_iconst (v := nI 2) hC.1 hC.2.1 dX0_init_51 (by decide) ?_
  refine M_newq (N' := 2) hC hK hX hw q114 q166 1 rfl (by decide) (by decide) (by decide) (by decide) dX0_init_52 (fun ad13 H h13 hw => ?_)
  obtain ⟨Kn13, eKn13⟩ : ∃ z, z = va_up Kn11 24 (31, 2) := ⟨_, rfl⟩
  obtain ⟨In13, eIn13⟩ : ∃ z, z = va_up In11 24 (fun _ => nI 0) := ⟨_, rfl⟩
  obtain ⟨Rn13, eRn13⟩ : ∃ z, z = va_up Rp12 24 (fun _ => none) := ⟨_, rfl⟩
  rw [← eKn13, ← eIn13, ← eRn13] at hw
  have f13 : ag0 24 Kn11 In11 Rp12 Kn13 In13 Rn13 := by rw [eKn13, eIn13, eRn13]; exact ag0.new
  have i13 : In13 0 = In11 0 := by rw [eIn13, va_up_ne _ _ (by decide)]
  have kr13 : Rn13 0 = Rp12 0 := by rw [eRn13, va_up_ne _ _ (by decide)]
  have g13 : gGo 1 ad K (24 + 1, ad13, Kn13, In13, Rn13) := by rw [eKn13, eIn13, eRn13]; exact gGo_new (I1 := In11) (R1 := Rp12) g11.to h13
  have ea13 : ad11 0 = ad13 0 := (h13 0 (by decide)).symm
  rw [ea13] at hl
  rw [ea13]
  replace d1 := d1.f f13 (by decide)
  replace d2 := ((f13 10 (by decide)).1).trans d2
  replace d3 := c3.f (N := 17) (N' := 17) d3 (fun n hn => f13 n (by omega)) kz (by decide) (by decide)
  replace d4 := c4f (N := 23) (N' := 23) d4 (fun n hn => f13 n (by omega)) (by decide) (by decide)
  replace d5 := d5.f f13 (by decide)
  have z0_13 : Rn13 0 0 = some 1 := (congrFun kr13 _).trans z0_12
  have z1_13 : Rn13 0 1 = some 10 := (congrFun kr13 _).trans z1_12
  have z4_13 : Rn13 0 4 = some 11 := (congrFun kr13 _).trans z4_12
  have z5_13 : Rn13 0 5 = some 17 := (congrFun kr13 _).trans z5_12
  have z6_13 : Rn13 0 6 = some 23 := (congrFun kr13 _).trans z6_12
  have kN13 : Kn13 24 = (31, 2) := by rw [eKn13, va_up_self]
  have iN13 : In13 24 = fun _ => nI 0 := by rw [eIn13, va_up_self]
  have rN13 : Rn13 24 = fun _ => none := by rw [eRn13, va_up_self]
  have kz : (Kn13 0).1 = 0 := by rw [(f13 0 (by omega)).1]; exact kz
  have hI13 : ∀ k, In13 0 k = nI 0 := fun k => by rw [i13]; exact hI11 k
  have d6 : c6 Kn13 Rn13 := ⟨kN13, fun k => by rw [rN13]⟩
  refine g_putrF (ci := 0) (C := RX0) (T := TX0) (ref := RX0) (y := some 24) hC hK hw (List.mem_range.mpr (by decide)) kz (by decide) rfl in_X0 tyX0 tyX0_ok nmX0 8 (by decide) rfl q210 (fun x h => h) rfl hin rfl (fun j h => by cases h; exact List.mem_range.mpr (by decide)) rfl rfl rfl rfl dX0_init_55 (fun H locs hw => ?_)
  obtain ⟨Rp14, eRp14⟩ : ∃ z, z = r2 Rn13 0 8 (some 24) := ⟨_, rfl⟩
  rw [← eRp14] at hw
  have f14 : ag0 25 Kn13 In13 Rn13 Kn13 In13 Rp14 := by rw [eRp14]; exact ag0.put
  replace d1 := d1.f f14 (by decide)
  replace d2 := ((f14 10 (by decide)).1).trans d2
  replace d3 := c3.f (N := 17) (N' := 17) d3 (fun n hn => f14 n (by omega)) kz (by decide) (by decide)
  replace d4 := c4f (N := 23) (N' := 23) d4 (fun n hn => f14 n (by omega)) (by decide) (by decide)
  replace d5 := d5.f f14 (by decide)
  replace d6 := d6.f f14 (by decide)
  have z0_14 : Rp14 0 0 = some 1 := by rw [eRp14, r2_ap, if_neg (by decide)]; exact z0_13
  have z1_14 : Rp14 0 1 = some 10 := by rw [eRp14, r2_ap, if_neg (by decide)]; exact z1_13
  have z4_14 : Rp14 0 4 = some 11 := by rw [eRp14, r2_ap, if_neg (by decide)]; exact z4_13
  have z5_14 : Rp14 0 5 = some 17 := by rw [eRp14, r2_ap, if_neg (by decide)]; exact z5_13
  have z6_14 : Rp14 0 6 = some 23 := by rw [eRp14, r2_ap, if_neg (by decide)]; exact z6_13
  have z8_14 : Rp14 0 8 = some 24 := by rw [eRp14, r2_ap, if_pos ⟨rfl, rfl⟩]
  refine lv_aload_n hC.1 hC.2.1 dX0_init_58 rfl (lv_at hl 0 rfl) ?_
  refine M_new hC hK hw 3 (by decide) rfl in_X3 tyX3 tyX3_ok q167 q168 q63 (df_of (by decide +kernel)) (by decide) (by decide) dX0_init_59 (fun ad15 H h15 hw => ?_)
  obtain ⟨Kn15, eKn15⟩ : ∃ z, z = va_up Kn13 25 (3, 0) := ⟨_, rfl⟩
  obtain ⟨In15, eIn15⟩ : ∃ z, z = va_up In13 25 (fun _ => nI 0) := ⟨_, rfl⟩
  obtain ⟨Rn15, eRn15⟩ : ∃ z, z = va_up Rp14 25 (fun _ => none) := ⟨_, rfl⟩
  rw [← eKn15, ← eIn15, ← eRn15] at hw
  have f15 : ag0 25 Kn13 In13 Rp14 Kn15 In15 Rn15 := by rw [eKn15, eIn15, eRn15]; exact ag0.new
  have i15 : In15 0 = In13 0 := by rw [eIn15, va_up_ne _ _ (by decide)]
  have kr15 : Rn15 0 = Rp14 0 := by rw [eRn15, va_up_ne _ _ (by decide)]
  have g15 : gGo 1 ad K (25 + 1, ad15, Kn15, In15, Rn15) := by rw [eKn15, eIn15, eRn15]; exact gGo_new (I1 := In13) (R1 := Rp14) g13.to h15
  have ea15 : ad13 0 = ad15 0 := (h15 0 (by decide)).symm
  rw [ea15] at hl
  rw [ea15]
  replace d1 := d1.f f15 (by decide)
  replace d2 := ((f15 10 (by decide)).1).trans d2
  replace d3 := c3.f (N := 17) (N' := 17) d3 (fun n hn => f15 n (by omega)) kz (by decide) (by decide)
  replace d4 := c4f (N := 23) (N' := 23) d4 (fun n hn => f15 n (by omega)) (by decide) (by decide)
  replace d5 := d5.f f15 (by decide)
  replace d6 := d6.f f15 (by decide)
  have z0_15 : Rn15 0 0 = some 1 := (congrFun kr15 _).trans z0_14
  have z1_15 : Rn15 0 1 = some 10 := (congrFun kr15 _).trans z1_14
  have z4_15 : Rn15 0 4 = some 11 := (congrFun kr15 _).trans z4_14
  have z5_15 : Rn15 0 5 = some 17 := (congrFun kr15 _).trans z5_14
  have z6_15 : Rn15 0 6 = some 23 := (congrFun kr15 _).trans z6_14
  have z8_15 : Rn15 0 8 = some 24 := (congrFun kr15 _).trans z8_14
  have kN15 : Kn15 25 = (3, 0) := by rw [eKn15, va_up_self]
  have iN15 : In15 25 = fun _ => nI 0 := by rw [eIn15, va_up_self]
  have rN15 : Rn15 25 = fun _ => none := by rw [eRn15, va_up_self]
  have kz : (Kn15 0).1 = 0 := by rw [(f15 0 (by omega)).1]; exact kz
  have hI15 : ∀ k, In15 0 k = nI 0 := fun k => by rw [i15]; exact hI13 k
  refine lv_dup hC.1 hC.2.1 dX0_init_62 rfl ?_
  refine M_IN (n := 0) (n0 := 25) hC hl.1 hK hX hw (tX3_init l 26 ad15 Kn15 In15 Rn15 25 (by decide) (by rw [kN15])) q169 q170 q63 q171 rfl (by decide +kernel) ⟨by decide, by decide⟩ rfl rfl (Nat.le_of_ble_eq_true rfl) dX0_init_63 ⟨by decide, by decide⟩ ?_
  rintro _ Nq ad16 K16 I16 R16 H locs ⟨rfl, adz, eS⟩ hg16 hw
  obtain ⟨eN, eA, eK, eI, eR⟩ : Nq = 27 ∧ ad16 = adz ∧ K16 = va_up Kn15 26 (20, 16) ∧ I16 = va_up In15 26 (fun _ => nI 0) ∧ R16 = r2 (va_up Rn15 26 (fun _ => none)) 25 0 (some 26) := by cases eS; exact ⟨rfl, rfl, rfl, rfl, rfl⟩
  subst eN
  have f16 : ag0 25 Kn15 In15 Rn15 K16 I16 R16 := fun n hn => ⟨(hg16.2 n (by omega)).2, fun _ => ⟨by rw [eI, va_up_ne _ _ (by omega)], by rw [eR]; exact (va_up_ne _ _ (by omega)).trans (va_up_ne _ _ (by omega))⟩⟩
  have g16 := gGo.tr g15 hg16
  have ea16 : ad15 0 = ad16 0 := (hg16.2 0 (by decide)).1.symm
  have eb16 : ad15 25 = ad16 25 := (hg16.2 25 (by decide)).1.symm
  rw [ea16] at hl
  rw [ea16, eb16]
  have i16 : I16 0 = In15 0 := by rw [eI, va_up_ne _ _ (by decide)]
  have kr16 : R16 0 = Rn15 0 := by rw [eR]; exact (va_up_ne _ _ (by decide)).trans (va_up_ne _ _ (by decide))
  replace d1 := d1.f f16 (by decide)
  replace d2 := ((f16 10 (by decide)).1).trans d2
  replace d3 := c3.f (N := 17) (N' := 17) d3 (fun n hn => f16 n (by omega)) kz (by decide) (by decide)
  replace d4 := c4f (N := 23) (N' := 23) d4 (fun n hn => f16 n (by omega)) (by decide) (by decide)
  replace d5 := d5.f f16 (by decide)
  replace d6 := d6.f f16 (by decide)
  have z0_16 : R16 0 0 = some 1 := (congrFun kr16 _).trans z0_15
  have z1_16 : R16 0 1 = some 10 := (congrFun kr16 _).trans z1_15
  have z4_16 : R16 0 4 = some 11 := (congrFun kr16 _).trans z4_15
  have z5_16 : R16 0 5 = some 17 := (congrFun kr16 _).trans z5_15
  have z6_16 : R16 0 6 = some 23 := (congrFun kr16 _).trans z6_15
  have z8_16 : R16 0 8 = some 24 := (congrFun kr16 _).trans z8_15
  have kz : (K16 0).1 = 0 := by rw [(f16 0 (by omega)).1]; exact kz
  have hI16 : ∀ k, I16 0 k = nI 0 := fun k => by rw [i16]; exact hI15 k
  have d7 : c7 K16 I16 R16 := ⟨by rw [eK, va_up_ne _ _ (by decide), kN15], by rw [eR, r2_ap, if_pos ⟨rfl, rfl⟩], by rw [eK, va_up_self], by rw [eI, va_up_ne _ _ (by decide), iN15]⟩
  refine g_putr (ci := 0) (C := RX0) (T := TX0) (ref := RX0) (y := some 25) hC hK hw (List.mem_range.mpr (by decide)) kz (by decide) rfl in_X0 tyX0 tyX0_ok nmX0 9 (by decide) rfl q211 (fun x h => h) rfl (fun j h => by cases h; exact List.mem_range.mpr (by decide)) rfl rfl rfl rfl dX0_init_66 (fun H locs hw => ?_)
  obtain ⟨Rp17, eRp17⟩ : ∃ z, z = r2 R16 0 9 (some 25) := ⟨_, rfl⟩
  rw [← eRp17] at hw
  have f17 : ag0 27 K16 I16 R16 K16 I16 Rp17 := by rw [eRp17]; exact ag0.put
  replace d1 := d1.f f17 (by decide)
  replace d2 := ((f17 10 (by decide)).1).trans d2
  replace d3 := c3.f (N := 17) (N' := 17) d3 (fun n hn => f17 n (by omega)) kz (by decide) (by decide)
  replace d4 := c4f (N := 23) (N' := 23) d4 (fun n hn => f17 n (by omega)) (by decide) (by decide)
  replace d5 := d5.f f17 (by decide)
  replace d6 := d6.f f17 (by decide)
  replace d7 := d7.f f17 (by decide)
  have z0_17 : Rp17 0 0 = some 1 := by rw [eRp17, r2_ap, if_neg (by decide)]; exact z0_16
  have z1_17 : Rp17 0 1 = some 10 := by rw [eRp17, r2_ap, if_neg (by decide)]; exact z1_16
  have z4_17 : Rp17 0 4 = some 11 := by rw [eRp17, r2_ap, if_neg (by decide)]; exact z4_16
  have z5_17 : Rp17 0 5 = some 17 := by rw [eRp17, r2_ap, if_neg (by decide)]; exact z5_16
  have z6_17 : Rp17 0 6 = some 23 := by rw [eRp17, r2_ap, if_neg (by decide)]; exact z6_16
  have z8_17 : Rp17 0 8 = some 24 := by rw [eRp17, r2_ap, if_neg (by decide)]; exact z8_16
  have z9_17 : Rp17 0 9 = some 25 := by rw [eRp17, r2_ap, if_pos ⟨rfl, rfl⟩]
  refine lv_aload_n hC.1 hC.2.1 dX0_init_69 rfl (lv_at hl 0 rfl) ?_
  refine M_S (n := 0) hC hl.1 hK hX hw (tX0_walls l 27 ad16 K16 I16 Rp17) (lw_S q182 q183 q60 q184) (by decide +kernel) ⟨by decide, by decide⟩ rfl rfl (Nat.le_of_ble_eq_true rfl) dX0_init_70 ⟨by decide, by decide⟩ ?_
  rintro _ Nq ad18 K18 I18 R18 H locs ⟨rfl, eN, w1, w2, w3⟩ hg18 hw
  dsimp only at eN w1 w2 w3
  have eN : Nq = 44 := eN
  subst eN
  have f18 : ag0 27 K16 I16 Rp17 K18 I18 R18 := fun n hn => ⟨(hg18.2 n hn).2, fun _ => w3 n hn⟩
  have i18 : I18 0 = I16 0 := (w3 0 (by decide)).1
  have g18 := gGo.tr g16 hg18
  have ea18 : ad16 0 = ad18 0 := (hg18.2 0 (by decide)).1.symm
  rw [ea18] at hl
  rw [ea18]
  replace d1 := d1.f f18 (by decide)
  replace d2 := ((f18 10 (by decide)).1).trans d2
  replace d3 := c3.f (N := 17) (N' := 17) d3 (fun n hn => f18 n (by omega)) kz (by decide) (by decide)
  replace d4 := c4f (N := 23) (N' := 23) d4 (fun n hn => f18 n (by omega)) (by decide) (by decide)
  replace d5 := d5.f f18 (by decide)
  replace d6 := d6.f f18 (by decide)
  replace d7 := d7.f f18 (by decide)
  have z0_18 : R18 0 0 = some 1 := (congrFun (w3 0 (by decide)).2 _).trans z0_17
  have z1_18 : R18 0 1 = some 10 := (congrFun (w3 0 (by decide)).2 _).trans z1_17
  have z4_18 : R18 0 4 = some 11 := (congrFun (w3 0 (by decide)).2 _).trans z4_17
  have z5_18 : R18 0 5 = some 17 := (congrFun (w3 0 (by decide)).2 _).trans z5_17
  have z6_18 : R18 0 6 = some 23 := (congrFun (w3 0 (by decide)).2 _).trans z6_17
  have z8_18 : R18 0 8 = some 24 := (congrFun (w3 0 (by decide)).2 _).trans z8_17
  have z9_18 : R18 0 9 = some 25 := (congrFun (w3 0 (by decide)).2 _).trans z9_17
  have kz : (K18 0).1 = 0 := by rw [(f18 0 (by omega)).1]; exact kz
  have hI18 : ∀ k, I18 0 k = nI 0 := fun k => by rw [i18]; exact hI16 k
  have d8 : c8 K18 I18 R18 := ⟨w1, fun c hc => by obtain ⟨z1, z2, z3, z4⟩ := w2 c hc; exact ⟨by rw [show 28 + c = 27 + 1 + c by omega]; exact z2, by rw [show 28 + c = 27 + 1 + c by omega]; exact z1, by rw [show 28 + c = 27 + 1 + c by omega]; exact z3, by rw [show 28 + c = 27 + 1 + c by omega]; exact z4⟩⟩
  refine g_putrF (ci := 0) (C := RX0) (T := TX0) (ref := RX0) (y := some 27) hC hK hw (List.mem_range.mpr (by decide)) kz (by decide) rfl in_X0 tyX0 tyX0_ok nmX0 11 (by decide) rfl q213 (fun x h => h) rfl hin rfl (fun j h => by cases h; exact List.mem_range.mpr (by decide)) rfl rfl rfl rfl dX0_init_73 (fun H locs hw => ?_)
  obtain ⟨Rp19, eRp19⟩ : ∃ z, z = r2 R18 0 11 (some 27) := ⟨_, rfl⟩
  rw [← eRp19] at hw
  have f19 : ag0 44 K18 I18 R18 K18 I18 Rp19 := by rw [eRp19]; exact ag0.put
  replace d1 := d1.f f19 (by decide)
  replace d2 := ((f19 10 (by decide)).1).trans d2
  replace d3 := c3.f (N := 17) (N' := 17) d3 (fun n hn => f19 n (by omega)) kz (by decide) (by decide)
  replace d4 := c4f (N := 23) (N' := 23) d4 (fun n hn => f19 n (by omega)) (by decide) (by decide)
  replace d5 := d5.f f19 (by decide)
  replace d6 := d6.f f19 (by decide)
  replace d7 := d7.f f19 (by decide)
  replace d8 := d8.f f19 (by decide)
  have z0_19 : Rp19 0 0 = some 1 := by rw [eRp19, r2_ap, if_neg (by decide)]; exact z0_18
  have z1_19 : Rp19 0 1 = some 10 := by rw [eRp19, r2_ap, if_neg (by decide)]; exact z1_18
  have z4_19 : Rp19 0 4 = some 11 := by rw [eRp19, r2_ap, if_neg (by decide)]; exact z4_18
  have z5_19 : Rp19 0 5 = some 17 := by rw [eRp19, r2_ap, if_neg (by decide)]; exact z5_18
  have z6_19 : Rp19 0 6 = some 23 := by rw [eRp19, r2_ap, if_neg (by decide)]; exact z6_18
  have z8_19 : Rp19 0 8 = some 24 := by rw [eRp19, r2_ap, if_neg (by decide)]; exact z8_18
  have z9_19 : Rp19 0 9 = some 25 := by rw [eRp19, r2_ap, if_neg (by decide)]; exact z9_18
  have z11_19 : Rp19 0 11 = some 27 := by rw [eRp19, r2_ap, if_pos ⟨rfl, rfl⟩]
  exact M_vret hC hlk hw g18.to ⟨by decide, by decide⟩ hr ⟨rfl, rfl, wcR.made kz hI18 z0_19 z1_19 z4_19 z5_19 z6_19 z8_19 z9_19 z11_19 d1 d2 (c3.f (N := 17) (N' := 44) d3 (fun n _ => ⟨rfl, fun _ => ⟨rfl, rfl⟩⟩) kz (by decide) (by decide)) (c4f (N := 23) (N' := 44) (I := I18) (I' := I18) d4 (fun n _ => ⟨rfl, fun _ => ⟨rfl, rfl⟩⟩) (by decide) (by decide)) d5 d6 d7 d8⟩ dX0_init_76
