/-! ===== constructors: Pass, Shelf, Trail; shelves, walls (by gen/w52.py) ===== -/
def zst : vV := fun _ => nI 0
theorem zst_at (j : Nat) : zst j = nI 0 := rfl

theorem nP_ok {K : gK} {I : mG} {R : gR} {u : Nat} {ad : Nat → Nat} (h1 : (K u).1 = 2) (h2 : I u = fun _ => nI 0) (h3 : R u = fun _ => none) :
    (fun (v : Option Value) (S : gS) => v = none ∧ S.1 = (u + 6) ∧ psR (List.range ((u + 6))) S.2.2.1 S.2.2.2.1 S.2.2.2.2 u zst ∧ S.2.2.2.1 u 0 = nI 0 ∧ (∀ n, n < u → S.2.2.2.1 n = I n ∧ S.2.2.2.2 n = R n)) none (u + 6, ad, va_up (va_up (va_up (va_up (va_up K (u + 1) (20, 4)) ((u + 2)) (20, 4)) ((u + 3)) (32, 16)) ((u + 4)) (20, 16)) ((u + 5)) (20, 4), va_up (va_up (va_up (va_up (va_up I (u + 1) (fun _ => nI 0)) ((u + 2)) (fun _ => nI 0)) ((u + 3)) (fun _ => nI 0)) ((u + 4)) (fun _ => nI 0)) ((u + 5)) (fun _ => nI 0), r2 (va_up (r2 (va_up (r2 (va_up (r2 (va_up (r2 (va_up R (u + 1) (fun _ => none)) u 2 (some ((u + 1)))) ((u + 2)) (fun _ => none)) u 3 (some ((u + 2)))) ((u + 3)) (fun _ => none)) u 4 (some ((u + 3)))) ((u + 4)) (fun _ => none)) u 6 (some ((u + 4)))) ((u + 5)) (fun _ => none)) u 7 (some ((u + 5)))) := by
  refine ⟨rfl, rfl, ⟨⟨?_, ?_, ?_⟩, ?_, ?_, ?_⟩, ?_, ?_⟩
  · simp only [List.mem_range]; omega
  · simp [va_up, h1]
  · simp [va_up, r2]
  · simp [va_up, h2, zst]
  · intro y hy
    simp [va_up, zst]
  · intro c hc
    refine ⟨?_, Or.inl rfl, fun _ => rfl, Or.inl ⟨?_, rfl⟩⟩
    · have e : decide (zst (41 + c) = nI 1) = false := decide_eq_false (by show ¬ nI 0 = nI 1; decide)
      rw [e]
      simp [va_up, h2]
      exact has_0 (by omega)
    · simp [va_up, r2]
  · simp [va_up, h2]
  · intro n hn
    constructor
    · simp only [va_up]
      rw [if_neg (by omega), if_neg (by omega), if_neg (by omega), if_neg (by omega), if_neg (by omega)]
    · simp only [va_up, r2]
      repeat rw [if_neg (by omega)]

set_option maxHeartbeats 800000 in
theorem tX2_init (l : Launch) (N : Nat) (ad : Nat → Nat) (K : gK) (I : mG) (R : gR) (u : Nat) (h0 : N = u + 1) (h1 : (K u).1 = 2) (h2 : I u = fun _ => nI 0) (h3 : R u = fun _ => none) : gM l yX2_init (ws_ yX2_init cX2_init 1 none) ({ frames := 1, cells := 5, slots := 44, locals := 40 } : Room) [.ref (ad u)] N ad K I R (fun v S => v = none ∧ S.1 = N + 5 ∧ psR (List.range (N + 5)) S.2.2.1 S.2.2.2.1 S.2.2.2.2 u zst ∧ S.2.2.2.1 u 0 = nI 0 ∧ (∀ n, n < u → S.2.2.2.1 n = I n ∧ S.2.2.2.2 n = R n)) := by
  refine gM.of (by decide) (Nat.le_of_ble_eq_true rfl) ?_
  intro D dA p e s m args below meth cd ls hC hlk hr hin hK hX hl hw
  have hl : lv_has ls 1 [(0, .ref (ad u))] := hl
  refine lv_aload_n hC.1 hC.2.1 dX2_init_0 rfl (lv_at hl 0 rfl) ?_
  refine W.objInit hC.1 hC.2.1 hC.2.2.2.1 (hC.2.2.2.2 _ q119) (hC.2.2.2.2 _ q97) (hC.2.2.2.2 _ q98) rfl (hl.1.trans hC.2.2.1.symm) rfl dX2_init_1 (Nat.le_of_ble_eq_true rfl) (Nat.le_of_ble_eq_true rfl) ?_
  refine lv_aload_n hC.1 hC.2.1 dX2_init_4 rfl (lv_at hl 0 rfl) ?_
  refine lv_iconst (v := (nI 4)) hC.1 hC.2.1 dX2_init_5 (by decide) ?_
  refine M_newa (atype := .int) (ty := .int) (N' := 4) hC hK hw rfl q165 0 (by decide) rfl (fun c h => h) rfl (by decide) (by decide) (by simp only [gN]; omega) (by simp only [gN]; omega) dX2_init_6 (fun ad6_1 H h6_1 hw => ?_)
  have e6_1 : ad u = ad6_1 u := (h6_1 u (by omega)).symm
  rw [e6_1] at hl
  rw [e6_1]
  have g6_1 : gGo N ad K (N + 1, ad6_1, va_up K N (20, 4), va_up I N (fun _ => nI 0), va_up R N (fun _ => none)) := gGo_new (I1 := I) (R1 := R) gGo.rf h6_1
  refine g_putrF (ci := 2) (C := RX2) (T := TX2) (ref := RX2) (y := some (N)) hC hK hw (List.mem_range.mpr (by omega)) (by rw [va_up_ne _ _ (by omega)]; exact h1) (by decide) rfl in_X2 tyX2 tyX2_ok nmX2 2 (by decide) rfl q127 (fun x h => h) rfl hin rfl (fun j h => by cases h; exact List.mem_range.mpr (by omega)) rfl rfl rfl rfl dX2_init_8 (fun H locs hw => ?_)
  refine lv_aload_n hC.1 hC.2.1 dX2_init_11 rfl (lv_at hl 0 rfl) ?_
  refine lv_iconst (v := (nI 4)) hC.1 hC.2.1 dX2_init_12 (by decide) ?_
  refine M_newa (atype := .int) (ty := .int) (N' := 4) hC hK hw rfl q165 0 (by decide) rfl (fun c h => h) rfl (by decide) (by decide) (by simp only [gN]; omega) (by simp only [gN]; omega) dX2_init_13 (fun ad13_2 H h13_2 hw => ?_)
  have e13_2 : ad6_1 u = ad13_2 u := (h13_2 u (by omega)).symm
  rw [e13_2] at hl
  rw [e13_2]
  have g13_2 : gGo N ad K (N + 1 + 1, ad13_2, va_up (va_up K N (20, 4)) (N + 1) (20, 4), va_up (va_up I N (fun _ => nI 0)) (N + 1) (fun _ => nI 0), va_up (r2 (va_up R N (fun _ => none)) u 2 (some (N))) (N + 1) (fun _ => none)) := gGo_new (I1 := va_up I N (fun _ => nI 0)) (R1 := r2 (va_up R N (fun _ => none)) u 2 (some (N))) g6_1.to h13_2
  refine g_putrF (ci := 2) (C := RX2) (T := TX2) (ref := RX2) (y := some (N + 1)) hC hK hw (List.mem_range.mpr (by omega)) (by rw [va_up_ne _ _ (by omega), va_up_ne _ _ (by omega)]; exact h1) (by decide) rfl in_X2 tyX2 tyX2_ok nmX2 3 (by decide) rfl q130 (fun x h => h) rfl hin rfl (fun j h => by cases h; exact List.mem_range.mpr (by omega)) rfl rfl rfl rfl dX2_init_15 (fun H locs hw => ?_)
  refine lv_aload_n hC.1 hC.2.1 dX2_init_18 rfl (lv_at hl 0 rfl) ?_
  refine lv_bipush (v := (nI 16)) hC.1 hC.2.1 dX2_init_19 (by decide) ?_
  refine M_newq (N' := 16) hC hK hX hw q120 q121 2 rfl (by decide) (by decide) (by simp only [gN]; omega) (by simp only [gN]; omega) dX2_init_21 (fun ad21_3 H h21_3 hw => ?_)
  have e21_3 : ad13_2 u = ad21_3 u := (h21_3 u (by omega)).symm
  rw [e21_3] at hl
  rw [e21_3]
  have g21_3 : gGo N ad K (N + 1 + 1 + 1, ad21_3, va_up (va_up (va_up K N (20, 4)) (N + 1) (20, 4)) (N + 1 + 1) (32, 16), va_up (va_up (va_up I N (fun _ => nI 0)) (N + 1) (fun _ => nI 0)) (N + 1 + 1) (fun _ => nI 0), va_up (r2 (va_up (r2 (va_up R N (fun _ => none)) u 2 (some (N))) (N + 1) (fun _ => none)) u 3 (some (N + 1))) (N + 1 + 1) (fun _ => none)) := gGo_new (I1 := va_up (va_up I N (fun _ => nI 0)) (N + 1) (fun _ => nI 0)) (R1 := r2 (va_up (r2 (va_up R N (fun _ => none)) u 2 (some (N))) (N + 1) (fun _ => none)) u 3 (some (N + 1))) g13_2.to h21_3
  refine g_putrF (ci := 2) (C := RX2) (T := TX2) (ref := RX2) (y := some (N + 1 + 1)) hC hK hw (List.mem_range.mpr (by omega)) (by rw [va_up_ne _ _ (by omega), va_up_ne _ _ (by omega), va_up_ne _ _ (by omega)]; exact h1) (by decide) rfl in_X2 tyX2 tyX2_ok nmX2 4 (by decide) rfl q133 (fun x h => h) rfl hin rfl (fun j h => by cases h; exact List.mem_range.mpr (by omega)) rfl rfl rfl rfl dX2_init_24 (fun H locs hw => ?_)
  refine lv_aload_n hC.1 hC.2.1 dX2_init_27 rfl (lv_at hl 0 rfl) ?_
  refine lv_bipush (v := (nI 16)) hC.1 hC.2.1 dX2_init_28 (by decide) ?_
  refine M_newa (atype := .int) (ty := .int) (N' := 16) hC hK hw rfl q165 0 (by decide) rfl (fun c h => h) rfl (by decide) (by decide) (by simp only [gN]; omega) (by simp only [gN]; omega) dX2_init_30 (fun ad30_4 H h30_4 hw => ?_)
  have e30_4 : ad21_3 u = ad30_4 u := (h30_4 u (by omega)).symm
  rw [e30_4] at hl
  rw [e30_4]
  have g30_4 : gGo N ad K (N + 1 + 1 + 1 + 1, ad30_4, va_up (va_up (va_up (va_up K N (20, 4)) (N + 1) (20, 4)) (N + 1 + 1) (32, 16)) (N + 1 + 1 + 1) (20, 16), va_up (va_up (va_up (va_up I N (fun _ => nI 0)) (N + 1) (fun _ => nI 0)) (N + 1 + 1) (fun _ => nI 0)) (N + 1 + 1 + 1) (fun _ => nI 0), va_up (r2 (va_up (r2 (va_up (r2 (va_up R N (fun _ => none)) u 2 (some (N))) (N + 1) (fun _ => none)) u 3 (some (N + 1))) (N + 1 + 1) (fun _ => none)) u 4 (some (N + 1 + 1))) (N + 1 + 1 + 1) (fun _ => none)) := gGo_new (I1 := va_up (va_up (va_up I N (fun _ => nI 0)) (N + 1) (fun _ => nI 0)) (N + 1 + 1) (fun _ => nI 0)) (R1 := r2 (va_up (r2 (va_up (r2 (va_up R N (fun _ => none)) u 2 (some (N))) (N + 1) (fun _ => none)) u 3 (some (N + 1))) (N + 1 + 1) (fun _ => none)) u 4 (some (N + 1 + 1))) g21_3.to h30_4
  refine g_putrF (ci := 2) (C := RX2) (T := TX2) (ref := RX2) (y := some (N + 1 + 1 + 1)) hC hK hw (List.mem_range.mpr (by omega)) (by rw [va_up_ne _ _ (by omega), va_up_ne _ _ (by omega), va_up_ne _ _ (by omega), va_up_ne _ _ (by omega)]; exact h1) (by decide) rfl in_X2 tyX2 tyX2_ok nmX2 6 (by decide) rfl q138 (fun x h => h) rfl hin rfl (fun j h => by cases h; exact List.mem_range.mpr (by omega)) rfl rfl rfl rfl dX2_init_32 (fun H locs hw => ?_)
  refine lv_aload_n hC.1 hC.2.1 dX2_init_35 rfl (lv_at hl 0 rfl) ?_
  refine lv_iconst (v := (nI 4)) hC.1 hC.2.1 dX2_init_36 (by decide) ?_
  refine M_newa (atype := .int) (ty := .int) (N' := 4) hC hK hw rfl q165 0 (by decide) rfl (fun c h => h) rfl (by decide) (by decide) (by simp only [gN]; omega) (by simp only [gN]; omega) dX2_init_37 (fun ad37_5 H h37_5 hw => ?_)
  have e37_5 : ad30_4 u = ad37_5 u := (h37_5 u (by omega)).symm
  rw [e37_5] at hl
  rw [e37_5]
  have g37_5 : gGo N ad K (N + 1 + 1 + 1 + 1 + 1, ad37_5, va_up (va_up (va_up (va_up (va_up K N (20, 4)) (N + 1) (20, 4)) (N + 1 + 1) (32, 16)) (N + 1 + 1 + 1) (20, 16)) (N + 1 + 1 + 1 + 1) (20, 4), va_up (va_up (va_up (va_up (va_up I N (fun _ => nI 0)) (N + 1) (fun _ => nI 0)) (N + 1 + 1) (fun _ => nI 0)) (N + 1 + 1 + 1) (fun _ => nI 0)) (N + 1 + 1 + 1 + 1) (fun _ => nI 0), va_up (r2 (va_up (r2 (va_up (r2 (va_up (r2 (va_up R N (fun _ => none)) u 2 (some (N))) (N + 1) (fun _ => none)) u 3 (some (N + 1))) (N + 1 + 1) (fun _ => none)) u 4 (some (N + 1 + 1))) (N + 1 + 1 + 1) (fun _ => none)) u 6 (some (N + 1 + 1 + 1))) (N + 1 + 1 + 1 + 1) (fun _ => none)) := gGo_new (I1 := va_up (va_up (va_up (va_up I N (fun _ => nI 0)) (N + 1) (fun _ => nI 0)) (N + 1 + 1) (fun _ => nI 0)) (N + 1 + 1 + 1) (fun _ => nI 0)) (R1 := r2 (va_up (r2 (va_up (r2 (va_up (r2 (va_up R N (fun _ => none)) u 2 (some (N))) (N + 1) (fun _ => none)) u 3 (some (N + 1))) (N + 1 + 1) (fun _ => none)) u 4 (some (N + 1 + 1))) (N + 1 + 1 + 1) (fun _ => none)) u 6 (some (N + 1 + 1 + 1))) g30_4.to h37_5
  refine g_putrF (ci := 2) (C := RX2) (T := TX2) (ref := RX2) (y := some (N + 1 + 1 + 1 + 1)) hC hK hw (List.mem_range.mpr (by omega)) (by rw [va_up_ne _ _ (by omega), va_up_ne _ _ (by omega), va_up_ne _ _ (by omega), va_up_ne _ _ (by omega), va_up_ne _ _ (by omega)]; exact h1) (by decide) rfl in_X2 tyX2 tyX2_ok nmX2 7 (by decide) rfl q141 (fun x h => h) rfl hin rfl (fun j h => by cases h; exact List.mem_range.mpr (by omega)) rfl rfl rfl rfl dX2_init_39 (fun H locs hw => ?_)
  exact M_vret hC hlk hw g37_5.to ⟨by simp only [gN]; omega, by simp only [gN]; omega⟩ hr (by subst h0; exact nP_ok h1 h2 h3) dX2_init_42
