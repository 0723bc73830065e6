/-! ===== Shelf: many, at, put (by gen/w66.py) ===== -/
set_option maxHeartbeats 800000 in
theorem tX1_many_r0 (l : Launch) (N : Nat) (ad : Nat → Nat) (K : gK) (I : mG) (R : gR) (u : Nat) (a n : Nat) (hu : u < N) (hk0 : (K u).1 = 1) (hR : R u 0 = some a) (ha : a < N) (hka : K a = (20 + 0, n)) (hn : n ≤ 40) : gMZ l yX1_many (ws_ yX1_many cX1_many 1 (some FieldType.int)) ({ frames := 0, cells := 0, slots := 0, locals := 0 } : Room) [.ref (ad u)] N ad K I R (fun v S => v = some (.int (nI n)) ∧ S = (N, ad, K, I, R)) := by
  refine gMZ.of (by decide) (Nat.le_of_ble_eq_true rfl) ?_
  intro D dA p e s m args below meth cd ls hC hlk hr hK hX hZ hst hl hw
  have hl : lv_has ls 1 [(0, .ref (ad u))] := hl
  have nc0_B := nc_ok (s := s) 254 (A := "[I") (B := "[B") (by decide +kernel) hZ
  have nc0_S := nc_ok (s := s) 281 (A := "[I") (B := "[S") (by decide +kernel) hZ
  refine lv_aload_n hC.1 hC.2.1 dX1_many_0 rfl (lv_at hl 0 rfl) ?_
  refine g_get (C := RX1) (T := TX1) (ref := RX1) hC hK hw (List.mem_range.mpr (by omega)) hk0 (by decide) rfl in_X1 0 (by decide) q109 (fun x h => h) (v := .ref (ad a)) (by show va_rf _ = _; rw [hR]; rfl) dX1_many_1 ?_
  refine g_isN (t := 0) hC hK hw (List.mem_range.mpr (by omega)) hka (by decide) q403 nc0_B dX1_many_4 ?_
  refine k_zeq (tgt := 19) hC (by decide) dX1_many_7 (by decide) (fun c7 => ?_) (fun h => absurd h (by decide))
  refine lv_aload_n hC.1 hC.2.1 dX1_many_19 rfl (lv_at hl 0 rfl) ?_
  refine g_get (C := RX1) (T := TX1) (ref := RX1) hC hK hw (List.mem_range.mpr (by omega)) hk0 (by decide) rfl in_X1 0 (by decide) q109 (fun x h => h) (v := .ref (ad a)) (by show va_rf _ = _; rw [hR]; rfl) dX1_many_20 ?_
  refine g_isN (t := 0) hC hK hw (List.mem_range.mpr (by omega)) hka (by decide) q404 nc0_S dX1_many_23 ?_
  refine k_zeq (tgt := 38) hC (by decide) dX1_many_26 (by decide) (fun c26 => ?_) (fun h => absurd h (by decide))
  refine lv_aload_n hC.1 hC.2.1 dX1_many_38 rfl (lv_at hl 0 rfl) ?_
  refine g_get (C := RX1) (T := TX1) (ref := RX1) hC hK hw (List.mem_range.mpr (by omega)) hk0 (by decide) rfl in_X1 0 (by decide) q109 (fun x h => h) (v := .ref (ad a)) (by show va_rf _ = _; rw [hR]; rfl) dX1_many_39 ?_
  refine g_cast (t := 0) hC hK hw (List.mem_range.mpr (by omega)) hka (by decide) q405 dX1_many_42 ?_
  refine g_len (t := 0) hC hK hw (List.mem_range.mpr (by omega)) hka (by decide) dX1_many_45 ?_
  exact M_iret hC hlk hw gGo.rf ⟨by simp only [gN]; omega, by simp only [gN]; omega⟩ hr rfl (⟨rfl, rfl⟩) dX1_many_46

set_option maxHeartbeats 800000 in
theorem tX1_many_r1 (l : Launch) (N : Nat) (ad : Nat → Nat) (K : gK) (I : mG) (R : gR) (u : Nat) (a n : Nat) (hu : u < N) (hk0 : (K u).1 = 1) (hR : R u 0 = some a) (ha : a < N) (hka : K a = (20 + 1, n)) (hn : n ≤ 40) : gMZ l yX1_many (ws_ yX1_many cX1_many 1 (some FieldType.int)) ({ frames := 0, cells := 0, slots := 0, locals := 0 } : Room) [.ref (ad u)] N ad K I R (fun v S => v = some (.int (nI n)) ∧ S = (N, ad, K, I, R)) := by
  refine gMZ.of (by decide) (Nat.le_of_ble_eq_true rfl) ?_
  intro D dA p e s m args below meth cd ls hC hlk hr hK hX hZ hst hl hw
  have hl : lv_has ls 1 [(0, .ref (ad u))] := hl
  refine lv_aload_n hC.1 hC.2.1 dX1_many_0 rfl (lv_at hl 0 rfl) ?_
  refine g_get (C := RX1) (T := TX1) (ref := RX1) hC hK hw (List.mem_range.mpr (by omega)) hk0 (by decide) rfl in_X1 0 (by decide) q109 (fun x h => h) (v := .ref (ad a)) (by show va_rf _ = _; rw [hR]; rfl) dX1_many_1 ?_
  refine g_isY (t := 1) hC hK hw (List.mem_range.mpr (by omega)) hka (by decide) q403 dX1_many_4 ?_
  refine k_zeq (tgt := 19) hC (by decide) dX1_many_7 (by decide) (fun h => absurd h (by decide)) (fun c7 => ?_)
  refine lv_aload_n hC.1 hC.2.1 dX1_many_10 rfl (lv_at hl 0 rfl) ?_
  refine g_get (C := RX1) (T := TX1) (ref := RX1) hC hK hw (List.mem_range.mpr (by omega)) hk0 (by decide) rfl in_X1 0 (by decide) q109 (fun x h => h) (v := .ref (ad a)) (by show va_rf _ = _; rw [hR]; rfl) dX1_many_11 ?_
  refine g_cast (t := 1) hC hK hw (List.mem_range.mpr (by omega)) hka (by decide) q403 dX1_many_14 ?_
  refine g_len (t := 1) hC hK hw (List.mem_range.mpr (by omega)) hka (by decide) dX1_many_17 ?_
  exact M_iret hC hlk hw gGo.rf ⟨by simp only [gN]; omega, by simp only [gN]; omega⟩ hr rfl (⟨rfl, rfl⟩) dX1_many_18

set_option maxHeartbeats 800000 in
theorem tX1_many_r2 (l : Launch) (N : Nat) (ad : Nat → Nat) (K : gK) (I : mG) (R : gR) (u : Nat) (a n : Nat) (hu : u < N) (hk0 : (K u).1 = 1) (hR : R u 0 = some a) (ha : a < N) (hka : K a = (20 + 2, n)) (hn : n ≤ 40) : gMZ l yX1_many (ws_ yX1_many cX1_many 1 (some FieldType.int)) ({ frames := 0, cells := 0, slots := 0, locals := 0 } : Room) [.ref (ad u)] N ad K I R (fun v S => v = some (.int (nI n)) ∧ S = (N, ad, K, I, R)) := by
  refine gMZ.of (by decide) (Nat.le_of_ble_eq_true rfl) ?_
  intro D dA p e s m args below meth cd ls hC hlk hr hK hX hZ hst hl hw
  have hl : lv_has ls 1 [(0, .ref (ad u))] := hl
  have nc2_B := nc_ok (s := s) 256 (A := "[S") (B := "[B") (by decide +kernel) hZ
  refine lv_aload_n hC.1 hC.2.1 dX1_many_0 rfl (lv_at hl 0 rfl) ?_
  refine g_get (C := RX1) (T := TX1) (ref := RX1) hC hK hw (List.mem_range.mpr (by omega)) hk0 (by decide) rfl in_X1 0 (by decide) q109 (fun x h => h) (v := .ref (ad a)) (by show va_rf _ = _; rw [hR]; rfl) dX1_many_1 ?_
  refine g_isN (t := 2) hC hK hw (List.mem_range.mpr (by omega)) hka (by decide) q403 nc2_B dX1_many_4 ?_
  refine k_zeq (tgt := 19) hC (by decide) dX1_many_7 (by decide) (fun c7 => ?_) (fun h => absurd h (by decide))
  refine lv_aload_n hC.1 hC.2.1 dX1_many_19 rfl (lv_at hl 0 rfl) ?_
  refine g_get (C := RX1) (T := TX1) (ref := RX1) hC hK hw (List.mem_range.mpr (by omega)) hk0 (by decide) rfl in_X1 0 (by decide) q109 (fun x h => h) (v := .ref (ad a)) (by show va_rf _ = _; rw [hR]; rfl) dX1_many_20 ?_
  refine g_isY (t := 2) hC hK hw (List.mem_range.mpr (by omega)) hka (by decide) q404 dX1_many_23 ?_
  refine k_zeq (tgt := 38) hC (by decide) dX1_many_26 (by decide) (fun h => absurd h (by decide)) (fun c26 => ?_)
  refine lv_aload_n hC.1 hC.2.1 dX1_many_29 rfl (lv_at hl 0 rfl) ?_
  refine g_get (C := RX1) (T := TX1) (ref := RX1) hC hK hw (List.mem_range.mpr (by omega)) hk0 (by decide) rfl in_X1 0 (by decide) q109 (fun x h => h) (v := .ref (ad a)) (by show va_rf _ = _; rw [hR]; rfl) dX1_many_30 ?_
  refine g_cast (t := 2) hC hK hw (List.mem_range.mpr (by omega)) hka (by decide) q404 dX1_many_33 ?_
  refine g_len (t := 2) hC hK hw (List.mem_range.mpr (by omega)) hka (by decide) dX1_many_36 ?_
  exact M_iret hC hlk hw gGo.rf ⟨by simp only [gN]; omega, by simp only [gN]; omega⟩ hr rfl (⟨rfl, rfl⟩) dX1_many_37

set_option maxHeartbeats 800000 in
theorem tX1_many_n (l : Launch) (hl0 : l.stackTraces = false) (N : Nat) (ad : Nat → Nat) (K : gK) (I : mG) (R : gR) (u : Nat) (hu : u < N) (hk0 : (K u).1 = 1) (hR : R u 0 = none) : gMT l yX1_many (ws_ yX1_many cX1_many 1 (some FieldType.int)) ({ frames := 8, cells := 1, slots := 8, locals := 10240 } : Room) [.ref (ad u)] N ad K I R "java/lang/NullPointerException" (fun x S => S = (N, ad, K, I, R)) := by
  refine gMT.of (by decide) (Nat.le_of_ble_eq_true rfl) ?_
  intro D dA p e s m args below meth cd ls hC hlk htb hK hX hZ hst hl hw
  have hl : lv_has ls 1 [(0, .ref (ad u))] := hl
  refine lv_aload_n hC.1 hC.2.1 dX1_many_0 rfl (lv_at hl 0 rfl) ?_
  refine g_get (C := RX1) (T := TX1) (ref := RX1) hC hK hw (List.mem_range.mpr (by omega)) hk0 (by decide) rfl in_X1 0 (by decide) q109 (fun x h => h) (v := .null) (by show va_rf _ = _; rw [hR]; rfl) dX1_many_1 ?_
  refine lv_instN hC.1 hC.2.1 dX1_many_4 ?_
  refine k_zeq (tgt := 19) hC (by decide) dX1_many_7 (by decide) (fun c7 => ?_) (fun h => absurd h (by decide))
  refine lv_aload_n hC.1 hC.2.1 dX1_many_19 rfl (lv_at hl 0 rfl) ?_
  refine g_get (C := RX1) (T := TX1) (ref := RX1) hC hK hw (List.mem_range.mpr (by omega)) hk0 (by decide) rfl in_X1 0 (by decide) q109 (fun x h => h) (v := .null) (by show va_rf _ = _; rw [hR]; rfl) dX1_many_20 ?_
  refine lv_instN hC.1 hC.2.1 dX1_many_23 ?_
  refine k_zeq (tgt := 38) hC (by decide) dX1_many_26 (by decide) (fun c26 => ?_) (fun h => absurd h (by decide))
  refine lv_aload_n hC.1 hC.2.1 dX1_many_38 rfl (lv_at hl 0 rfl) ?_
  refine g_get (C := RX1) (T := TX1) (ref := RX1) hC hK hw (List.mem_range.mpr (by omega)) hk0 (by decide) rfl in_X1 0 (by decide) q109 (fun x h => h) (v := .null) (by show va_rf _ = _; rw [hR]; rfl) dX1_many_39 ?_
  refine lv_castN hC.1 hC.2.1 dX1_many_42 ?_
  exact L_len0 hl0 hC hlk htb hX hZ hl.1 hw (fun _ => rfl) (by decide) (by decide) dX1_many_45

set_option maxHeartbeats 800000 in
theorem tX1_at_r0 (l : Launch) (N : Nat) (ad : Nat → Nat) (K : gK) (I : mG) (R : gR) (u : Nat) (a n : Nat) (i : Nat) (hu : u < N) (hk0 : (K u).1 = 1) (hR : R u 0 = some a) (ha : a < N) (hka : K a = (20 + 0, n)) (hn : n ≤ 40) (hi : i < n) : gMZ l yX1_at (ws_ yX1_at cX1_at 2 (some FieldType.int)) ({ frames := 0, cells := 0, slots := 0, locals := 0 } : Room) [.ref (ad u), .int (nI i)] N ad K I R (fun v S => v = some (.int (I a i)) ∧ S = (N, ad, K, I, R)) := by
  refine gMZ.of (by decide) (Nat.le_of_ble_eq_true rfl) ?_
  intro D dA p e s m args below meth cd ls hC hlk hr hK hX hZ hst hl hw
  have hl : lv_has ls 2 [(0, .ref (ad u)), (1, .int (nI i))] := hl
  have nc0_B := nc_ok (s := s) 254 (A := "[I") (B := "[B") (by decide +kernel) hZ
  have nc0_S := nc_ok (s := s) 281 (A := "[I") (B := "[S") (by decide +kernel) hZ
  refine lv_aload_n hC.1 hC.2.1 dX1_at_0 rfl (lv_at hl 0 rfl) ?_
  refine g_get (C := RX1) (T := TX1) (ref := RX1) hC hK hw (List.mem_range.mpr (by omega)) hk0 (by decide) rfl in_X1 0 (by decide) q109 (fun x h => h) (v := .ref (ad a)) (by show va_rf _ = _; rw [hR]; rfl) dX1_at_1 ?_
  refine g_isN (t := 0) hC hK hw (List.mem_range.mpr (by omega)) hka (by decide) q403 nc0_B dX1_at_4 ?_
  refine k_zeq (tgt := 20) hC (by decide) dX1_at_7 (by decide) (fun c7 => ?_) (fun h => absurd h (by decide))
  refine lv_aload_n hC.1 hC.2.1 dX1_at_20 rfl (lv_at hl 0 rfl) ?_
  refine g_get (C := RX1) (T := TX1) (ref := RX1) hC hK hw (List.mem_range.mpr (by omega)) hk0 (by decide) rfl in_X1 0 (by decide) q109 (fun x h => h) (v := .ref (ad a)) (by show va_rf _ = _; rw [hR]; rfl) dX1_at_21 ?_
  refine g_isN (t := 0) hC hK hw (List.mem_range.mpr (by omega)) hka (by decide) q404 nc0_S dX1_at_24 ?_
  refine k_zeq (tgt := 40) hC (by decide) dX1_at_27 (by decide) (fun c27 => ?_) (fun h => absurd h (by decide))
  refine lv_aload_n hC.1 hC.2.1 dX1_at_40 rfl (lv_at hl 0 rfl) ?_
  refine g_get (C := RX1) (T := TX1) (ref := RX1) hC hK hw (List.mem_range.mpr (by omega)) hk0 (by decide) rfl in_X1 0 (by decide) q109 (fun x h => h) (v := .ref (ad a)) (by show va_rf _ = _; rw [hR]; rfl) dX1_at_41 ?_
  refine g_cast (t := 0) hC hK hw (List.mem_range.mpr (by omega)) hka (by decide) q405 dX1_at_44 ?_
  refine lv_iload_n hC.1 hC.2.1 dX1_at_47 rfl (lv_at hl 1 rfl) ?_
  refine g_ldi hC hK hw (List.mem_range.mpr ha) hka (by omega) (by omega) (v := (I a i)) (rfl) dX1_at_48 ?_
  exact M_iret hC hlk hw gGo.rf ⟨by simp only [gN]; omega, by simp only [gN]; omega⟩ hr rfl (⟨rfl, rfl⟩) dX1_at_49

set_option maxHeartbeats 800000 in
theorem tX1_at_o0 (l : Launch) (hl0 : l.stackTraces = false) (N : Nat) (ad : Nat → Nat) (K : gK) (I : mG) (R : gR) (u : Nat) (a n : Nat) (i : Int32) (hu : u < N) (hk0 : (K u).1 = 1) (hR : R u 0 = some a) (ha : a < N) (hka : K a = (20 + 0, n)) (hn : n ≤ 40) (ho : i < 0 ∨ n ≤ i.toNatClampNeg) : gMT l yX1_at (ws_ yX1_at cX1_at 2 (some FieldType.int)) ({ frames := 8, cells := 3, slots := 222, locals := 10240 } : Room) [.ref (ad u), .int i] N ad K I R "java/lang/ArrayIndexOutOfBoundsException" (fun x S => S = (N, ad, K, I, R)) := by
  refine gMT.of (by decide) (Nat.le_of_ble_eq_true rfl) ?_
  intro D dA p e s m args below meth cd ls hC hlk htb hK hX hZ hst hl hw
  have hl : lv_has ls 2 [(0, .ref (ad u)), (1, .int i)] := hl
  have nc0_B := nc_ok (s := s) 254 (A := "[I") (B := "[B") (by decide +kernel) hZ
  have nc0_S := nc_ok (s := s) 281 (A := "[I") (B := "[S") (by decide +kernel) hZ
  refine lv_aload_n hC.1 hC.2.1 dX1_at_0 rfl (lv_at hl 0 rfl) ?_
  refine g_get (C := RX1) (T := TX1) (ref := RX1) hC hK hw (List.mem_range.mpr (by omega)) hk0 (by decide) rfl in_X1 0 (by decide) q109 (fun x h => h) (v := .ref (ad a)) (by show va_rf _ = _; rw [hR]; rfl) dX1_at_1 ?_
  refine g_isN (t := 0) hC hK hw (List.mem_range.mpr (by omega)) hka (by decide) q403 nc0_B dX1_at_4 ?_
  refine k_zeq (tgt := 20) hC (by decide) dX1_at_7 (by decide) (fun c7 => ?_) (fun h => absurd h (by decide))
  refine lv_aload_n hC.1 hC.2.1 dX1_at_20 rfl (lv_at hl 0 rfl) ?_
  refine g_get (C := RX1) (T := TX1) (ref := RX1) hC hK hw (List.mem_range.mpr (by omega)) hk0 (by decide) rfl in_X1 0 (by decide) q109 (fun x h => h) (v := .ref (ad a)) (by show va_rf _ = _; rw [hR]; rfl) dX1_at_21 ?_
  refine g_isN (t := 0) hC hK hw (List.mem_range.mpr (by omega)) hka (by decide) q404 nc0_S dX1_at_24 ?_
  refine k_zeq (tgt := 40) hC (by decide) dX1_at_27 (by decide) (fun c27 => ?_) (fun h => absurd h (by decide))
  refine lv_aload_n hC.1 hC.2.1 dX1_at_40 rfl (lv_at hl 0 rfl) ?_
  refine g_get (C := RX1) (T := TX1) (ref := RX1) hC hK hw (List.mem_range.mpr (by omega)) hk0 (by decide) rfl in_X1 0 (by decide) q109 (fun x h => h) (v := .ref (ad a)) (by show va_rf _ = _; rw [hR]; rfl) dX1_at_41 ?_
  refine g_cast (t := 0) hC hK hw (List.mem_range.mpr (by omega)) hka (by decide) q405 dX1_at_44 ?_
  refine lv_iload_n hC.1 hC.2.1 dX1_at_47 rfl (lv_at hl 1 rfl) ?_
  exact L_ldi (g_out (t := 0) hK hw (List.mem_range.mpr (by omega)) hka (by decide) (by omega) ho) hl0 hC hlk htb hX hZ hl.1 hw (fun _ => rfl) (by decide) (by decide) dX1_at_48

set_option maxHeartbeats 800000 in
theorem tX1_at_r1 (l : Launch) (N : Nat) (ad : Nat → Nat) (K : gK) (I : mG) (R : gR) (u : Nat) (a n : Nat) (i : Nat) (hu : u < N) (hk0 : (K u).1 = 1) (hR : R u 0 = some a) (ha : a < N) (hka : K a = (20 + 1, n)) (hn : n ≤ 40) (hi : i < n) : gMZ l yX1_at (ws_ yX1_at cX1_at 2 (some FieldType.int)) ({ frames := 0, cells := 0, slots := 0, locals := 0 } : Room) [.ref (ad u), .int (nI i)] N ad K I R (fun v S => v = some (.int (I a i)) ∧ S = (N, ad, K, I, R)) := by
  refine gMZ.of (by decide) (Nat.le_of_ble_eq_true rfl) ?_
  intro D dA p e s m args below meth cd ls hC hlk hr hK hX hZ hst hl hw
  have hl : lv_has ls 2 [(0, .ref (ad u)), (1, .int (nI i))] := hl
  refine lv_aload_n hC.1 hC.2.1 dX1_at_0 rfl (lv_at hl 0 rfl) ?_
  refine g_get (C := RX1) (T := TX1) (ref := RX1) hC hK hw (List.mem_range.mpr (by omega)) hk0 (by decide) rfl in_X1 0 (by decide) q109 (fun x h => h) (v := .ref (ad a)) (by show va_rf _ = _; rw [hR]; rfl) dX1_at_1 ?_
  refine g_isY (t := 1) hC hK hw (List.mem_range.mpr (by omega)) hka (by decide) q403 dX1_at_4 ?_
  refine k_zeq (tgt := 20) hC (by decide) dX1_at_7 (by decide) (fun h => absurd h (by decide)) (fun c7 => ?_)
  refine lv_aload_n hC.1 hC.2.1 dX1_at_10 rfl (lv_at hl 0 rfl) ?_
  refine g_get (C := RX1) (T := TX1) (ref := RX1) hC hK hw (List.mem_range.mpr (by omega)) hk0 (by decide) rfl in_X1 0 (by decide) q109 (fun x h => h) (v := .ref (ad a)) (by show va_rf _ = _; rw [hR]; rfl) dX1_at_11 ?_
  refine g_cast (t := 1) hC hK hw (List.mem_range.mpr (by omega)) hka (by decide) q403 dX1_at_14 ?_
  refine lv_iload_n hC.1 hC.2.1 dX1_at_17 rfl (lv_at hl 1 rfl) ?_
  refine g_ldb hC hK hw (List.mem_range.mpr ha) hka (by omega) (by omega) (v := (I a i)) (rfl) dX1_at_18 ?_
  exact M_iret hC hlk hw gGo.rf ⟨by simp only [gN]; omega, by simp only [gN]; omega⟩ hr rfl (⟨rfl, rfl⟩) dX1_at_19

set_option maxHeartbeats 800000 in
theorem tX1_at_o1 (l : Launch) (hl0 : l.stackTraces = false) (N : Nat) (ad : Nat → Nat) (K : gK) (I : mG) (R : gR) (u : Nat) (a n : Nat) (i : Int32) (hu : u < N) (hk0 : (K u).1 = 1) (hR : R u 0 = some a) (ha : a < N) (hka : K a = (20 + 1, n)) (hn : n ≤ 40) (ho : i < 0 ∨ n ≤ i.toNatClampNeg) : gMT l yX1_at (ws_ yX1_at cX1_at 2 (some FieldType.int)) ({ frames := 8, cells := 3, slots := 222, locals := 10240 } : Room) [.ref (ad u), .int i] N ad K I R "java/lang/ArrayIndexOutOfBoundsException" (fun x S => S = (N, ad, K, I, R)) := by
  refine gMT.of (by decide) (Nat.le_of_ble_eq_true rfl) ?_
  intro D dA p e s m args below meth cd ls hC hlk htb hK hX hZ hst hl hw
  have hl : lv_has ls 2 [(0, .ref (ad u)), (1, .int i)] := hl
  refine lv_aload_n hC.1 hC.2.1 dX1_at_0 rfl (lv_at hl 0 rfl) ?_
  refine g_get (C := RX1) (T := TX1) (ref := RX1) hC hK hw (List.mem_range.mpr (by omega)) hk0 (by decide) rfl in_X1 0 (by decide) q109 (fun x h => h) (v := .ref (ad a)) (by show va_rf _ = _; rw [hR]; rfl) dX1_at_1 ?_
  refine g_isY (t := 1) hC hK hw (List.mem_range.mpr (by omega)) hka (by decide) q403 dX1_at_4 ?_
  refine k_zeq (tgt := 20) hC (by decide) dX1_at_7 (by decide) (fun h => absurd h (by decide)) (fun c7 => ?_)
  refine lv_aload_n hC.1 hC.2.1 dX1_at_10 rfl (lv_at hl 0 rfl) ?_
  refine g_get (C := RX1) (T := TX1) (ref := RX1) hC hK hw (List.mem_range.mpr (by omega)) hk0 (by decide) rfl in_X1 0 (by decide) q109 (fun x h => h) (v := .ref (ad a)) (by show va_rf _ = _; rw [hR]; rfl) dX1_at_11 ?_
  refine g_cast (t := 1) hC hK hw (List.mem_range.mpr (by omega)) hka (by decide) q403 dX1_at_14 ?_
  refine lv_iload_n hC.1 hC.2.1 dX1_at_17 rfl (lv_at hl 1 rfl) ?_
  exact L_ldb (g_out (t := 1) hK hw (List.mem_range.mpr (by omega)) hka (by decide) (by omega) ho) hl0 hC hlk htb hX hZ hl.1 hw (fun _ => rfl) (by decide) (by decide) dX1_at_18

set_option maxHeartbeats 800000 in
theorem tX1_at_r2 (l : Launch) (N : Nat) (ad : Nat → Nat) (K : gK) (I : mG) (R : gR) (u : Nat) (a n : Nat) (i : Nat) (hu : u < N) (hk0 : (K u).1 = 1) (hR : R u 0 = some a) (ha : a < N) (hka : K a = (20 + 2, n)) (hn : n ≤ 40) (hi : i < n) : gMZ l yX1_at (ws_ yX1_at cX1_at 2 (some FieldType.int)) ({ frames := 0, cells := 0, slots := 0, locals := 0 } : Room) [.ref (ad u), .int (nI i)] N ad K I R (fun v S => v = some (.int (I a i)) ∧ S = (N, ad, K, I, R)) := by
  refine gMZ.of (by decide) (Nat.le_of_ble_eq_true rfl) ?_
  intro D dA p e s m args below meth cd ls hC hlk hr hK hX hZ hst hl hw
  have hl : lv_has ls 2 [(0, .ref (ad u)), (1, .int (nI i))] := hl
  have nc2_B := nc_ok (s := s) 256 (A := "[S") (B := "[B") (by decide +kernel) hZ
  refine lv_aload_n hC.1 hC.2.1 dX1_at_0 rfl (lv_at hl 0 rfl) ?_
  refine g_get (C := RX1) (T := TX1) (ref := RX1) hC hK hw (List.mem_range.mpr (by omega)) hk0 (by decide) rfl in_X1 0 (by decide) q109 (fun x h => h) (v := .ref (ad a)) (by show va_rf _ = _; rw [hR]; rfl) dX1_at_1 ?_
  refine g_isN (t := 2) hC hK hw (List.mem_range.mpr (by omega)) hka (by decide) q403 nc2_B dX1_at_4 ?_
  refine k_zeq (tgt := 20) hC (by decide) dX1_at_7 (by decide) (fun c7 => ?_) (fun h => absurd h (by decide))
  refine lv_aload_n hC.1 hC.2.1 dX1_at_20 rfl (lv_at hl 0 rfl) ?_
  refine g_get (C := RX1) (T := TX1) (ref := RX1) hC hK hw (List.mem_range.mpr (by omega)) hk0 (by decide) rfl in_X1 0 (by decide) q109 (fun x h => h) (v := .ref (ad a)) (by show va_rf _ = _; rw [hR]; rfl) dX1_at_21 ?_
  refine g_isY (t := 2) hC hK hw (List.mem_range.mpr (by omega)) hka (by decide) q404 dX1_at_24 ?_
  refine k_zeq (tgt := 40) hC (by decide) dX1_at_27 (by decide) (fun h => absurd h (by decide)) (fun c27 => ?_)
  refine lv_aload_n hC.1 hC.2.1 dX1_at_30 rfl (lv_at hl 0 rfl) ?_
  refine g_get (C := RX1) (T := TX1) (ref := RX1) hC hK hw (List.mem_range.mpr (by omega)) hk0 (by decide) rfl in_X1 0 (by decide) q109 (fun x h => h) (v := .ref (ad a)) (by show va_rf _ = _; rw [hR]; rfl) dX1_at_31 ?_
  refine g_cast (t := 2) hC hK hw (List.mem_range.mpr (by omega)) hka (by decide) q404 dX1_at_34 ?_
  refine lv_iload_n hC.1 hC.2.1 dX1_at_37 rfl (lv_at hl 1 rfl) ?_
  refine g_lds hC hK hw (List.mem_range.mpr ha) hka (by omega) (by omega) (v := (I a i)) (rfl) dX1_at_38 ?_
  exact M_iret hC hlk hw gGo.rf ⟨by simp only [gN]; omega, by simp only [gN]; omega⟩ hr rfl (⟨rfl, rfl⟩) dX1_at_39

set_option maxHeartbeats 800000 in
theorem tX1_at_o2 (l : Launch) (hl0 : l.stackTraces = false) (N : Nat) (ad : Nat → Nat) (K : gK) (I : mG) (R : gR) (u : Nat) (a n : Nat) (i : Int32) (hu : u < N) (hk0 : (K u).1 = 1) (hR : R u 0 = some a) (ha : a < N) (hka : K a = (20 + 2, n)) (hn : n ≤ 40) (ho : i < 0 ∨ n ≤ i.toNatClampNeg) : gMT l yX1_at (ws_ yX1_at cX1_at 2 (some FieldType.int)) ({ frames := 8, cells := 3, slots := 222, locals := 10240 } : Room) [.ref (ad u), .int i] N ad K I R "java/lang/ArrayIndexOutOfBoundsException" (fun x S => S = (N, ad, K, I, R)) := by
  refine gMT.of (by decide) (Nat.le_of_ble_eq_true rfl) ?_
  intro D dA p e s m args below meth cd ls hC hlk htb hK hX hZ hst hl hw
  have hl : lv_has ls 2 [(0, .ref (ad u)), (1, .int i)] := hl
  have nc2_B := nc_ok (s := s) 256 (A := "[S") (B := "[B") (by decide +kernel) hZ
  refine lv_aload_n hC.1 hC.2.1 dX1_at_0 rfl (lv_at hl 0 rfl) ?_
  refine g_get (C := RX1) (T := TX1) (ref := RX1) hC hK hw (List.mem_range.mpr (by omega)) hk0 (by decide) rfl in_X1 0 (by decide) q109 (fun x h => h) (v := .ref (ad a)) (by show va_rf _ = _; rw [hR]; rfl) dX1_at_1 ?_
  refine g_isN (t := 2) hC hK hw (List.mem_range.mpr (by omega)) hka (by decide) q403 nc2_B dX1_at_4 ?_
  refine k_zeq (tgt := 20) hC (by decide) dX1_at_7 (by decide) (fun c7 => ?_) (fun h => absurd h (by decide))
  refine lv_aload_n hC.1 hC.2.1 dX1_at_20 rfl (lv_at hl 0 rfl) ?_
  refine g_get (C := RX1) (T := TX1) (ref := RX1) hC hK hw (List.mem_range.mpr (by omega)) hk0 (by decide) rfl in_X1 0 (by decide) q109 (fun x h => h) (v := .ref (ad a)) (by show va_rf _ = _; rw [hR]; rfl) dX1_at_21 ?_
  refine g_isY (t := 2) hC hK hw (List.mem_range.mpr (by omega)) hka (by decide) q404 dX1_at_24 ?_
  refine k_zeq (tgt := 40) hC (by decide) dX1_at_27 (by decide) (fun h => absurd h (by decide)) (fun c27 => ?_)
  refine lv_aload_n hC.1 hC.2.1 dX1_at_30 rfl (lv_at hl 0 rfl) ?_
  refine g_get (C := RX1) (T := TX1) (ref := RX1) hC hK hw (List.mem_range.mpr (by omega)) hk0 (by decide) rfl in_X1 0 (by decide) q109 (fun x h => h) (v := .ref (ad a)) (by show va_rf _ = _; rw [hR]; rfl) dX1_at_31 ?_
  refine g_cast (t := 2) hC hK hw (List.mem_range.mpr (by omega)) hka (by decide) q404 dX1_at_34 ?_
  refine lv_iload_n hC.1 hC.2.1 dX1_at_37 rfl (lv_at hl 1 rfl) ?_
  exact L_lds (g_out (t := 2) hK hw (List.mem_range.mpr (by omega)) hka (by decide) (by omega) ho) hl0 hC hlk htb hX hZ hl.1 hw (fun _ => rfl) (by decide) (by decide) dX1_at_38

set_option maxHeartbeats 800000 in
theorem tX1_at_n (l : Launch) (hl0 : l.stackTraces = false) (N : Nat) (ad : Nat → Nat) (K : gK) (I : mG) (R : gR) (u : Nat) (i : Int32) (hu : u < N) (hk0 : (K u).1 = 1) (hR : R u 0 = none) : gMT l yX1_at (ws_ yX1_at cX1_at 2 (some FieldType.int)) ({ frames := 8, cells := 1, slots := 8, locals := 10240 } : Room) [.ref (ad u), .int i] N ad K I R "java/lang/NullPointerException" (fun x S => S = (N, ad, K, I, R)) := by
  refine gMT.of (by decide) (Nat.le_of_ble_eq_true rfl) ?_
  intro D dA p e s m args below meth cd ls hC hlk htb hK hX hZ hst hl hw
  have hl : lv_has ls 2 [(0, .ref (ad u)), (1, .int i)] := hl
  refine lv_aload_n hC.1 hC.2.1 dX1_at_0 rfl (lv_at hl 0 rfl) ?_
  refine g_get (C := RX1) (T := TX1) (ref := RX1) hC hK hw (List.mem_range.mpr (by omega)) hk0 (by decide) rfl in_X1 0 (by decide) q109 (fun x h => h) (v := .null) (by show va_rf _ = _; rw [hR]; rfl) dX1_at_1 ?_
  refine lv_instN hC.1 hC.2.1 dX1_at_4 ?_
  refine k_zeq (tgt := 20) hC (by decide) dX1_at_7 (by decide) (fun c7 => ?_) (fun h => absurd h (by decide))
  refine lv_aload_n hC.1 hC.2.1 dX1_at_20 rfl (lv_at hl 0 rfl) ?_
  refine g_get (C := RX1) (T := TX1) (ref := RX1) hC hK hw (List.mem_range.mpr (by omega)) hk0 (by decide) rfl in_X1 0 (by decide) q109 (fun x h => h) (v := .null) (by show va_rf _ = _; rw [hR]; rfl) dX1_at_21 ?_
  refine lv_instN hC.1 hC.2.1 dX1_at_24 ?_
  refine k_zeq (tgt := 40) hC (by decide) dX1_at_27 (by decide) (fun c27 => ?_) (fun h => absurd h (by decide))
  refine lv_aload_n hC.1 hC.2.1 dX1_at_40 rfl (lv_at hl 0 rfl) ?_
  refine g_get (C := RX1) (T := TX1) (ref := RX1) hC hK hw (List.mem_range.mpr (by omega)) hk0 (by decide) rfl in_X1 0 (by decide) q109 (fun x h => h) (v := .null) (by show va_rf _ = _; rw [hR]; rfl) dX1_at_41 ?_
  refine lv_castN hC.1 hC.2.1 dX1_at_44 ?_
  refine lv_iload_n hC.1 hC.2.1 dX1_at_47 rfl (lv_at hl 1 rfl) ?_
  exact L_ld0 hl0 hC hlk htb hX hZ hl.1 hw (fun _ => rfl) (by decide) (by decide) dX1_at_48

theorem nar_asl16 (x : Int32) : vp_nar .short (asL (nI 1) x) = asL (nI 1) x := by
  rw [← asl_16]
  unfold vp_nar
  rw [pk_ns]

set_option maxHeartbeats 800000 in
theorem tX1_put_r0 (l : Launch) (N : Nat) (ad : Nat → Nat) (K : gK) (I : mG) (R : gR) (u : Nat) (a n : Nat) (i : Nat) (x : Int32) (hu : u < N) (hk0 : (K u).1 = 1) (hR : R u 0 = some a) (ha : a < N) (hka : K a = (20 + 0, n)) (hn : n ≤ 40) (hi : i < n) : gMZ l yX1_put (ws_ yX1_put cX1_put 3 (some FieldType.int)) ({ frames := 1, cells := 0, slots := 0, locals := 21 } : Room) [.ref (ad u), .int (nI i), .int x] N ad K I R (fun v S => v = some (.int (x)) ∧ S = (N, ad, K, g2 I a i (x), R)) := by
  refine gMZ.of (by decide) (Nat.le_of_ble_eq_true rfl) ?_
  intro D dA p e s m args below meth cd ls hC hlk hr hK hX hZ hst hl hw
  have hl : lv_has ls 3 [(0, .ref (ad u)), (1, .int (nI i)), (2, .int x)] := hl
  have nc0_B := nc_ok (s := s) 254 (A := "[I") (B := "[B") (by decide +kernel) hZ
  have nc0_S := nc_ok (s := s) 281 (A := "[I") (B := "[S") (by decide +kernel) hZ
  refine lv_aload_n hC.1 hC.2.1 dX1_put_0 rfl (lv_at hl 0 rfl) ?_
  refine g_get (C := RX1) (T := TX1) (ref := RX1) hC hK hw (List.mem_range.mpr (by omega)) hk0 (by decide) rfl in_X1 0 (by decide) q109 (fun x h => h) (v := .ref (ad a)) (by show va_rf _ = _; rw [hR]; rfl) dX1_put_1 ?_
  refine g_isN (t := 0) hC hK hw (List.mem_range.mpr (by omega)) hka (by decide) q403 nc0_B dX1_put_4 ?_
  refine k_zeq (tgt := 24) hC (by decide) dX1_put_7 (by decide) (fun c7 => ?_) (fun h => absurd h (by decide))
  refine lv_aload_n hC.1 hC.2.1 dX1_put_24 rfl (lv_at hl 0 rfl) ?_
  refine g_get (C := RX1) (T := TX1) (ref := RX1) hC hK hw (List.mem_range.mpr (by omega)) hk0 (by decide) rfl in_X1 0 (by decide) q109 (fun x h => h) (v := .ref (ad a)) (by show va_rf _ = _; rw [hR]; rfl) dX1_put_25 ?_
  refine g_isN (t := 0) hC hK hw (List.mem_range.mpr (by omega)) hka (by decide) q404 nc0_S dX1_put_28 ?_
  refine k_zeq (tgt := 48) hC (by decide) dX1_put_31 (by decide) (fun c31 => ?_) (fun h => absurd h (by decide))
  refine lv_aload_n hC.1 hC.2.1 dX1_put_48 rfl (lv_at hl 0 rfl) ?_
  refine g_get (C := RX1) (T := TX1) (ref := RX1) hC hK hw (List.mem_range.mpr (by omega)) hk0 (by decide) rfl in_X1 0 (by decide) q109 (fun x h => h) (v := .ref (ad a)) (by show va_rf _ = _; rw [hR]; rfl) dX1_put_49 ?_
  refine g_cast (t := 0) hC hK hw (List.mem_range.mpr (by omega)) hka (by decide) q405 dX1_put_52 ?_
  refine lv_iload_n hC.1 hC.2.1 dX1_put_55 rfl (lv_at hl 1 rfl) ?_
  refine lv_iload_n hC.1 hC.2.1 dX1_put_56 rfl (lv_at hl 2 rfl) ?_
  refine g_sti hC hK hw (List.mem_range.mpr ha) hka hi (by omega) dX1_put_57 (fun H locs hw => ?_)
  refine lv_aload_n hC.1 hC.2.1 dX1_put_58 rfl (lv_at hl 0 rfl) ?_
  refine lv_iload_n hC.1 hC.2.1 dX1_put_59 rfl (lv_at hl 1 rfl) ?_
  refine Z_V (n := 1) (C := RX1) (T := TX1) hC hl.1 hK hX hZ hst hw hu hk0 (by decide) rfl (tX1_at_r0 l N ad K (g2 I a i (x)) R u a n i (hu) (hk0) (hR) (ha) (hka) (hn) (hi)) (lw_V q406 q408 qs5 q61 q409) (by decide +kernel) ⟨by decide, by decide⟩ rfl rfl (Nat.le_of_ble_eq_true rfl) dX1_put_60 ⟨by simp only [gN]; omega, by simp only [gN]; omega⟩ ?_
  rintro _ N2 ad2 K2 I2 R2 H locs ⟨rfl, e2⟩ hg hw
  cases e2
  rw [g2_at]
  exact M_iret hC hlk hw gGo.rf ⟨by simp only [gN]; omega, by simp only [gN]; omega⟩ hr rfl (⟨rfl, rfl⟩) dX1_put_63

set_option maxHeartbeats 800000 in
theorem tX1_put_o0 (l : Launch) (hl0 : l.stackTraces = false) (N : Nat) (ad : Nat → Nat) (K : gK) (I : mG) (R : gR) (u : Nat) (a n : Nat) (i : Int32) (x : Int32) (hu : u < N) (hk0 : (K u).1 = 1) (hR : R u 0 = some a) (ha : a < N) (hka : K a = (20 + 0, n)) (hn : n ≤ 40) (ho : i < 0 ∨ n ≤ i.toNatClampNeg) : gMT l yX1_put (ws_ yX1_put cX1_put 3 (some FieldType.int)) ({ frames := 8, cells := 3, slots := 222, locals := 10240 } : Room) [.ref (ad u), .int i, .int x] N ad K I R "java/lang/ArrayIndexOutOfBoundsException" (fun x S => S = (N, ad, K, I, R)) := by
  refine gMT.of (by decide) (Nat.le_of_ble_eq_true rfl) ?_
  intro D dA p e s m args below meth cd ls hC hlk htb hK hX hZ hst hl hw
  have hl : lv_has ls 3 [(0, .ref (ad u)), (1, .int i), (2, .int x)] := hl
  have nc0_B := nc_ok (s := s) 254 (A := "[I") (B := "[B") (by decide +kernel) hZ
  have nc0_S := nc_ok (s := s) 281 (A := "[I") (B := "[S") (by decide +kernel) hZ
  refine lv_aload_n hC.1 hC.2.1 dX1_put_0 rfl (lv_at hl 0 rfl) ?_
  refine g_get (C := RX1) (T := TX1) (ref := RX1) hC hK hw (List.mem_range.mpr (by omega)) hk0 (by decide) rfl in_X1 0 (by decide) q109 (fun x h => h) (v := .ref (ad a)) (by show va_rf _ = _; rw [hR]; rfl) dX1_put_1 ?_
  refine g_isN (t := 0) hC hK hw (List.mem_range.mpr (by omega)) hka (by decide) q403 nc0_B dX1_put_4 ?_
  refine k_zeq (tgt := 24) hC (by decide) dX1_put_7 (by decide) (fun c7 => ?_) (fun h => absurd h (by decide))
  refine lv_aload_n hC.1 hC.2.1 dX1_put_24 rfl (lv_at hl 0 rfl) ?_
  refine g_get (C := RX1) (T := TX1) (ref := RX1) hC hK hw (List.mem_range.mpr (by omega)) hk0 (by decide) rfl in_X1 0 (by decide) q109 (fun x h => h) (v := .ref (ad a)) (by show va_rf _ = _; rw [hR]; rfl) dX1_put_25 ?_
  refine g_isN (t := 0) hC hK hw (List.mem_range.mpr (by omega)) hka (by decide) q404 nc0_S dX1_put_28 ?_
  refine k_zeq (tgt := 48) hC (by decide) dX1_put_31 (by decide) (fun c31 => ?_) (fun h => absurd h (by decide))
  refine lv_aload_n hC.1 hC.2.1 dX1_put_48 rfl (lv_at hl 0 rfl) ?_
  refine g_get (C := RX1) (T := TX1) (ref := RX1) hC hK hw (List.mem_range.mpr (by omega)) hk0 (by decide) rfl in_X1 0 (by decide) q109 (fun x h => h) (v := .ref (ad a)) (by show va_rf _ = _; rw [hR]; rfl) dX1_put_49 ?_
  refine g_cast (t := 0) hC hK hw (List.mem_range.mpr (by omega)) hka (by decide) q405 dX1_put_52 ?_
  refine lv_iload_n hC.1 hC.2.1 dX1_put_55 rfl (lv_at hl 1 rfl) ?_
  refine lv_iload_n hC.1 hC.2.1 dX1_put_56 rfl (lv_at hl 2 rfl) ?_
  exact L_sti (g_out (t := 0) hK hw (List.mem_range.mpr (by omega)) hka (by decide) (by omega) ho) hl0 hC hlk htb hX hZ hl.1 hw (fun _ => rfl) (by decide) (by decide) dX1_put_57

set_option maxHeartbeats 800000 in
theorem tX1_put_r1 (l : Launch) (N : Nat) (ad : Nat → Nat) (K : gK) (I : mG) (R : gR) (u : Nat) (a n : Nat) (i : Nat) (x : Int32) (hu : u < N) (hk0 : (K u).1 = 1) (hR : R u 0 = some a) (ha : a < N) (hka : K a = (20 + 1, n)) (hn : n ≤ 40) (hi : i < n) : gMZ l yX1_put (ws_ yX1_put cX1_put 3 (some FieldType.int)) ({ frames := 1, cells := 0, slots := 0, locals := 21 } : Room) [.ref (ad u), .int (nI i), .int x] N ad K I R (fun v S => v = some (.int (asL (nI 0) x)) ∧ S = (N, ad, K, g2 I a i (asL (nI 0) x), R)) := by
  refine gMZ.of (by decide) (Nat.le_of_ble_eq_true rfl) ?_
  intro D dA p e s m args below meth cd ls hC hlk hr hK hX hZ hst hl hw
  have hl : lv_has ls 3 [(0, .ref (ad u)), (1, .int (nI i)), (2, .int x)] := hl
  refine lv_aload_n hC.1 hC.2.1 dX1_put_0 rfl (lv_at hl 0 rfl) ?_
  refine g_get (C := RX1) (T := TX1) (ref := RX1) hC hK hw (List.mem_range.mpr (by omega)) hk0 (by decide) rfl in_X1 0 (by decide) q109 (fun x h => h) (v := .ref (ad a)) (by show va_rf _ = _; rw [hR]; rfl) dX1_put_1 ?_
  refine g_isY (t := 1) hC hK hw (List.mem_range.mpr (by omega)) hka (by decide) q403 dX1_put_4 ?_
  refine k_zeq (tgt := 24) hC (by decide) dX1_put_7 (by decide) (fun h => absurd h (by decide)) (fun c7 => ?_)
  refine lv_aload_n hC.1 hC.2.1 dX1_put_10 rfl (lv_at hl 0 rfl) ?_
  refine g_get (C := RX1) (T := TX1) (ref := RX1) hC hK hw (List.mem_range.mpr (by omega)) hk0 (by decide) rfl in_X1 0 (by decide) q109 (fun x h => h) (v := .ref (ad a)) (by show va_rf _ = _; rw [hR]; rfl) dX1_put_11 ?_
  refine g_cast (t := 1) hC hK hw (List.mem_range.mpr (by omega)) hka (by decide) q403 dX1_put_14 ?_
  refine lv_iload_n hC.1 hC.2.1 dX1_put_17 rfl (lv_at hl 1 rfl) ?_
  refine lv_iload_n hC.1 hC.2.1 dX1_put_18 rfl (lv_at hl 2 rfl) ?_
  refine lv_i2b (v := asL (nI 0) x) hC.1 hC.2.1 dX1_put_19 (asl_8 _) ?_
  refine g_stb hC hK hw (List.mem_range.mpr ha) hka hi (by omega) dX1_put_20 (fun H locs hw => ?_)
  rw [nar_asl] at hw
  refine lv_goto (tgt := 58) hC.1 hC.2.1 dX1_put_21 (by decide) ?_
  refine lv_aload_n hC.1 hC.2.1 dX1_put_58 rfl (lv_at hl 0 rfl) ?_
  refine lv_iload_n hC.1 hC.2.1 dX1_put_59 rfl (lv_at hl 1 rfl) ?_
  refine Z_V (n := 1) (C := RX1) (T := TX1) hC hl.1 hK hX hZ hst hw hu hk0 (by decide) rfl (tX1_at_r1 l N ad K (g2 I a i (asL (nI 0) x)) R u a n i (hu) (hk0) (hR) (ha) (hka) (hn) (hi)) (lw_V q406 q408 qs5 q61 q409) (by decide +kernel) ⟨by decide, by decide⟩ rfl rfl (Nat.le_of_ble_eq_true rfl) dX1_put_60 ⟨by simp only [gN]; omega, by simp only [gN]; omega⟩ ?_
  rintro _ N2 ad2 K2 I2 R2 H locs ⟨rfl, e2⟩ hg hw
  cases e2
  rw [g2_at]
  exact M_iret hC hlk hw gGo.rf ⟨by simp only [gN]; omega, by simp only [gN]; omega⟩ hr rfl (⟨rfl, rfl⟩) dX1_put_63

set_option maxHeartbeats 800000 in
theorem tX1_put_o1 (l : Launch) (hl0 : l.stackTraces = false) (N : Nat) (ad : Nat → Nat) (K : gK) (I : mG) (R : gR) (u : Nat) (a n : Nat) (i : Int32) (x : Int32) (hu : u < N) (hk0 : (K u).1 = 1) (hR : R u 0 = some a) (ha : a < N) (hka : K a = (20 + 1, n)) (hn : n ≤ 40) (ho : i < 0 ∨ n ≤ i.toNatClampNeg) : gMT l yX1_put (ws_ yX1_put cX1_put 3 (some FieldType.int)) ({ frames := 8, cells := 3, slots := 222, locals := 10240 } : Room) [.ref (ad u), .int i, .int x] N ad K I R "java/lang/ArrayIndexOutOfBoundsException" (fun x S => S = (N, ad, K, I, R)) := by
  refine gMT.of (by decide) (Nat.le_of_ble_eq_true rfl) ?_
  intro D dA p e s m args below meth cd ls hC hlk htb hK hX hZ hst hl hw
  have hl : lv_has ls 3 [(0, .ref (ad u)), (1, .int i), (2, .int x)] := hl
  refine lv_aload_n hC.1 hC.2.1 dX1_put_0 rfl (lv_at hl 0 rfl) ?_
  refine g_get (C := RX1) (T := TX1) (ref := RX1) hC hK hw (List.mem_range.mpr (by omega)) hk0 (by decide) rfl in_X1 0 (by decide) q109 (fun x h => h) (v := .ref (ad a)) (by show va_rf _ = _; rw [hR]; rfl) dX1_put_1 ?_
  refine g_isY (t := 1) hC hK hw (List.mem_range.mpr (by omega)) hka (by decide) q403 dX1_put_4 ?_
  refine k_zeq (tgt := 24) hC (by decide) dX1_put_7 (by decide) (fun h => absurd h (by decide)) (fun c7 => ?_)
  refine lv_aload_n hC.1 hC.2.1 dX1_put_10 rfl (lv_at hl 0 rfl) ?_
  refine g_get (C := RX1) (T := TX1) (ref := RX1) hC hK hw (List.mem_range.mpr (by omega)) hk0 (by decide) rfl in_X1 0 (by decide) q109 (fun x h => h) (v := .ref (ad a)) (by show va_rf _ = _; rw [hR]; rfl) dX1_put_11 ?_
  refine g_cast (t := 1) hC hK hw (List.mem_range.mpr (by omega)) hka (by decide) q403 dX1_put_14 ?_
  refine lv_iload_n hC.1 hC.2.1 dX1_put_17 rfl (lv_at hl 1 rfl) ?_
  refine lv_iload_n hC.1 hC.2.1 dX1_put_18 rfl (lv_at hl 2 rfl) ?_
  refine lv_i2b (v := asL (nI 0) x) hC.1 hC.2.1 dX1_put_19 (asl_8 _) ?_
  exact L_stb (g_out (t := 1) hK hw (List.mem_range.mpr (by omega)) hka (by decide) (by omega) ho) hl0 hC hlk htb hX hZ hl.1 hw (fun _ => rfl) (by decide) (by decide) dX1_put_20

set_option maxHeartbeats 800000 in
theorem tX1_put_r2 (l : Launch) (N : Nat) (ad : Nat → Nat) (K : gK) (I : mG) (R : gR) (u : Nat) (a n : Nat) (i : Nat) (x : Int32) (hu : u < N) (hk0 : (K u).1 = 1) (hR : R u 0 = some a) (ha : a < N) (hka : K a = (20 + 2, n)) (hn : n ≤ 40) (hi : i < n) : gMZ l yX1_put (ws_ yX1_put cX1_put 3 (some FieldType.int)) ({ frames := 1, cells := 0, slots := 0, locals := 21 } : Room) [.ref (ad u), .int (nI i), .int x] N ad K I R (fun v S => v = some (.int (asL (nI 1) x)) ∧ S = (N, ad, K, g2 I a i (asL (nI 1) x), R)) := by
  refine gMZ.of (by decide) (Nat.le_of_ble_eq_true rfl) ?_
  intro D dA p e s m args below meth cd ls hC hlk hr hK hX hZ hst hl hw
  have hl : lv_has ls 3 [(0, .ref (ad u)), (1, .int (nI i)), (2, .int x)] := hl
  have nc2_B := nc_ok (s := s) 256 (A := "[S") (B := "[B") (by decide +kernel) hZ
  refine lv_aload_n hC.1 hC.2.1 dX1_put_0 rfl (lv_at hl 0 rfl) ?_
  refine g_get (C := RX1) (T := TX1) (ref := RX1) hC hK hw (List.mem_range.mpr (by omega)) hk0 (by decide) rfl in_X1 0 (by decide) q109 (fun x h => h) (v := .ref (ad a)) (by show va_rf _ = _; rw [hR]; rfl) dX1_put_1 ?_
  refine g_isN (t := 2) hC hK hw (List.mem_range.mpr (by omega)) hka (by decide) q403 nc2_B dX1_put_4 ?_
  refine k_zeq (tgt := 24) hC (by decide) dX1_put_7 (by decide) (fun c7 => ?_) (fun h => absurd h (by decide))
  refine lv_aload_n hC.1 hC.2.1 dX1_put_24 rfl (lv_at hl 0 rfl) ?_
  refine g_get (C := RX1) (T := TX1) (ref := RX1) hC hK hw (List.mem_range.mpr (by omega)) hk0 (by decide) rfl in_X1 0 (by decide) q109 (fun x h => h) (v := .ref (ad a)) (by show va_rf _ = _; rw [hR]; rfl) dX1_put_25 ?_
  refine g_isY (t := 2) hC hK hw (List.mem_range.mpr (by omega)) hka (by decide) q404 dX1_put_28 ?_
  refine k_zeq (tgt := 48) hC (by decide) dX1_put_31 (by decide) (fun h => absurd h (by decide)) (fun c31 => ?_)
  refine lv_aload_n hC.1 hC.2.1 dX1_put_34 rfl (lv_at hl 0 rfl) ?_
  refine g_get (C := RX1) (T := TX1) (ref := RX1) hC hK hw (List.mem_range.mpr (by omega)) hk0 (by decide) rfl in_X1 0 (by decide) q109 (fun x h => h) (v := .ref (ad a)) (by show va_rf _ = _; rw [hR]; rfl) dX1_put_35 ?_
  refine g_cast (t := 2) hC hK hw (List.mem_range.mpr (by omega)) hka (by decide) q404 dX1_put_38 ?_
  refine lv_iload_n hC.1 hC.2.1 dX1_put_41 rfl (lv_at hl 1 rfl) ?_
  refine lv_iload_n hC.1 hC.2.1 dX1_put_42 rfl (lv_at hl 2 rfl) ?_
  refine lv_i2s (v := asL (nI 1) x) hC.1 hC.2.1 dX1_put_43 (asl_16 _) ?_
  refine g_sts hC hK hw (List.mem_range.mpr ha) hka hi (by omega) dX1_put_44 (fun H locs hw => ?_)
  rw [nar_asl16] at hw
  refine lv_goto (tgt := 58) hC.1 hC.2.1 dX1_put_45 (by decide) ?_
  refine lv_aload_n hC.1 hC.2.1 dX1_put_58 rfl (lv_at hl 0 rfl) ?_
  refine lv_iload_n hC.1 hC.2.1 dX1_put_59 rfl (lv_at hl 1 rfl) ?_
  refine Z_V (n := 1) (C := RX1) (T := TX1) hC hl.1 hK hX hZ hst hw hu hk0 (by decide) rfl (tX1_at_r2 l N ad K (g2 I a i (asL (nI 1) x)) R u a n i (hu) (hk0) (hR) (ha) (hka) (hn) (hi)) (lw_V q406 q408 qs5 q61 q409) (by decide +kernel) ⟨by decide, by decide⟩ rfl rfl (Nat.le_of_ble_eq_true rfl) dX1_put_60 ⟨by simp only [gN]; omega, by simp only [gN]; omega⟩ ?_
  rintro _ N2 ad2 K2 I2 R2 H locs ⟨rfl, e2⟩ hg hw
  cases e2
  rw [g2_at]
  exact M_iret hC hlk hw gGo.rf ⟨by simp only [gN]; omega, by simp only [gN]; omega⟩ hr rfl (⟨rfl, rfl⟩) dX1_put_63

set_option maxHeartbeats 800000 in
theorem tX1_put_o2 (l : Launch) (hl0 : l.stackTraces = false) (N : Nat) (ad : Nat → Nat) (K : gK) (I : mG) (R : gR) (u : Nat) (a n : Nat) (i : Int32) (x : Int32) (hu : u < N) (hk0 : (K u).1 = 1) (hR : R u 0 = some a) (ha : a < N) (hka : K a = (20 + 2, n)) (hn : n ≤ 40) (ho : i < 0 ∨ n ≤ i.toNatClampNeg) : gMT l yX1_put (ws_ yX1_put cX1_put 3 (some FieldType.int)) ({ frames := 8, cells := 3, slots := 222, locals := 10240 } : Room) [.ref (ad u), .int i, .int x] N ad K I R "java/lang/ArrayIndexOutOfBoundsException" (fun x S => S = (N, ad, K, I, R)) := by
  refine gMT.of (by decide) (Nat.le_of_ble_eq_true rfl) ?_
  intro D dA p e s m args below meth cd ls hC hlk htb hK hX hZ hst hl hw
  have hl : lv_has ls 3 [(0, .ref (ad u)), (1, .int i), (2, .int x)] := hl
  have nc2_B := nc_ok (s := s) 256 (A := "[S") (B := "[B") (by decide +kernel) hZ
  refine lv_aload_n hC.1 hC.2.1 dX1_put_0 rfl (lv_at hl 0 rfl) ?_
  refine g_get (C := RX1) (T := TX1) (ref := RX1) hC hK hw (List.mem_range.mpr (by omega)) hk0 (by decide) rfl in_X1 0 (by decide) q109 (fun x h => h) (v := .ref (ad a)) (by show va_rf _ = _; rw [hR]; rfl) dX1_put_1 ?_
  refine g_isN (t := 2) hC hK hw (List.mem_range.mpr (by omega)) hka (by decide) q403 nc2_B dX1_put_4 ?_
  refine k_zeq (tgt := 24) hC (by decide) dX1_put_7 (by decide) (fun c7 => ?_) (fun h => absurd h (by decide))
  refine lv_aload_n hC.1 hC.2.1 dX1_put_24 rfl (lv_at hl 0 rfl) ?_
  refine g_get (C := RX1) (T := TX1) (ref := RX1) hC hK hw (List.mem_range.mpr (by omega)) hk0 (by decide) rfl in_X1 0 (by decide) q109 (fun x h => h) (v := .ref (ad a)) (by show va_rf _ = _; rw [hR]; rfl) dX1_put_25 ?_
  refine g_isY (t := 2) hC hK hw (List.mem_range.mpr (by omega)) hka (by decide) q404 dX1_put_28 ?_
  refine k_zeq (tgt := 48) hC (by decide) dX1_put_31 (by decide) (fun h => absurd h (by decide)) (fun c31 => ?_)
  refine lv_aload_n hC.1 hC.2.1 dX1_put_34 rfl (lv_at hl 0 rfl) ?_
  refine g_get (C := RX1) (T := TX1) (ref := RX1) hC hK hw (List.mem_range.mpr (by omega)) hk0 (by decide) rfl in_X1 0 (by decide) q109 (fun x h => h) (v := .ref (ad a)) (by show va_rf _ = _; rw [hR]; rfl) dX1_put_35 ?_
  refine g_cast (t := 2) hC hK hw (List.mem_range.mpr (by omega)) hka (by decide) q404 dX1_put_38 ?_
  refine lv_iload_n hC.1 hC.2.1 dX1_put_41 rfl (lv_at hl 1 rfl) ?_
  refine lv_iload_n hC.1 hC.2.1 dX1_put_42 rfl (lv_at hl 2 rfl) ?_
  refine lv_i2s (v := asL (nI 1) x) hC.1 hC.2.1 dX1_put_43 (asl_16 _) ?_
  exact L_sts (g_out (t := 2) hK hw (List.mem_range.mpr (by omega)) hka (by decide) (by omega) ho) hl0 hC hlk htb hX hZ hl.1 hw (fun _ => rfl) (by decide) (by decide) dX1_put_44

set_option maxHeartbeats 800000 in
theorem tX1_put_n (l : Launch) (hl0 : l.stackTraces = false) (N : Nat) (ad : Nat → Nat) (K : gK) (I : mG) (R : gR) (u : Nat) (i : Int32) (x : Int32) (hu : u < N) (hk0 : (K u).1 = 1) (hR : R u 0 = none) : gMT l yX1_put (ws_ yX1_put cX1_put 3 (some FieldType.int)) ({ frames := 8, cells := 1, slots := 8, locals := 10240 } : Room) [.ref (ad u), .int i, .int x] N ad K I R "java/lang/NullPointerException" (fun _ S => S = (N, ad, K, I, R)) := by
  refine gMT.of (by decide) (Nat.le_of_ble_eq_true rfl) ?_
  intro D dA p e s m args below meth cd ls hC hlk htb hK hX hZ hst hl hw
  have hl : lv_has ls 3 [(0, .ref (ad u)), (1, .int i), (2, .int x)] := hl
  refine lv_aload_n hC.1 hC.2.1 dX1_put_0 rfl (lv_at hl 0 rfl) ?_
  refine g_get (C := RX1) (T := TX1) (ref := RX1) hC hK hw (List.mem_range.mpr (by omega)) hk0 (by decide) rfl in_X1 0 (by decide) q109 (fun x h => h) (v := .null) (by show va_rf _ = _; rw [hR]; rfl) dX1_put_1 ?_
  refine lv_instN hC.1 hC.2.1 dX1_put_4 ?_
  refine k_zeq (tgt := 24) hC (by decide) dX1_put_7 (by decide) (fun c7 => ?_) (fun h => absurd h (by decide))
  refine lv_aload_n hC.1 hC.2.1 dX1_put_24 rfl (lv_at hl 0 rfl) ?_
  refine g_get (C := RX1) (T := TX1) (ref := RX1) hC hK hw (List.mem_range.mpr (by omega)) hk0 (by decide) rfl in_X1 0 (by decide) q109 (fun x h => h) (v := .null) (by show va_rf _ = _; rw [hR]; rfl) dX1_put_25 ?_
  refine lv_instN hC.1 hC.2.1 dX1_put_28 ?_
  refine k_zeq (tgt := 48) hC (by decide) dX1_put_31 (by decide) (fun c31 => ?_) (fun h => absurd h (by decide))
  refine lv_aload_n hC.1 hC.2.1 dX1_put_48 rfl (lv_at hl 0 rfl) ?_
  refine g_get (C := RX1) (T := TX1) (ref := RX1) hC hK hw (List.mem_range.mpr (by omega)) hk0 (by decide) rfl in_X1 0 (by decide) q109 (fun x h => h) (v := .null) (by show va_rf _ = _; rw [hR]; rfl) dX1_put_49 ?_
  refine lv_castN hC.1 hC.2.1 dX1_put_52 ?_
  refine lv_iload_n hC.1 hC.2.1 dX1_put_55 rfl (lv_at hl 1 rfl) ?_
  refine lv_iload_n hC.1 hC.2.1 dX1_put_56 rfl (lv_at hl 2 rfl) ?_
  exact L_st0 hl0 hC hlk htb hX hZ hl.1 hw (fun _ => rfl) (by decide) (by decide) dX1_put_57
