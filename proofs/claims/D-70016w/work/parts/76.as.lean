/-! ===== WindCarver: taken, as (by gen/w76.py) ===== -/
set_option maxHeartbeats 800000 in
theorem tX0_taken_r (l : Launch) (N : Nat) (ad : Nat → Nat) (K : gK) (I : mG) (R : gR) (w : Nat) (c : Nat) (k : Nat) (h0 : w < N) (h1 : (K w).1 = 3 + k) (h2 : 1 ≤ k ∧ k ≤ 5) (h3 : c ≤ 5) (hkd : isKd (nI k) (nI c) = true) : gMZ l yX0_taken (ws_ yX0_taken cX0_taken 2 (some (FieldType.object "WindCarver$Work"))) ({ frames := 0, cells := 0, slots := 0, locals := 0 } : Room) [.ref (ad w), .int (nI c)] N ad K I R (fun v S => v = some (.ref (ad w)) ∧ S = (N, ad, K, I, R)) := by
  refine gMZ.of (by decide) (Nat.le_of_ble_eq_true rfl) ?_
  intro D dA p e s m args below meth cd ls hC hlk hr hK hX hZ hst hl hw
  have hl : lv_has ls 2 [(0, .ref (ad w)), (1, .int (nI c))] := hl
  have hk5 : k = 1 ∨ k = 2 ∨ k = 3 ∨ k = 4 ∨ k = 5 := by omega
  have hc6 : c = 0 ∨ c = 1 ∨ c = 2 ∨ c = 3 ∨ c = 4 ∨ c = 5 := by omega
  rcases hk5 with rfl | rfl | rfl | rfl | rfl
  · rcases hc6 with rfl | rfl | rfl | rfl | rfl | rfl
    · refine lv_iload_n hC.1 hC.2.1 dX0_taken_0 rfl (lv_at hl 1 rfl) ?_
      refine lv_tableIn (off := 35) (tgt := 36) hC.1 hC.2.1 dX0_taken_1 (by decide) (by decide) (by decide) (by decide) ?_
      refine lv_aload_n hC.1 hC.2.1 dX0_taken_36 rfl (lv_at hl 0 rfl) ?_
      refine va_castY (C := RX5) hC.1 hC.2.1 hC.2.2.2.1 (hC.2.2.2.2 _ q185) (hX _ q1508 rfl) (g_recv hK hw (List.mem_range.mpr h0) h1 (by decide) rfl) dX0_taken_37 ?_
      exact M_aret hC hlk hw gGo.rf ⟨by simp only [gN]; omega, by simp only [gN]; omega⟩ hr (Or.inl ⟨_, rfl⟩) (Or.inr ⟨_, rfl⟩) (⟨rfl, rfl⟩) dX0_taken_40
    · refine lv_iload_n hC.1 hC.2.1 dX0_taken_0 rfl (lv_at hl 1 rfl) ?_
      refine lv_tableIn (off := 40) (tgt := 41) hC.1 hC.2.1 dX0_taken_1 (by decide) (by decide) (by decide) (by decide) ?_
      refine lv_aload_n hC.1 hC.2.1 dX0_taken_41 rfl (lv_at hl 0 rfl) ?_
      refine va_castE hC.1 hC.2.1 hC.2.2.2.1 (hC.2.2.2.2 _ q186) (g_recv hK hw (List.mem_range.mpr h0) h1 (by decide) rfl) dX0_taken_42 ?_
      exact M_aret hC hlk hw gGo.rf ⟨by simp only [gN]; omega, by simp only [gN]; omega⟩ hr (Or.inl ⟨_, rfl⟩) (Or.inr ⟨_, rfl⟩) (⟨rfl, rfl⟩) dX0_taken_45
    · exact absurd hkd (by decide)
    · exact absurd hkd (by decide)
    · exact absurd hkd (by decide)
    · exact absurd hkd (by decide)
  · rcases hc6 with rfl | rfl | rfl | rfl | rfl | rfl
    · refine lv_iload_n hC.1 hC.2.1 dX0_taken_0 rfl (lv_at hl 1 rfl) ?_
      refine lv_tableIn (off := 35) (tgt := 36) hC.1 hC.2.1 dX0_taken_1 (by decide) (by decide) (by decide) (by decide) ?_
      refine lv_aload_n hC.1 hC.2.1 dX0_taken_36 rfl (lv_at hl 0 rfl) ?_
      refine va_castY (C := RX9) hC.1 hC.2.1 hC.2.2.2.1 (hC.2.2.2.2 _ q185) (hX _ q1505 rfl) (g_recv hK hw (List.mem_range.mpr h0) h1 (by decide) rfl) dX0_taken_37 ?_
      exact M_aret hC hlk hw gGo.rf ⟨by simp only [gN]; omega, by simp only [gN]; omega⟩ hr (Or.inl ⟨_, rfl⟩) (Or.inr ⟨_, rfl⟩) (⟨rfl, rfl⟩) dX0_taken_40
    · refine lv_iload_n hC.1 hC.2.1 dX0_taken_0 rfl (lv_at hl 1 rfl) ?_
      refine lv_tableIn (off := 40) (tgt := 41) hC.1 hC.2.1 dX0_taken_1 (by decide) (by decide) (by decide) (by decide) ?_
      refine lv_aload_n hC.1 hC.2.1 dX0_taken_41 rfl (lv_at hl 0 rfl) ?_
      refine va_castY (C := RX9) hC.1 hC.2.1 hC.2.2.2.1 (hC.2.2.2.2 _ q186) (hX _ q1509 rfl) (g_recv hK hw (List.mem_range.mpr h0) h1 (by decide) rfl) dX0_taken_42 ?_
      exact M_aret hC hlk hw gGo.rf ⟨by simp only [gN]; omega, by simp only [gN]; omega⟩ hr (Or.inl ⟨_, rfl⟩) (Or.inr ⟨_, rfl⟩) (⟨rfl, rfl⟩) dX0_taken_45
    · refine lv_iload_n hC.1 hC.2.1 dX0_taken_0 rfl (lv_at hl 1 rfl) ?_
      refine lv_tableIn (off := 45) (tgt := 46) hC.1 hC.2.1 dX0_taken_1 (by decide) (by decide) (by decide) (by decide) ?_
      refine lv_aload_n hC.1 hC.2.1 dX0_taken_46 rfl (lv_at hl 0 rfl) ?_
      refine va_castE hC.1 hC.2.1 hC.2.2.2.1 (hC.2.2.2.2 _ q652) (g_recv hK hw (List.mem_range.mpr h0) h1 (by decide) rfl) dX0_taken_47 ?_
      exact M_aret hC hlk hw gGo.rf ⟨by simp only [gN]; omega, by simp only [gN]; omega⟩ hr (Or.inl ⟨_, rfl⟩) (Or.inr ⟨_, rfl⟩) (⟨rfl, rfl⟩) dX0_taken_50
    · exact absurd hkd (by decide)
    · exact absurd hkd (by decide)
    · exact absurd hkd (by decide)
  · rcases hc6 with rfl | rfl | rfl | rfl | rfl | rfl
    · refine lv_iload_n hC.1 hC.2.1 dX0_taken_0 rfl (lv_at hl 1 rfl) ?_
      refine lv_tableIn (off := 35) (tgt := 36) hC.1 hC.2.1 dX0_taken_1 (by decide) (by decide) (by decide) (by decide) ?_
      refine lv_aload_n hC.1 hC.2.1 dX0_taken_36 rfl (lv_at hl 0 rfl) ?_
      refine va_castY (C := RX10) hC.1 hC.2.1 hC.2.2.2.1 (hC.2.2.2.2 _ q185) (hX _ q1506 rfl) (g_recv hK hw (List.mem_range.mpr h0) h1 (by decide) rfl) dX0_taken_37 ?_
      exact M_aret hC hlk hw gGo.rf ⟨by simp only [gN]; omega, by simp only [gN]; omega⟩ hr (Or.inl ⟨_, rfl⟩) (Or.inr ⟨_, rfl⟩) (⟨rfl, rfl⟩) dX0_taken_40
    · refine lv_iload_n hC.1 hC.2.1 dX0_taken_0 rfl (lv_at hl 1 rfl) ?_
      refine lv_tableIn (off := 40) (tgt := 41) hC.1 hC.2.1 dX0_taken_1 (by decide) (by decide) (by decide) (by decide) ?_
      refine lv_aload_n hC.1 hC.2.1 dX0_taken_41 rfl (lv_at hl 0 rfl) ?_
      refine va_castY (C := RX10) hC.1 hC.2.1 hC.2.2.2.1 (hC.2.2.2.2 _ q186) (hX _ q1510 rfl) (g_recv hK hw (List.mem_range.mpr h0) h1 (by decide) rfl) dX0_taken_42 ?_
      exact M_aret hC hlk hw gGo.rf ⟨by simp only [gN]; omega, by simp only [gN]; omega⟩ hr (Or.inl ⟨_, rfl⟩) (Or.inr ⟨_, rfl⟩) (⟨rfl, rfl⟩) dX0_taken_45
    · exact absurd hkd (by decide)
    · refine lv_iload_n hC.1 hC.2.1 dX0_taken_0 rfl (lv_at hl 1 rfl) ?_
      refine lv_tableIn (off := 50) (tgt := 51) hC.1 hC.2.1 dX0_taken_1 (by decide) (by decide) (by decide) (by decide) ?_
      refine lv_aload_n hC.1 hC.2.1 dX0_taken_51 rfl (lv_at hl 0 rfl) ?_
      refine va_castE hC.1 hC.2.1 hC.2.2.2.1 (hC.2.2.2.2 _ q661) (g_recv hK hw (List.mem_range.mpr h0) h1 (by decide) rfl) dX0_taken_52 ?_
      exact M_aret hC hlk hw gGo.rf ⟨by simp only [gN]; omega, by simp only [gN]; omega⟩ hr (Or.inl ⟨_, rfl⟩) (Or.inr ⟨_, rfl⟩) (⟨rfl, rfl⟩) dX0_taken_55
    · exact absurd hkd (by decide)
    · exact absurd hkd (by decide)
  · rcases hc6 with rfl | rfl | rfl | rfl | rfl | rfl
    · refine lv_iload_n hC.1 hC.2.1 dX0_taken_0 rfl (lv_at hl 1 rfl) ?_
      refine lv_tableIn (off := 35) (tgt := 36) hC.1 hC.2.1 dX0_taken_1 (by decide) (by decide) (by decide) (by decide) ?_
      refine lv_aload_n hC.1 hC.2.1 dX0_taken_36 rfl (lv_at hl 0 rfl) ?_
      refine va_castY (C := RX11) hC.1 hC.2.1 hC.2.2.2.1 (hC.2.2.2.2 _ q185) (hX _ q1504 rfl) (g_recv hK hw (List.mem_range.mpr h0) h1 (by decide) rfl) dX0_taken_37 ?_
      exact M_aret hC hlk hw gGo.rf ⟨by simp only [gN]; omega, by simp only [gN]; omega⟩ hr (Or.inl ⟨_, rfl⟩) (Or.inr ⟨_, rfl⟩) (⟨rfl, rfl⟩) dX0_taken_40
    · exact absurd hkd (by decide)
    · exact absurd hkd (by decide)
    · exact absurd hkd (by decide)
    · refine lv_iload_n hC.1 hC.2.1 dX0_taken_0 rfl (lv_at hl 1 rfl) ?_
      refine lv_tableIn (off := 55) (tgt := 56) hC.1 hC.2.1 dX0_taken_1 (by decide) (by decide) (by decide) (by decide) ?_
      refine lv_aload_n hC.1 hC.2.1 dX0_taken_56 rfl (lv_at hl 0 rfl) ?_
      refine va_castE hC.1 hC.2.1 hC.2.2.2.1 (hC.2.2.2.2 _ q670) (g_recv hK hw (List.mem_range.mpr h0) h1 (by decide) rfl) dX0_taken_57 ?_
      exact M_aret hC hlk hw gGo.rf ⟨by simp only [gN]; omega, by simp only [gN]; omega⟩ hr (Or.inl ⟨_, rfl⟩) (Or.inr ⟨_, rfl⟩) (⟨rfl, rfl⟩) dX0_taken_60
    · exact absurd hkd (by decide)
  · rcases hc6 with rfl | rfl | rfl | rfl | rfl | rfl
    · refine lv_iload_n hC.1 hC.2.1 dX0_taken_0 rfl (lv_at hl 1 rfl) ?_
      refine lv_tableIn (off := 35) (tgt := 36) hC.1 hC.2.1 dX0_taken_1 (by decide) (by decide) (by decide) (by decide) ?_
      refine lv_aload_n hC.1 hC.2.1 dX0_taken_36 rfl (lv_at hl 0 rfl) ?_
      refine va_castY (C := RX12) hC.1 hC.2.1 hC.2.2.2.1 (hC.2.2.2.2 _ q185) (hX _ q1507 rfl) (g_recv hK hw (List.mem_range.mpr h0) h1 (by decide) rfl) dX0_taken_37 ?_
      exact M_aret hC hlk hw gGo.rf ⟨by simp only [gN]; omega, by simp only [gN]; omega⟩ hr (Or.inl ⟨_, rfl⟩) (Or.inr ⟨_, rfl⟩) (⟨rfl, rfl⟩) dX0_taken_40
    · exact absurd hkd (by decide)
    · exact absurd hkd (by decide)
    · exact absurd hkd (by decide)
    · refine lv_iload_n hC.1 hC.2.1 dX0_taken_0 rfl (lv_at hl 1 rfl) ?_
      refine lv_tableIn (off := 55) (tgt := 56) hC.1 hC.2.1 dX0_taken_1 (by decide) (by decide) (by decide) (by decide) ?_
      refine lv_aload_n hC.1 hC.2.1 dX0_taken_56 rfl (lv_at hl 0 rfl) ?_
      refine va_castY (C := RX12) hC.1 hC.2.1 hC.2.2.2.1 (hC.2.2.2.2 _ q670) (hX _ q1511 rfl) (g_recv hK hw (List.mem_range.mpr h0) h1 (by decide) rfl) dX0_taken_57 ?_
      exact M_aret hC hlk hw gGo.rf ⟨by simp only [gN]; omega, by simp only [gN]; omega⟩ hr (Or.inl ⟨_, rfl⟩) (Or.inr ⟨_, rfl⟩) (⟨rfl, rfl⟩) dX0_taken_60
    · refine lv_iload_n hC.1 hC.2.1 dX0_taken_0 rfl (lv_at hl 1 rfl) ?_
      refine lv_tableOut (tgt := 61) hC.1 hC.2.1 dX0_taken_1 (by decide) (by decide) ?_
      refine lv_aload_n hC.1 hC.2.1 dX0_taken_61 rfl (lv_at hl 0 rfl) ?_
      refine va_castE hC.1 hC.2.1 hC.2.2.2.1 (hC.2.2.2.2 _ q679) (g_recv hK hw (List.mem_range.mpr h0) h1 (by decide) rfl) dX0_taken_62 ?_
      exact M_aret hC hlk hw gGo.rf ⟨by simp only [gN]; omega, by simp only [gN]; omega⟩ hr (Or.inl ⟨_, rfl⟩) (Or.inr ⟨_, rfl⟩) (⟨rfl, rfl⟩) dX0_taken_65

set_option maxHeartbeats 800000 in
theorem tX0_taken_o (l : Launch) (hl0 : l.stackTraces = false) (N : Nat) (ad : Nat → Nat) (K : gK) (I : mG) (R : gR) (w : Nat) (c : Nat) (k : Nat) (h0 : w < N) (h1 : (K w).1 = 3 + k) (h2 : 1 ≤ k ∧ k ≤ 5) (h3 : c ≤ 5) (hkd : isKd (nI k) (nI c) = false) : gMT l yX0_taken (ws_ yX0_taken cX0_taken 2 (some (FieldType.object "WindCarver$Work"))) ({ frames := 8, cells := 3, slots := 1010, locals := 10260 } : Room) [.ref (ad w), .int (nI c)] N ad K I R "java/lang/ClassCastException" (fun x S => S = (N, ad, K, I, R)) := by
  refine gMT.of (by decide) (Nat.le_of_ble_eq_true rfl) ?_
  intro D dA p e s m args below meth cd ls hC hlk htb hK hX hZ hst hl hw
  have hl : lv_has ls 2 [(0, .ref (ad w)), (1, .int (nI c))] := hl
  have hk5 : k = 1 ∨ k = 2 ∨ k = 3 ∨ k = 4 ∨ k = 5 := by omega
  have hc6 : c = 0 ∨ c = 1 ∨ c = 2 ∨ c = 3 ∨ c = 4 ∨ c = 5 := by omega
  rcases hk5 with rfl | rfl | rfl | rfl | rfl
  · rcases hc6 with rfl | rfl | rfl | rfl | rfl | rfl
    · exact absurd hkd (by decide)
    · exact absurd hkd (by decide)
    · refine lv_iload_n hC.1 hC.2.1 dX0_taken_0 rfl (lv_at hl 1 rfl) ?_
      refine lv_tableIn (off := 45) (tgt := 46) hC.1 hC.2.1 dX0_taken_1 (by decide) (by decide) (by decide) (by decide) ?_
      refine lv_aload_n hC.1 hC.2.1 dX0_taken_46 rfl (lv_at hl 0 rfl) ?_
      exact L_cast q652 (nc_ok 169 (by decide +kernel) hZ) (g_recv hK hw (List.mem_range.mpr h0) h1 (by decide) rfl) (by decide) (by decide) hl0 hC hlk htb hX hZ hl.1 hw (fun _ => rfl) ⟨by decide, (show (1 + 0) + 10240 ≤ 10260 from by decide), by decide, by decide⟩ (by decide) dX0_taken_47
    · refine lv_iload_n hC.1 hC.2.1 dX0_taken_0 rfl (lv_at hl 1 rfl) ?_
      refine lv_tableIn (off := 50) (tgt := 51) hC.1 hC.2.1 dX0_taken_1 (by decide) (by decide) (by decide) (by decide) ?_
      refine lv_aload_n hC.1 hC.2.1 dX0_taken_51 rfl (lv_at hl 0 rfl) ?_
      exact L_cast q661 (nc_ok 186 (by decide +kernel) hZ) (g_recv hK hw (List.mem_range.mpr h0) h1 (by decide) rfl) (by decide) (by decide) hl0 hC hlk htb hX hZ hl.1 hw (fun _ => rfl) ⟨by decide, (show (1 + 0) + 10240 ≤ 10260 from by decide), by decide, by decide⟩ (by decide) dX0_taken_52
    · refine lv_iload_n hC.1 hC.2.1 dX0_taken_0 rfl (lv_at hl 1 rfl) ?_
      refine lv_tableIn (off := 55) (tgt := 56) hC.1 hC.2.1 dX0_taken_1 (by decide) (by decide) (by decide) (by decide) ?_
      refine lv_aload_n hC.1 hC.2.1 dX0_taken_56 rfl (lv_at hl 0 rfl) ?_
      exact L_cast q670 (nc_ok 203 (by decide +kernel) hZ) (g_recv hK hw (List.mem_range.mpr h0) h1 (by decide) rfl) (by decide) (by decide) hl0 hC hlk htb hX hZ hl.1 hw (fun _ => rfl) ⟨by decide, (show (1 + 0) + 10240 ≤ 10260 from by decide), by decide, by decide⟩ (by decide) dX0_taken_57
    · refine lv_iload_n hC.1 hC.2.1 dX0_taken_0 rfl (lv_at hl 1 rfl) ?_
      refine lv_tableOut (tgt := 61) hC.1 hC.2.1 dX0_taken_1 (by decide) (by decide) ?_
      refine lv_aload_n hC.1 hC.2.1 dX0_taken_61 rfl (lv_at hl 0 rfl) ?_
      exact L_cast q679 (nc_ok 219 (by decide +kernel) hZ) (g_recv hK hw (List.mem_range.mpr h0) h1 (by decide) rfl) (by decide) (by decide) hl0 hC hlk htb hX hZ hl.1 hw (fun _ => rfl) ⟨by decide, (show (1 + 0) + 10240 ≤ 10260 from by decide), by decide, by decide⟩ (by decide) dX0_taken_62
  · rcases hc6 with rfl | rfl | rfl | rfl | rfl | rfl
    · exact absurd hkd (by decide)
    · exact absurd hkd (by decide)
    · exact absurd hkd (by decide)
    · refine lv_iload_n hC.1 hC.2.1 dX0_taken_0 rfl (lv_at hl 1 rfl) ?_
      refine lv_tableIn (off := 50) (tgt := 51) hC.1 hC.2.1 dX0_taken_1 (by decide) (by decide) (by decide) (by decide) ?_
      refine lv_aload_n hC.1 hC.2.1 dX0_taken_51 rfl (lv_at hl 0 rfl) ?_
      exact L_cast q661 (nc_ok 194 (by decide +kernel) hZ) (g_recv hK hw (List.mem_range.mpr h0) h1 (by decide) rfl) (by decide) (by decide) hl0 hC hlk htb hX hZ hl.1 hw (fun _ => rfl) ⟨by decide, (show (1 + 0) + 10240 ≤ 10260 from by decide), by decide, by decide⟩ (by decide) dX0_taken_52
    · refine lv_iload_n hC.1 hC.2.1 dX0_taken_0 rfl (lv_at hl 1 rfl) ?_
      refine lv_tableIn (off := 55) (tgt := 56) hC.1 hC.2.1 dX0_taken_1 (by decide) (by decide) (by decide) (by decide) ?_
      refine lv_aload_n hC.1 hC.2.1 dX0_taken_56 rfl (lv_at hl 0 rfl) ?_
      exact L_cast q670 (nc_ok 211 (by decide +kernel) hZ) (g_recv hK hw (List.mem_range.mpr h0) h1 (by decide) rfl) (by decide) (by decide) hl0 hC hlk htb hX hZ hl.1 hw (fun _ => rfl) ⟨by decide, (show (1 + 0) + 10240 ≤ 10260 from by decide), by decide, by decide⟩ (by decide) dX0_taken_57
    · refine lv_iload_n hC.1 hC.2.1 dX0_taken_0 rfl (lv_at hl 1 rfl) ?_
      refine lv_tableOut (tgt := 61) hC.1 hC.2.1 dX0_taken_1 (by decide) (by decide) ?_
      refine lv_aload_n hC.1 hC.2.1 dX0_taken_61 rfl (lv_at hl 0 rfl) ?_
      exact L_cast q679 (nc_ok 227 (by decide +kernel) hZ) (g_recv hK hw (List.mem_range.mpr h0) h1 (by decide) rfl) (by decide) (by decide) hl0 hC hlk htb hX hZ hl.1 hw (fun _ => rfl) ⟨by decide, (show (1 + 0) + 10240 ≤ 10260 from by decide), by decide, by decide⟩ (by decide) dX0_taken_62
  · rcases hc6 with rfl | rfl | rfl | rfl | rfl | rfl
    · exact absurd hkd (by decide)
    · exact absurd hkd (by decide)
    · refine lv_iload_n hC.1 hC.2.1 dX0_taken_0 rfl (lv_at hl 1 rfl) ?_
      refine lv_tableIn (off := 45) (tgt := 46) hC.1 hC.2.1 dX0_taken_1 (by decide) (by decide) (by decide) (by decide) ?_
      refine lv_aload_n hC.1 hC.2.1 dX0_taken_46 rfl (lv_at hl 0 rfl) ?_
      exact L_cast q652 (nc_ok 177 (by decide +kernel) hZ) (g_recv hK hw (List.mem_range.mpr h0) h1 (by decide) rfl) (by decide) (by decide) hl0 hC hlk htb hX hZ hl.1 hw (fun _ => rfl) ⟨by decide, (show (1 + 0) + 10240 ≤ 10260 from by decide), by decide, by decide⟩ (by decide) dX0_taken_47
    · exact absurd hkd (by decide)
    · refine lv_iload_n hC.1 hC.2.1 dX0_taken_0 rfl (lv_at hl 1 rfl) ?_
      refine lv_tableIn (off := 55) (tgt := 56) hC.1 hC.2.1 dX0_taken_1 (by decide) (by decide) (by decide) (by decide) ?_
      refine lv_aload_n hC.1 hC.2.1 dX0_taken_56 rfl (lv_at hl 0 rfl) ?_
      exact L_cast q670 (nc_ok 212 (by decide +kernel) hZ) (g_recv hK hw (List.mem_range.mpr h0) h1 (by decide) rfl) (by decide) (by decide) hl0 hC hlk htb hX hZ hl.1 hw (fun _ => rfl) ⟨by decide, (show (1 + 0) + 10240 ≤ 10260 from by decide), by decide, by decide⟩ (by decide) dX0_taken_57
    · refine lv_iload_n hC.1 hC.2.1 dX0_taken_0 rfl (lv_at hl 1 rfl) ?_
      refine lv_tableOut (tgt := 61) hC.1 hC.2.1 dX0_taken_1 (by decide) (by decide) ?_
      refine lv_aload_n hC.1 hC.2.1 dX0_taken_61 rfl (lv_at hl 0 rfl) ?_
      exact L_cast q679 (nc_ok 228 (by decide +kernel) hZ) (g_recv hK hw (List.mem_range.mpr h0) h1 (by decide) rfl) (by decide) (by decide) hl0 hC hlk htb hX hZ hl.1 hw (fun _ => rfl) ⟨by decide, (show (1 + 0) + 10240 ≤ 10260 from by decide), by decide, by decide⟩ (by decide) dX0_taken_62
  · rcases hc6 with rfl | rfl | rfl | rfl | rfl | rfl
    · exact absurd hkd (by decide)
    · refine lv_iload_n hC.1 hC.2.1 dX0_taken_0 rfl (lv_at hl 1 rfl) ?_
      refine lv_tableIn (off := 40) (tgt := 41) hC.1 hC.2.1 dX0_taken_1 (by decide) (by decide) (by decide) (by decide) ?_
      refine lv_aload_n hC.1 hC.2.1 dX0_taken_41 rfl (lv_at hl 0 rfl) ?_
      exact L_cast q186 (nc_ok 161 (by decide +kernel) hZ) (g_recv hK hw (List.mem_range.mpr h0) h1 (by decide) rfl) (by decide) (by decide) hl0 hC hlk htb hX hZ hl.1 hw (fun _ => rfl) ⟨by decide, (show (1 + 0) + 10240 ≤ 10260 from by decide), by decide, by decide⟩ (by decide) dX0_taken_42
    · refine lv_iload_n hC.1 hC.2.1 dX0_taken_0 rfl (lv_at hl 1 rfl) ?_
      refine lv_tableIn (off := 45) (tgt := 46) hC.1 hC.2.1 dX0_taken_1 (by decide) (by decide) (by decide) (by decide) ?_
      refine lv_aload_n hC.1 hC.2.1 dX0_taken_46 rfl (lv_at hl 0 rfl) ?_
      exact L_cast q652 (nc_ok 178 (by decide +kernel) hZ) (g_recv hK hw (List.mem_range.mpr h0) h1 (by decide) rfl) (by decide) (by decide) hl0 hC hlk htb hX hZ hl.1 hw (fun _ => rfl) ⟨by decide, (show (1 + 0) + 10240 ≤ 10260 from by decide), by decide, by decide⟩ (by decide) dX0_taken_47
    · refine lv_iload_n hC.1 hC.2.1 dX0_taken_0 rfl (lv_at hl 1 rfl) ?_
      refine lv_tableIn (off := 50) (tgt := 51) hC.1 hC.2.1 dX0_taken_1 (by decide) (by decide) (by decide) (by decide) ?_
      refine lv_aload_n hC.1 hC.2.1 dX0_taken_51 rfl (lv_at hl 0 rfl) ?_
      exact L_cast q661 (nc_ok 195 (by decide +kernel) hZ) (g_recv hK hw (List.mem_range.mpr h0) h1 (by decide) rfl) (by decide) (by decide) hl0 hC hlk htb hX hZ hl.1 hw (fun _ => rfl) ⟨by decide, (show (1 + 0) + 10240 ≤ 10260 from by decide), by decide, by decide⟩ (by decide) dX0_taken_52
    · exact absurd hkd (by decide)
    · refine lv_iload_n hC.1 hC.2.1 dX0_taken_0 rfl (lv_at hl 1 rfl) ?_
      refine lv_tableOut (tgt := 61) hC.1 hC.2.1 dX0_taken_1 (by decide) (by decide) ?_
      refine lv_aload_n hC.1 hC.2.1 dX0_taken_61 rfl (lv_at hl 0 rfl) ?_
      exact L_cast q679 (nc_ok 229 (by decide +kernel) hZ) (g_recv hK hw (List.mem_range.mpr h0) h1 (by decide) rfl) (by decide) (by decide) hl0 hC hlk htb hX hZ hl.1 hw (fun _ => rfl) ⟨by decide, (show (1 + 0) + 10240 ≤ 10260 from by decide), by decide, by decide⟩ (by decide) dX0_taken_62
  · rcases hc6 with rfl | rfl | rfl | rfl | rfl | rfl
    · exact absurd hkd (by decide)
    · refine lv_iload_n hC.1 hC.2.1 dX0_taken_0 rfl (lv_at hl 1 rfl) ?_
      refine lv_tableIn (off := 40) (tgt := 41) hC.1 hC.2.1 dX0_taken_1 (by decide) (by decide) (by decide) (by decide) ?_
      refine lv_aload_n hC.1 hC.2.1 dX0_taken_41 rfl (lv_at hl 0 rfl) ?_
      exact L_cast q186 (nc_ok 162 (by decide +kernel) hZ) (g_recv hK hw (List.mem_range.mpr h0) h1 (by decide) rfl) (by decide) (by decide) hl0 hC hlk htb hX hZ hl.1 hw (fun _ => rfl) ⟨by decide, (show (1 + 0) + 10240 ≤ 10260 from by decide), by decide, by decide⟩ (by decide) dX0_taken_42
    · refine lv_iload_n hC.1 hC.2.1 dX0_taken_0 rfl (lv_at hl 1 rfl) ?_
      refine lv_tableIn (off := 45) (tgt := 46) hC.1 hC.2.1 dX0_taken_1 (by decide) (by decide) (by decide) (by decide) ?_
      refine lv_aload_n hC.1 hC.2.1 dX0_taken_46 rfl (lv_at hl 0 rfl) ?_
      exact L_cast q652 (nc_ok 179 (by decide +kernel) hZ) (g_recv hK hw (List.mem_range.mpr h0) h1 (by decide) rfl) (by decide) (by decide) hl0 hC hlk htb hX hZ hl.1 hw (fun _ => rfl) ⟨by decide, (show (1 + 0) + 10240 ≤ 10260 from by decide), by decide, by decide⟩ (by decide) dX0_taken_47
    · refine lv_iload_n hC.1 hC.2.1 dX0_taken_0 rfl (lv_at hl 1 rfl) ?_
      refine lv_tableIn (off := 50) (tgt := 51) hC.1 hC.2.1 dX0_taken_1 (by decide) (by decide) (by decide) (by decide) ?_
      refine lv_aload_n hC.1 hC.2.1 dX0_taken_51 rfl (lv_at hl 0 rfl) ?_
      exact L_cast q661 (nc_ok 196 (by decide +kernel) hZ) (g_recv hK hw (List.mem_range.mpr h0) h1 (by decide) rfl) (by decide) (by decide) hl0 hC hlk htb hX hZ hl.1 hw (fun _ => rfl) ⟨by decide, (show (1 + 0) + 10240 ≤ 10260 from by decide), by decide, by decide⟩ (by decide) dX0_taken_52
    · exact absurd hkd (by decide)
    · exact absurd hkd (by decide)

set_option maxHeartbeats 800000 in
theorem tX0_as (l : Launch) (hl0 : l.stackTraces = false) (N : Nat) (ad : Nat → Nat) (K : gK) (I : mG) (R : gR) (cell : Int32) (kind : Int32) (G : mG) (b : Bool) (h0 : wcR N K I R G b) : gMZ l yX0_as (wsW_ yX0_as cX0_as 4 (some FieldType.int) [(49, 69, 70, 319)]) ({ frames := 9, cells := 3, slots := 1010, locals := 10281 } : Room) [.ref (ad 0), .int cell, .int kind] N ad K I R (fun v S => v = some (.int (mX6_as G cell kind).1) ∧ wcR S.1 S.2.2.1 S.2.2.2.1 S.2.2.2.2 (mX6_as G cell kind).2 b) := by
  refine gMZ.ofH (by decide) (Nat.le_of_ble_eq_true rfl) ?_
  intro D dA p e s m args below meth cd ls hC hlk hr htb hK hX hZ hst hl hw
  have hl : lv_has ls 4 [(0, .ref (ad 0)), (1, .int cell), (2, .int kind)] := hl
  have hge := h0.ge
  refine lv_aload_n hC.1 hC.2.1 dX0_as_0 rfl (lv_at hl 0 rfl) ?_
  refine x_ga hC hK hw (by omega) h0.k0 4 11 h0.r4 (by decide) rfl q206 rfl dX0_as_1 ?_
  refine p_gi hC hK hw h0.ps.1 0 (by decide) rfl q124 rfl (v := (bI b)) (h0.told) dX0_as_4 ?_
  refine k_bne (tgt := 13) hC dX0_as_7 (by decide) (fun c7 => ?_) (fun c7 => ?_)
  · subst c7
    refine lv_iload_n hC.1 hC.2.1 dX0_as_13 rfl (lv_at hl 1 rfl) ?_
    refine pS_call (n := 1) hC hl.1 (tX0_isCell l cell ) (lw_S q704 q705 q60 q706) rfl rfl (by decide +kernel) ⟨by decide, by decide⟩ rfl rfl (Nat.le_of_ble_eq_true rfl) dX0_as_14 ⟨Nat.zero_le _, Nat.zero_le _⟩ ?_
    refine k_beq (tgt := 32) hC dX0_as_17 (by decide) (fun c17 => ?_) (fun c17 => ?_)
    · refine lv_ldc hC.1 hC.2.1 hC.2.2.2.1 (hC.2.2.2.2 _ q337) dX0_as_32 ?_
      exact M_iret hC hlk hw gGo.rf ⟨by simp only [gN]; omega, by simp only [gN]; omega⟩ hr rfl (by have eq : mX6_as G cell kind = ((-1000001 : Int32), G) := (by simp [mX6_as, h0.g4, bI_t0, bI_f0, inc01, inc11, inc03, inc13, inc23, inc10, inc20, inc21, c17]); rw [eq]; exact ⟨rfl, h0⟩) dX0_as_34
    · obtain ⟨k, hk, rfl⟩ := inB_nat (n := 15) (by decide) c17
      refine lv_iload_n hC.1 hC.2.1 dX0_as_20 rfl (lv_at hl 2 rfl) ?_
      refine lv_i2l hC.1 hC.2.1 dX0_as_21 rfl ?_
      refine lv_lconst (v := 0) hC.1 hC.2.1 dX0_as_22 (by decide) ?_
      refine lv_ldc2 hC.1 hC.2.1 hC.2.2.2.1 (hC.2.2.2.2 _ q711) dX0_as_23 ?_
      refine pS_call (n := 3) hC hl.1 (tX0_isInI l kind 0 (nI 5)) (lw_S q333 q334 q60 q335) rfl rfl (by decide +kernel) ⟨by decide, by decide⟩ rfl rfl (Nat.le_of_ble_eq_true rfl) dX0_as_26 ⟨Nat.zero_le _, Nat.zero_le _⟩ ?_
      refine k_bne (tgt := 35) hC dX0_as_29 (by decide) (fun c29 => ?_) (fun c29 => ?_)
      · obtain ⟨c, hc, rfl⟩ := inB_nat (n := 5) (by decide) c29
        have gwk := h0.ps.wk (c := k) (by omega)
        rcases (h0.ps.2.2.2 k (by omega)).2.2.2 with ⟨z1, z2⟩ | ⟨w, kk, z1, z2, z3, z4, z5, z6, z7, z8⟩
        · refine lv_aload_n hC.1 hC.2.1 dX0_as_35 rfl (lv_at hl 0 rfl) ?_
          refine x_ga hC hK hw (by omega) h0.k0 4 11 h0.r4 (by decide) rfl q206 rfl dX0_as_36 ?_
          refine lv_iload_n hC.1 hC.2.1 dX0_as_39 rfl (lv_at hl 1 rfl) ?_
          refine g_calli (n := 1) (C := RX2) (T := TX2) hC hl.1 hK hX hw (h0.ps.1).1.1 (h0.ps.1).2.1.1 (by decide) rfl (tX2_has l (List.range N) ad K I R 11 k (h0.ps.1) (by omega)) (lw_V q713 q644 q645 q62 q646) rfl rfl (by decide +kernel) ⟨by decide, by decide⟩ rfl rfl (Nat.le_of_ble_eq_true rfl) dX0_as_40 ⟨Nat.zero_le _, Nat.zero_le _⟩ ?_
          rintro r_2 I2 R2 H locs ⟨hr2, hS2⟩ hw
          rw [hr2]
          replace hw := hw.eq (Prod.mk.inj hS2).1 (Prod.mk.inj hS2).2
          clear hS2
          refine k_bne (tgt := 49) hC dX0_as_43 (by decide) (fun c43 => ?_) (fun c43 => ?_)
          · exact absurd c43 (by rw [z1]; simp)
          · refine lv_ldc hC.1 hC.2.1 hC.2.2.2.1 (hC.2.2.2.2 _ q703) dX0_as_46 ?_
            exact M_iret hC hlk hw gGo.rf ⟨by simp only [gN]; omega, by simp only [gN]; omega⟩ hr rfl (by have eq : mX6_as G (nI k) (nI c) = ((-1000002 : Int32), G) := (by simp [mX6_as, h0.g4, bI_t0, bI_f0, inc01, inc11, inc03, inc13, inc23, inc10, inc20, inc21, c17, c29, c43, ix_nI (show k < 2147483648 by omega), ix_nI (show c < 2147483648 by omega), gwk, z1]); rw [eq]; exact ⟨rfl, h0⟩) dX0_as_48
        · refine lv_aload_n hC.1 hC.2.1 dX0_as_35 rfl (lv_at hl 0 rfl) ?_
          refine x_ga hC hK hw (by omega) h0.k0 4 11 h0.r4 (by decide) rfl q206 rfl dX0_as_36 ?_
          refine lv_iload_n hC.1 hC.2.1 dX0_as_39 rfl (lv_at hl 1 rfl) ?_
          refine g_calli (n := 1) (C := RX2) (T := TX2) hC hl.1 hK hX hw (h0.ps.1).1.1 (h0.ps.1).2.1.1 (by decide) rfl (tX2_has l (List.range N) ad K I R 11 k (h0.ps.1) (by omega)) (lw_V q713 q644 q645 q62 q646) rfl rfl (by decide +kernel) ⟨by decide, by decide⟩ rfl rfl (Nat.le_of_ble_eq_true rfl) dX0_as_40 ⟨Nat.zero_le _, Nat.zero_le _⟩ ?_
          rintro r_2 I2 R2 H locs ⟨hr2, hS2⟩ hw
          rw [hr2]
          replace hw := hw.eq (Prod.mk.inj hS2).1 (Prod.mk.inj hS2).2
          clear hS2
          refine k_bne (tgt := 49) hC dX0_as_43 (by decide) (fun c43 => ?_) (fun c43 => ?_)
          · refine lv_aload_n hC.1 hC.2.1 dX0_as_49 rfl (lv_at hl 0 rfl) ?_
            refine lv_aload_n hC.1 hC.2.1 dX0_as_50 rfl (lv_at hl 0 rfl) ?_
            refine x_ga hC hK hw (by omega) h0.k0 4 11 h0.r4 (by decide) rfl q206 rfl dX0_as_51 ?_
            refine p_ga hC hK hw h0.ps.1 4 3 h0.ps.1.2.2.2.2.1 (by decide) rfl q135 rfl dX0_as_54 ?_
            refine lv_iload_n hC.1 hC.2.1 dX0_as_57 rfl (lv_at hl 1 rfl) ?_
            refine g_ldr (t := 2) (v := .ref (ad w)) hC hK hw h0.ps.1.1.2.2.2.1 h0.ps.1.2.1.2.2.2.1 rfl (by omega) (by omega) (by rw [z1]; rfl) dX0_as_58 ?_
            refine lv_iload_n hC.1 hC.2.1 dX0_as_59 rfl (lv_at hl 2 rfl) ?_
            have wN0 : w < N := List.mem_range.mp z2
            cases hkd : isKd (nI kk) (nI c)
            · refine T_S (n := 2) hC hl.1 hK hX hZ hst hw (tX0_taken_o l hl0 N ad K I R w c kk (wN0) (z5) (⟨z3, z4⟩) (by omega) (hkd)) (lw_S q967 q968 q60 q969) (by decide +kernel) ⟨by decide, by decide⟩ rfl rfl (Nat.le_of_ble_eq_true rfl) dX0_as_60 ⟨by simp only [gN]; omega, by simp only [gN]; omega⟩ (fun x0 N2 ad2 K2 I2 R2 H locs e2 hg hw => ?_)
              cases e2
              refine T_catch (pc := 60) htb (h := 70) (fun pl cX hpl hE => rt_hit (pc := 60) (x := ⟨49, 69, 70, 319⟩) hpl hC.2.2.2.1 hE (hC.2.2.2.2 _ q953) (hX _ q965 rfl) (by decide) (by decide)) ?_
              refine lv_astore_n (lv' := [(3, .ref x0), (0, .ref (ad 0)), (1, .int (nI k)), (2, .int (nI c))]) hC.1 hC.2.1 dX0_as_70 rfl hl (by decide) rfl (fun ls hl => ?_)
              refine lv_aload_n hC.1 hC.2.1 dX0_as_71 rfl (lv_at hl 1 rfl) ?_
              refine lv_iconst (v := (nI 3)) hC.1 hC.2.1 dX0_as_72 (by decide) ?_
              refine M_V (n := 1) (C := RX0) (T := TX0) hC hl.1 hK hX hw (by omega) h0.k0 (by decide) rfl (tX0_found l N ad K I R (nI 3) G true (h0)) (lw_V q345 q347 qs3 q60 q348) (by decide +kernel) ⟨by decide, by decide⟩ rfl rfl (Nat.le_of_ble_eq_true rfl) dX0_as_73 ⟨by simp only [gN]; omega, by simp only [gN]; omega⟩ ?_
              rintro _ N2 ad2 K2 I73 R73 H locs ⟨I3, R3, e3, rfl, h73⟩ hg hw
              cases e3
              dsimp only at h73
              exact M_iret hC hlk hw gGo.rf ⟨by simp only [gN]; omega, by simp only [gN]; omega⟩ hr rfl (by have eq : mX6_as G (nI k) (nI c) = (((-1000010 : Int32) - (nI 3)), g2 G 0 3 (nI 3)) := (by simp [mX6_as, h0.g4, bI_t0, bI_f0, inc01, inc11, inc03, inc13, inc23, inc10, inc20, inc21, c17, c29, c43, ix_nI (show k < 2147483648 by omega), ix_nI (show c < 2147483648 by omega), gwk, z1, z6, hkd]); rw [eq]; exact ⟨rfl, h73⟩) dX0_as_76
            · refine Z_S (n := 2) hC hl.1 hK hX hZ hst hw (tX0_taken_r l N ad K I R w c kk (wN0) (z5) (⟨z3, z4⟩) (by omega) (hkd)) (lw_S q967 q968 q60 q969) (by decide +kernel) ⟨by decide, by decide⟩ rfl rfl (Nat.le_of_ble_eq_true rfl) dX0_as_60 ⟨by simp only [gN]; omega, by simp only [gN]; omega⟩ ?_
              rintro _ N2 ad2 K2 I2 R2 H locs ⟨rfl, e2⟩ hg hw
              cases e2
              refine w_cell hC hl.1 hK hX hw z2 z5 ⟨z3, z4⟩ ⟨by decide, by decide⟩ (Nat.le_of_ble_eq_true rfl) dX0_as_63 ⟨Nat.zero_le _, Nat.zero_le _⟩ (fun H locs hw => ?_)
              rw [z7]
              refine M_V (n := 1) (C := RX0) (T := TX0) hC hl.1 hK hX hw (by omega) h0.k0 (by decide) rfl (tX0_well l N ad K I R (nI k) G true (h0)) (lw_V q341 q343 qs2 q60 q344) (by decide +kernel) ⟨by decide, by decide⟩ rfl rfl (Nat.le_of_ble_eq_true rfl) dX0_as_66 ⟨by simp only [gN]; omega, by simp only [gN]; omega⟩ ?_
              rintro _ N2 ad2 K2 I66 R66 H locs ⟨I3, R3, e3, rfl, h66⟩ hg hw
              cases e3
              dsimp only at h66
              exact M_iret hC hlk hw gGo.rf ⟨by simp only [gN]; omega, by simp only [gN]; omega⟩ hr rfl (by have eq : mX6_as G (nI k) (nI c) = ((nI k), g2 G 0 3 (nI 0)) := (by simp [mX6_as, h0.g4, bI_t0, bI_f0, inc01, inc11, inc03, inc13, inc23, inc10, inc20, inc21, c17, c29, c43, ix_nI (show k < 2147483648 by omega), ix_nI (show c < 2147483648 by omega), gwk, z1, z6, hkd]); rw [eq]; exact ⟨rfl, h66⟩) dX0_as_69
          · exact absurd c43 (by rw [z1]; simp)
      · refine lv_ldc hC.1 hC.2.1 hC.2.2.2.1 (hC.2.2.2.2 _ q337) dX0_as_32 ?_
        exact M_iret hC hlk hw gGo.rf ⟨by simp only [gN]; omega, by simp only [gN]; omega⟩ hr rfl (by have eq : mX6_as G (nI k) kind = ((-1000001 : Int32), G) := (by simp [mX6_as, h0.g4, bI_t0, bI_f0, inc01, inc11, inc03, inc13, inc23, inc10, inc20, inc21, c17, c29, ix_nI (show k < 2147483648 by omega)]); rw [eq]; exact ⟨rfl, h0⟩) dX0_as_34
  · refine lv_ldc hC.1 hC.2.1 hC.2.2.2.1 (hC.2.2.2.2 _ q703) dX0_as_10 ?_
    exact M_iret hC hlk hw gGo.rf ⟨by simp only [gN]; omega, by simp only [gN]; omega⟩ hr rfl (by have eq : mX6_as G cell kind = ((-1000002 : Int32), G) := (by simp [mX6_as, h0.g4, bI_t0, bI_f0, inc01, inc11, inc03, inc13, inc23, inc10, inc20, inc21, c7]); rw [eq]; exact ⟨rfl, h0⟩) dX0_as_12
