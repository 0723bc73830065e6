/-! WindCarverModel: contracts, first part (by gen/m1.py) -/
set_option maxHeartbeats 4000000 in
theorem tX6_in (l : Launch) (v : Int64) (lo : Int64) (hi : Int64) : pS l yX6_in cX6_in 6 .boolean ({ frames := 0, cells := 0, slots := 0, locals := 0 } : Room) [.long v, .long lo, .long hi] (bI (decide (lo ≤ v) && decide (v ≤ hi))) := by
  refine pS.of (by decide) (Nat.le_of_ble_eq_true rfl) ?_
  intro p e s m below meth cd ls hC hlk hr hl
  have hl : lv_has ls 6 [(0, .long v), (2, .long lo), (4, .long hi)] := hl
  refine lv_lload_n hC.1 hC.2.1 dX6_in_0 rfl (lv_at hl 0 rfl) ?_
  refine lv_lload_n hC.1 hC.2.1 dX6_in_1 rfl (lv_at hl 1 rfl) ?_
  refine W.lcmp hC.1 hC.2.1 dX6_in_2 ?_
  refine lv_if_lt (tgt := 17) hC.1 hC.2.1 dX6_in_3 (by decide) (fun c3 => ?_) (fun c3 => ?_)
  · refine lv_iconst (v := (nI 0)) hC.1 hC.2.1 dX6_in_17 (by decide) ?_
    exact pS_ret hC hlk hr (in_f1 c3) rfl dX6_in_18
  · refine lv_lload_n hC.1 hC.2.1 dX6_in_6 rfl (lv_at hl 0 rfl) ?_
    refine lv_lload hC.1 hC.2.1 dX6_in_7 (lv_at hl 2 rfl) ?_
    refine W.lcmp hC.1 hC.2.1 dX6_in_9 ?_
    refine lv_if_gt (tgt := 17) hC.1 hC.2.1 dX6_in_10 (by decide) (fun c10 => ?_) (fun c10 => ?_)
    · refine lv_iconst (v := (nI 0)) hC.1 hC.2.1 dX6_in_17 (by decide) ?_
      exact pS_ret hC hlk hr (in_f2 c10) rfl dX6_in_18
    · refine lv_iconst (v := (nI 1)) hC.1 hC.2.1 dX6_in_13 (by decide) ?_
      refine lv_goto (tgt := 18) hC.1 hC.2.1 dX6_in_14 (by decide) ?_
      exact pS_ret hC hlk hr (in_t c3 c10) rfl dX6_in_18

theorem tX6_inI (l : Launch) (v lo hi : Int32) : pS l yX6_in cX6_in 6 .boolean ({ frames := 0, cells := 0, slots := 0, locals := 0 } : Room) [.long v.toInt64, .long lo.toInt64, .long hi.toInt64] (bI (inB v lo hi)) := by
  rw [← inL]
  exact tX6_in l _ _ _

set_option maxHeartbeats 4000000 in
theorem tX6_has (l : Launch) (a : Int32) (k : Int32) : pS l yX6_has cX6_has 2 .boolean ({ frames := 0, cells := 0, slots := 0, locals := 0 } : Room) [.int a, .int k] (bI (hasB a k)) := by
  refine pS.of (by decide) (Nat.le_of_ble_eq_true rfl) ?_
  intro p e s m below meth cd ls hC hlk hr hl
  have hl : lv_has ls 2 [(0, .int a), (1, .int k)] := hl
  refine lv_iload_n hC.1 hC.2.1 dX6_has_0 rfl (lv_at hl 0 rfl) ?_
  refine lv_iload_n hC.1 hC.2.1 dX6_has_1 rfl (lv_at hl 1 rfl) ?_
  refine lv_ishr hC.1 hC.2.1 dX6_has_2 ?_
  refine lv_iconst (v := (nI 1)) hC.1 hC.2.1 dX6_has_3 (by decide) ?_
  refine lv_iand hC.1 hC.2.1 dX6_has_4 ?_
  refine lv_iconst (v := (nI 1)) hC.1 hC.2.1 dX6_has_5 (by decide) ?_
  refine lv_icmp_ne (tgt := 13) hC.1 hC.2.1 dX6_has_6 (by decide) (fun c6 => ?_) (fun c6 => ?_)
  · refine lv_iconst (v := (nI 0)) hC.1 hC.2.1 dX6_has_13 (by decide) ?_
    exact pS_ret hC hlk hr (bI_of_f (by simp [hasB, c6])) rfl dX6_has_14
  · refine lv_iconst (v := (nI 1)) hC.1 hC.2.1 dX6_has_9 (by decide) ?_
    refine lv_goto (tgt := 14) hC.1 hC.2.1 dX6_has_10 (by decide) ?_
    exact pS_ret hC hlk hr (bI_of_t (by simp [hasB, c6])) rfl dX6_has_14

set_option maxHeartbeats 4000000 in
theorem tX6_isRow (l : Launch) (k : Int32) : pS l yX6_isRow cX6_isRow 1 .boolean ({ frames := 1, cells := 0, slots := 0, locals := 25 } : Room) [.int k] (bI (inB k 0 (nI 7))) := by
  refine pS.of (by decide) (Nat.le_of_ble_eq_true rfl) ?_
  intro p e s m below meth cd ls hC hlk hr hl
  have hl : lv_has ls 1 [(0, .int k)] := hl
  refine lv_iload_n hC.1 hC.2.1 dX6_isRow_0 rfl (lv_at hl 0 rfl) ?_
  refine lv_i2l hC.1 hC.2.1 dX6_isRow_1 rfl ?_
  refine lv_lconst (v := 0) hC.1 hC.2.1 dX6_isRow_2 (by decide) ?_
  refine lv_ldc2 hC.1 hC.2.1 hC.2.2.2.1 (hC.2.2.2.2 _ q1209) dX6_isRow_3 ?_
  refine pS_call (n := 3) hC hl.1 (tX6_inI l k 0 (nI 7)) (lw_S q1210 q1211 q66 q1212) rfl rfl (by decide +kernel) ⟨by decide, by decide⟩ rfl rfl (Nat.le_of_ble_eq_true rfl) dX6_isRow_6 ⟨Nat.zero_le _, Nat.zero_le _⟩ ?_
  exact pS_ret hC hlk hr (rfl) (bI_nar _) dX6_isRow_9

set_option maxHeartbeats 4000000 in
theorem tX6_isCell (l : Launch) (k : Int32) : pS l yX6_isCell cX6_isCell 1 .boolean ({ frames := 1, cells := 0, slots := 0, locals := 25 } : Room) [.int k] (bI (inB k 0 (nI 15))) := by
  refine pS.of (by decide) (Nat.le_of_ble_eq_true rfl) ?_
  intro p e s m below meth cd ls hC hlk hr hl
  have hl : lv_has ls 1 [(0, .int k)] := hl
  refine lv_iload_n hC.1 hC.2.1 dX6_isCell_0 rfl (lv_at hl 0 rfl) ?_
  refine lv_i2l hC.1 hC.2.1 dX6_isCell_1 rfl ?_
  refine lv_lconst (v := 0) hC.1 hC.2.1 dX6_isCell_2 (by decide) ?_
  refine lv_ldc2 hC.1 hC.2.1 hC.2.2.2.1 (hC.2.2.2.2 _ q1298) dX6_isCell_3 ?_
  refine pS_call (n := 3) hC hl.1 (tX6_inI l k 0 (nI 15)) (lw_S q1210 q1211 q66 q1212) rfl rfl (by decide +kernel) ⟨by decide, by decide⟩ rfl rfl (Nat.le_of_ble_eq_true rfl) dX6_isCell_6 ⟨Nat.zero_le _, Nat.zero_le _⟩ ?_
  exact pS_ret hC hlk hr (rfl) (bI_nar _) dX6_isCell_9

set_option maxHeartbeats 4000000 in
theorem tX6_isRowOfPass (l : Launch) (k : Int32) : pS l yX6_isRowOfPass cX6_isRowOfPass 1 .boolean ({ frames := 1, cells := 0, slots := 0, locals := 25 } : Room) [.int k] (bI (inB k 0 (nI 3))) := by
  refine pS.of (by decide) (Nat.le_of_ble_eq_true rfl) ?_
  intro p e s m below meth cd ls hC hlk hr hl
  have hl : lv_has ls 1 [(0, .int k)] := hl
  refine lv_iload_n hC.1 hC.2.1 dX6_isRowOfPass_0 rfl (lv_at hl 0 rfl) ?_
  refine lv_i2l hC.1 hC.2.1 dX6_isRowOfPass_1 rfl ?_
  refine lv_lconst (v := 0) hC.1 hC.2.1 dX6_isRowOfPass_2 (by decide) ?_
  refine lv_ldc2 hC.1 hC.2.1 hC.2.2.2.1 (hC.2.2.2.2 _ q1332) dX6_isRowOfPass_3 ?_
  refine pS_call (n := 3) hC hl.1 (tX6_inI l k 0 (nI 3)) (lw_S q1210 q1211 q66 q1212) rfl rfl (by decide +kernel) ⟨by decide, by decide⟩ rfl rfl (Nat.le_of_ble_eq_true rfl) dX6_isRowOfPass_6 ⟨Nat.zero_le _, Nat.zero_le _⟩ ?_
  exact pS_ret hC hlk hr (rfl) (bI_nar _) dX6_isRowOfPass_9

set_option maxHeartbeats 4000000 in
theorem tX6_asLane (l : Launch) (a : Int32) (v : Int32) : pS l yX6_asLane cX6_asLane 2 .int ({ frames := 0, cells := 0, slots := 0, locals := 0 } : Room) [.int a, .int v] (asL a v) := by
  refine pS.of (by decide) (Nat.le_of_ble_eq_true rfl) ?_
  intro p e s m below meth cd ls hC hlk hr hl
  have hl : lv_has ls 2 [(0, .int a), (1, .int v)] := hl
  refine lv_iload_n hC.1 hC.2.1 dX6_asLane_0 rfl (lv_at hl 0 rfl) ?_
  refine lv_if_ne (tgt := 14) hC.1 hC.2.1 dX6_asLane_1 (by decide) (fun c1 => ?_) (fun c1 => ?_)
  · refine lv_iload_n hC.1 hC.2.1 dX6_asLane_14 rfl (lv_at hl 0 rfl) ?_
    refine lv_iconst (v := (nI 1)) hC.1 hC.2.1 dX6_asLane_15 (by decide) ?_
    refine lv_icmp_ne (tgt := 29) hC.1 hC.2.1 dX6_asLane_16 (by decide) (fun c16 => ?_) (fun c16 => ?_)
    · refine lv_iload_n hC.1 hC.2.1 dX6_asLane_29 rfl (lv_at hl 1 rfl) ?_
      exact pS_ret hC hlk hr (by unfold asL; rw [if_neg c1, if_neg c16]) rfl dX6_asLane_30
    · refine lv_iload_n hC.1 hC.2.1 dX6_asLane_19 rfl (lv_at hl 1 rfl) ?_
      refine lv_bipush (v := (nI 16)) hC.1 hC.2.1 dX6_asLane_20 (by decide) ?_
      refine lv_ishl hC.1 hC.2.1 dX6_asLane_22 ?_
      refine lv_bipush (v := (nI 16)) hC.1 hC.2.1 dX6_asLane_23 (by decide) ?_
      refine lv_ishr hC.1 hC.2.1 dX6_asLane_25 ?_
      refine lv_goto (tgt := 30) hC.1 hC.2.1 dX6_asLane_26 (by decide) ?_
      exact pS_ret hC hlk hr (by unfold asL; rw [if_neg c1, if_pos c16]) rfl dX6_asLane_30
  · refine lv_iload_n hC.1 hC.2.1 dX6_asLane_4 rfl (lv_at hl 1 rfl) ?_
    refine lv_bipush (v := (nI 24)) hC.1 hC.2.1 dX6_asLane_5 (by decide) ?_
    refine lv_ishl hC.1 hC.2.1 dX6_asLane_7 ?_
    refine lv_bipush (v := (nI 24)) hC.1 hC.2.1 dX6_asLane_8 (by decide) ?_
    refine lv_ishr hC.1 hC.2.1 dX6_asLane_10 ?_
    refine lv_goto (tgt := 30) hC.1 hC.2.1 dX6_asLane_11 (by decide) ?_
    exact pS_ret hC hlk hr (by unfold asL; rw [if_pos c1]) rfl dX6_asLane_30

set_option maxHeartbeats 4000000 in
theorem tX6_find (l : Launch) (G : mG) (f : Int32) : mI l yX6_find cX6_find 2 .int ({ frames := 0, cells := 0, slots := 0, locals := 0 } : Room) [.int f] G (fun r G' => r = ((-1000010 : Int32) - f) ∧ G' = g2 G 0 3 f) := by
  refine mI.of (by decide) rfl (fun _ => Nat.le_of_ble_eq_true rfl) ?_
  intro D dA ad p e s m below meth cd ls hC hlk hr hK hl hw
  have hl : lv_has ls 2 [(0, .ref (ad 0)), (1, .int f)] := hl
  refine lv_aload_n hC.1 hC.2.1 dX6_find_0 rfl (lv_at hl 0 rfl) ?_
  refine lv_iload_n hC.1 hC.2.1 dX6_find_1 rfl (lv_at hl 1 rfl) ?_
  refine m_pi hC hK hw 3 (by decide) rfl rfl q1119 rfl rfl rfl rfl dX6_find_2 (fun H locs hw => ?_)
  refine lv_ldc hC.1 hC.2.1 hC.2.2.2.1 (hC.2.2.2.2 _ q1219) dX6_find_5 ?_
  refine lv_iload_n hC.1 hC.2.1 dX6_find_7 rfl (lv_at hl 1 rfl) ?_
  refine lv_isub hC.1 hC.2.1 dX6_find_8 ?_
  exact m_iret hC hlk hr hw rfl (⟨rfl, rfl⟩) dX6_find_9

set_option maxHeartbeats 4000000 in
theorem tX6_well (l : Launch) (G : mG) (v : Int32) : mI l yX6_well cX6_well 2 .int ({ frames := 0, cells := 0, slots := 0, locals := 0 } : Room) [.int v] G (fun r G' => r = v ∧ G' = g2 G 0 3 (nI 0)) := by
  refine mI.of (by decide) rfl (fun _ => Nat.le_of_ble_eq_true rfl) ?_
  intro D dA ad p e s m below meth cd ls hC hlk hr hK hl hw
  have hl : lv_has ls 2 [(0, .ref (ad 0)), (1, .int v)] := hl
  refine lv_aload_n hC.1 hC.2.1 dX6_well_0 rfl (lv_at hl 0 rfl) ?_
  refine lv_iconst (v := (nI 0)) hC.1 hC.2.1 dX6_well_1 (by decide) ?_
  refine m_pi hC hK hw 3 (by decide) rfl rfl q1119 rfl rfl rfl rfl dX6_well_2 (fun H locs hw => ?_)
  refine lv_iload_n hC.1 hC.2.1 dX6_well_5 rfl (lv_at hl 1 rfl) ?_
  exact m_iret hC hlk hr hw rfl (⟨rfl, rfl⟩) dX6_well_6

set_option maxHeartbeats 4000000 in
theorem tX6_isWork (l : Launch) (G : mG) (c : Nat) (h0 : c < 16) : mI l yX6_isWork cX6_isWork 2 .boolean ({ frames := 0, cells := 0, slots := 0, locals := 0 } : Room) [.int (nI c)] G (fun r G' => r = (bI (isWk (G 6) c)) ∧ G' = G) := by
  refine mI.of (by decide) rfl (fun _ => Nat.le_of_ble_eq_true rfl) ?_
  intro D dA ad p e s m below meth cd ls hC hlk hr hK hl hw
  have hl : lv_has ls 2 [(0, .ref (ad 0)), (1, .int (nI c))] := hl
  refine lv_aload_n hC.1 hC.2.1 dX6_isWork_0 rfl (lv_at hl 0 rfl) ?_
  refine m_ga hC hK hw 5 (by decide) rfl q1121 rfl dX6_isWork_1 ?_
  refine lv_bipush (v := (nI 9)) hC.1 hC.2.1 dX6_isWork_4 (by decide) ?_
  refine lv_iload_n hC.1 hC.2.1 dX6_isWork_6 rfl (lv_at hl 1 rfl) ?_
  refine k_add hC dX6_isWork_7 ?_
  refine m_ld hC hK hw 6 (by decide) (by decide) (by decide) (by simp only [mLen]; omega) (by omega) (v := (G 6 (9 + c))) (rfl) dX6_isWork_8 ?_
  refine lv_if_le (tgt := 16) hC.1 hC.2.1 dX6_isWork_9 (by decide) (fun c9 => ?_) (fun c9 => ?_)
  · refine lv_iconst (v := (nI 0)) hC.1 hC.2.1 dX6_isWork_16 (by decide) ?_
    exact m_iret hC hlk hr hw rfl (⟨bI_of_f (by simp [isWk, Int32.not_lt.mpr c9]), rfl⟩) dX6_isWork_17
  · refine lv_iconst (v := (nI 1)) hC.1 hC.2.1 dX6_isWork_12 (by decide) ?_
    refine lv_goto (tgt := 17) hC.1 hC.2.1 dX6_isWork_13 (by decide) ?_
    exact m_iret hC hlk hr hw rfl (⟨bI_of_t (by simp [isWk]; exact Int32.not_le.mp c9), rfl⟩) dX6_isWork_17

set_option maxHeartbeats 4000000 in
theorem tX6_workMany (l : Launch) (G : mG) : mI l yX6_workMany cX6_workMany 3 .int ({ frames := 1, cells := 0, slots := 0, locals := 21 } : Room) [] G (fun r G' => r = (nI (cntW (G 6) 16)) ∧ G' = G) := by
  refine mI.of (by decide) rfl (fun _ => Nat.le_of_ble_eq_true rfl) ?_
  intro D dA ad p e s m below meth cd ls hC hlk hr hK hl hw
  have hl : lv_has ls 3 [(0, .ref (ad 0))] := hl
  refine lv_iconst (v := (nI 0)) hC.1 hC.2.1 dX6_workMany_0 (by decide) ?_
  refine lv_istore_n (lv' := [(1, .int (nI 0)), (0, .ref (ad 0))]) hC.1 hC.2.1 dX6_workMany_1 rfl hl (by decide) rfl (fun ls hl => ?_)
  refine lv_iconst (v := (nI 0)) hC.1 hC.2.1 dX6_workMany_2 (by decide) ?_
  refine lv_istore_n (lv' := [(2, .int (nI 0)), (1, .int (nI 0)), (0, .ref (ad 0))]) hC.1 hC.2.1 dX6_workMany_3 rfl hl (by decide) rfl (fun ls hl => ?_)
  refine W.loop (fun ls i H locs => lv_has ls 3 [(0, .ref (ad 0)), (1, .int (nI (cntW (G 6) i))), (2, .int (nI i))] ∧ mw D dA (nA mDom ad s.heap.size) s.heap ad G H locs ∧ (i ≤ 16)) 4 (fun _ => []) (fun i => 16 - i) ?_ 0 ⟨hl.sub' [2, 1, 0] (by rfl), hw, by omega⟩
  rintro ls i H locs ⟨hl, hw, hi⟩ ih4
  have hcn := cntW_le (G 6) i
  refine lv_iload_n hC.1 hC.2.1 dX6_workMany_4 rfl (lv_at hl 2 rfl) ?_
  refine lv_bipush (v := (nI 16)) hC.1 hC.2.1 dX6_workMany_5 (by decide) ?_
  refine k_ge (tgt := 32) hC (by omega) (by omega) dX6_workMany_7 (by decide) (fun c7 => ?_) (fun c7 => ?_)
  · refine lv_iload_n hC.1 hC.2.1 dX6_workMany_32 rfl (lv_at hl 1 rfl) ?_
    exact m_iret hC hlk hr hw rfl (⟨by rw [show i = 16 by omega], rfl⟩) dX6_workMany_33
  · refine lv_iload_n hC.1 hC.2.1 dX6_workMany_10 rfl (lv_at hl 1 rfl) ?_
    refine lv_aload_n hC.1 hC.2.1 dX6_workMany_11 rfl (lv_at hl 0 rfl) ?_
    refine lv_iload_n hC.1 hC.2.1 dX6_workMany_12 rfl (lv_at hl 2 rfl) ?_
    refine m_calli (n := 1) hC hl.1 hK hw (tX6_isWork l G i (by omega)) (lw_V q1301 q1303 qs38 q66 q1304) rfl rfl (by decide +kernel) ⟨by decide, by decide⟩ rfl rfl (Nat.le_of_ble_eq_true rfl) dX6_workMany_13 ⟨Nat.zero_le _, Nat.zero_le _⟩ ?_
    rintro r2 G2 H locs ⟨hr2, hG2⟩ hw
    replace hw := hw.eq hG2
    rw [hr2]
    clear hr2 hG2
    refine k_beq (tgt := 23) hC dX6_workMany_16 (by decide) (fun c16 => ?_) (fun c16 => ?_)
    · refine lv_iconst (v := (nI 0)) hC.1 hC.2.1 dX6_workMany_23 (by decide) ?_
      refine k_add hC dX6_workMany_24 ?_
      refine lv_istore_n (lv' := [(1, .int (nI ((cntW (G 6) i) + 0))), (0, .ref (ad 0)), (2, .int (nI i))]) hC.1 hC.2.1 dX6_workMany_25 rfl hl (by decide) rfl (fun ls hl => ?_)
      refine k_iinc (k := 2) (d := 1) (lv' := [(2, .int (nI (i + 1))), (1, .int (nI ((cntW (G 6) i) + 0))), (0, .ref (ad 0))]) hC dX6_workMany_26 hl rfl (by decide) (by decide) rfl (fun ls hl => ?_)
      refine lv_goto (tgt := 4) hC.1 hC.2.1 dX6_workMany_29 (by decide) ?_
      exact ih4 ls (i + 1) H locs ⟨hl.sub' [2, 1, 0] (by simp [lv_pick, cntW, c16]), hw, by omega⟩ (by omega)
    · refine lv_iconst (v := (nI 1)) hC.1 hC.2.1 dX6_workMany_19 (by decide) ?_
      refine lv_goto (tgt := 24) hC.1 hC.2.1 dX6_workMany_20 (by decide) ?_
      refine k_add hC dX6_workMany_24 ?_
      refine lv_istore_n (lv' := [(1, .int (nI ((cntW (G 6) i) + 1))), (0, .ref (ad 0)), (2, .int (nI i))]) hC.1 hC.2.1 dX6_workMany_25 rfl hl (by decide) rfl (fun ls hl => ?_)
      refine k_iinc (k := 2) (d := 1) (lv' := [(2, .int (nI (i + 1))), (1, .int (nI ((cntW (G 6) i) + 1))), (0, .ref (ad 0))]) hC dX6_workMany_26 hl rfl (by decide) (by decide) rfl (fun ls hl => ?_)
      refine lv_goto (tgt := 4) hC.1 hC.2.1 dX6_workMany_29 (by decide) ?_
      exact ih4 ls (i + 1) H locs ⟨hl.sub' [2, 1, 0] (by simp [lv_pick, cntW, c16]), hw, by omega⟩ (by omega)

set_option maxHeartbeats 4000000 in
theorem tX6_clear (l : Launch) (G : mG) (c : Nat) (h0 : c < 16) : mV l yX6_clear cX6_clear 2 ({ frames := 0, cells := 0, slots := 0, locals := 0 } : Room) [.int (nI c)] G (fun G' => G' = va_up G 6 (clr (G 6) c)) := by
  refine mV.of (by decide) rfl (fun _ => Nat.le_of_ble_eq_true rfl) ?_
  intro D dA ad p e s m below meth cd ls hC hlk hr hK hl hw
  have hl : lv_has ls 2 [(0, .ref (ad 0)), (1, .int (nI c))] := hl
  refine lv_aload_n hC.1 hC.2.1 dX6_clear_0 rfl (lv_at hl 0 rfl) ?_
  refine m_ga hC hK hw 5 (by decide) rfl q1121 rfl dX6_clear_1 ?_
  refine lv_bipush (v := (nI 9)) hC.1 hC.2.1 dX6_clear_4 (by decide) ?_
  refine lv_iload_n hC.1 hC.2.1 dX6_clear_6 rfl (lv_at hl 1 rfl) ?_
  refine k_add hC dX6_clear_7 ?_
  refine lv_iconst (v := (nI 0)) hC.1 hC.2.1 dX6_clear_8 (by decide) ?_
  refine m_st hC hK hw 6 (by decide) (by decide) (by decide) (by simp only [mLen]; omega) (by omega) dX6_clear_9 (fun H locs hw => ?_)
  refine lv_aload_n hC.1 hC.2.1 dX6_clear_10 rfl (lv_at hl 0 rfl) ?_
  refine m_ga hC hK hw 5 (by decide) rfl q1121 rfl dX6_clear_11 ?_
  refine lv_bipush (v := (nI 25)) hC.1 hC.2.1 dX6_clear_14 (by decide) ?_
  refine lv_iload_n hC.1 hC.2.1 dX6_clear_16 rfl (lv_at hl 1 rfl) ?_
  refine k_add hC dX6_clear_17 ?_
  refine lv_iconst (v := (nI 0)) hC.1 hC.2.1 dX6_clear_18 (by decide) ?_
  refine m_st hC hK hw 6 (by decide) (by decide) (by decide) (by simp only [mLen]; omega) (by omega) dX6_clear_19 (fun H locs hw => ?_)
  refine lv_aload_n hC.1 hC.2.1 dX6_clear_20 rfl (lv_at hl 0 rfl) ?_
  refine m_ga hC hK hw 5 (by decide) rfl q1121 rfl dX6_clear_21 ?_
  refine lv_bipush (v := (nI 41)) hC.1 hC.2.1 dX6_clear_24 (by decide) ?_
  refine lv_iload_n hC.1 hC.2.1 dX6_clear_26 rfl (lv_at hl 1 rfl) ?_
  refine k_add hC dX6_clear_27 ?_
  refine lv_iconst (v := (nI 0)) hC.1 hC.2.1 dX6_clear_28 (by decide) ?_
  refine m_st hC hK hw 6 (by decide) (by decide) (by decide) (by simp only [mLen]; omega) (by omega) dX6_clear_29 (fun H locs hw => ?_)
  exact m_vret hC hlk hr hw (by rw [g2_eq G, g2_up, g2_up]; rfl) dX6_clear_30

set_option maxHeartbeats 4000000 in
theorem tX6_goes (l : Launch) (G : mG) (x : Nat) (y : Int32) (v : Int32) (h0 : x < 4) : mV l yX6_goes cX6_goes 4 ({ frames := 2, cells := 0, slots := 0, locals := 45 } : Room) [.int (nI x), .int y, .int v] G (fun G' => G' = goesG G x y v) := by
  refine mV.of (by decide) rfl (fun _ => Nat.le_of_ble_eq_true rfl) ?_
  intro D dA ad p e s m below meth cd ls hC hlk hr hK hl hw
  have hl : lv_has ls 4 [(0, .ref (ad 0)), (1, .int (nI x)), (2, .int y), (3, .int v)] := hl
  refine lv_iload_n hC.1 hC.2.1 dX6_goes_0 rfl (lv_at hl 2 rfl) ?_
  refine pS_call (n := 1) hC hl.1 (tX6_isRowOfPass l y ) (lw_S q1329 q1330 q66 q1331) rfl rfl (by decide +kernel) ⟨by decide, by decide⟩ rfl rfl (Nat.le_of_ble_eq_true rfl) dX6_goes_1 ⟨Nat.zero_le _, Nat.zero_le _⟩ ?_
  refine k_beq (tgt := 26) hC dX6_goes_4 (by decide) (fun c4 => ?_) (fun c4 => ?_)
  · refine lv_aload_n hC.1 hC.2.1 dX6_goes_26 rfl (lv_at hl 0 rfl) ?_
    refine lv_dup hC.1 hC.2.1 dX6_goes_27 rfl ?_
    refine m_gi hC hK hw 19 (by decide) rfl q1135 rfl (v := (G 0 19)) (rfl) dX6_goes_28 ?_
    refine lv_iload_n hC.1 hC.2.1 dX6_goes_31 rfl (lv_at hl 3 rfl) ?_
    refine lv_iadd hC.1 hC.2.1 dX6_goes_32 ?_
    refine m_pi hC hK hw 19 (by decide) rfl rfl q1135 rfl rfl rfl rfl dX6_goes_33 (fun H locs hw => ?_)
    exact m_vret hC hlk hr hw (goes_out c4) dX6_goes_36
  · obtain ⟨k, hk, rfl⟩ := inB_nat (n := 3) (by decide) c4
    refine lv_aload_n hC.1 hC.2.1 dX6_goes_7 rfl (lv_at hl 0 rfl) ?_
    refine m_ga hC hK hw 18 (by decide) rfl q1134 rfl dX6_goes_8 ?_
    refine lv_iconst (v := (nI 4)) hC.1 hC.2.1 dX6_goes_11 (by decide) ?_
    refine lv_iload_n hC.1 hC.2.1 dX6_goes_12 rfl (lv_at hl 1 rfl) ?_
    refine k_mul hC dX6_goes_13 ?_
    refine lv_iconst (v := (nI 4)) hC.1 hC.2.1 dX6_goes_14 (by decide) ?_
    refine k_add hC dX6_goes_15 ?_
    refine lv_iload_n hC.1 hC.2.1 dX6_goes_16 rfl (lv_at hl 2 rfl) ?_
    refine k_add hC dX6_goes_17 ?_
    refine lv_dup2_11 hC.1 hC.2.1 dX6_goes_18 rfl rfl ?_
    refine m_ld hC hK hw 19 (by decide) (by decide) (by decide) (by simp only [mLen]; omega) (by omega) (v := (G 19 (((4 * x) + 4) + k))) (rfl) dX6_goes_19 ?_
    refine lv_iload_n hC.1 hC.2.1 dX6_goes_20 rfl (lv_at hl 3 rfl) ?_
    refine lv_iadd hC.1 hC.2.1 dX6_goes_21 ?_
    refine m_st hC hK hw 19 (by decide) (by decide) (by decide) (by simp only [mLen]; omega) (by omega) dX6_goes_22 (fun H locs hw => ?_)
    refine lv_goto (tgt := 36) hC.1 hC.2.1 dX6_goes_23 (by decide) ?_
    exact m_vret hC hlk hr hw (goes_in hk c4) dX6_goes_36

set_option maxHeartbeats 4000000 in
theorem tX6_blow (l : Launch) (G : mG) : mV l yX6_blow cX6_blow 9 ({ frames := 3, cells := 0, slots := 0, locals := 68 } : Room) [] G (fun G' => G' = blowG G) := by
  refine mV.of (by decide) rfl (fun _ => Nat.le_of_ble_eq_true rfl) ?_
  intro D dA ad p e s m below meth cd ls hC hlk hr hK hl hw
  have hl : lv_has ls 9 [(0, .ref (ad 0))] := hl
  refine lv_aload_n hC.1 hC.2.1 dX6_blow_0 rfl (lv_at hl 0 rfl) ?_
  refine lv_iconst (v := (nI 0)) hC.1 hC.2.1 dX6_blow_1 (by decide) ?_
  refine m_pi hC hK hw 19 (by decide) rfl rfl q1135 rfl rfl rfl rfl dX6_blow_2 (fun H locs hw => ?_)
  refine lv_iconst (v := (nI 0)) hC.1 hC.2.1 dX6_blow_5 (by decide) ?_
  refine lv_istore_n (lv' := [(1, .int (nI 0)), (0, .ref (ad 0))]) hC.1 hC.2.1 dX6_blow_6 rfl hl (by decide) rfl (fun ls hl => ?_)
  refine W.loop (fun ls i H locs => lv_has ls 9 [(0, .ref (ad 0)), (1, .int (nI i))] ∧ mw D dA (nA mDom ad s.heap.size) s.heap ad (setFL G (fun j => if j < i then bl0 (G 6) j else G 19 j, nI 0)) H locs ∧ (i ≤ 20)) 7 (fun _ => []) (fun i => 20 - i) ?_ 0 ⟨hl.sub' [1, 0] (by rfl), hw.eq (bl_init G), by omega⟩
  rintro ls i H locs ⟨hl, hw, hi⟩ ih7
  refine lv_iload_n hC.1 hC.2.1 dX6_blow_7 rfl (lv_at hl 1 rfl) ?_
  refine lv_bipush (v := (nI 20)) hC.1 hC.2.1 dX6_blow_8 (by decide) ?_
  refine k_ge (tgt := 42) hC (by omega) (by omega) dX6_blow_10 (by decide) (fun c10 => ?_) (fun c10 => ?_)
  · have e20 : i = 20 := by omega
    subst e20
    have hw : mw D dA (nA mDom ad s.heap.size) s.heap ad (setFL G (bl0 (G 6), nI 0)) H locs := hw.to (fun k _ _ => rfl) (fun n j hn hj => by by_cases h19 : n = 19; (subst h19; show (if j < 20 then _ else _) = _; rw [if_pos (show j < 20 from hj)]; rfl); simp [setFL, va_up, h19])
    refine lv_iconst (v := (nI 0)) hC.1 hC.2.1 dX6_blow_42 (by decide) ?_
    refine lv_istore_n (lv' := [(1, .int (nI 0)), (0, .ref (ad 0))]) hC.1 hC.2.1 dX6_blow_43 rfl hl (by decide) rfl (fun ls hl => ?_)
    refine W.loop (fun ls i H locs => lv_has ls 9 [(0, .ref (ad 0)), (1, .int (nI i))] ∧ mw D dA (nA mDom ad s.heap.size) s.heap ad (setFL G (blF (G 6) i)) H locs ∧ (i ≤ 16)) 44 (fun _ => []) (fun i => 16 - i) ?_ 0 ⟨hl.sub' [1, 0] (by rfl), hw.eq (by rfl), by omega⟩
    rintro ls i H locs ⟨hl, hw, hi⟩ ih44
    refine lv_iload_n hC.1 hC.2.1 dX6_blow_44 rfl (lv_at hl 1 rfl) ?_
    refine lv_bipush (v := (nI 16)) hC.1 hC.2.1 dX6_blow_45 (by decide) ?_
    refine k_ge (tgt := 221) hC (by omega) (by omega) dX6_blow_47 (by decide) (fun c47 => ?_) (fun c47 => ?_)
    · exact m_vret hC hlk hr hw (by unfold blowG; rw [bl_eq, show i = 16 by omega]) dX6_blow_221
    · refine lv_iload_n hC.1 hC.2.1 dX6_blow_50 rfl (lv_at hl 1 rfl) ?_
      refine lv_iconst (v := (nI 4)) hC.1 hC.2.1 dX6_blow_51 (by decide) ?_
      refine k_div hC (by omega) (by omega) (by omega) dX6_blow_52 ?_
      refine lv_istore_n (lv' := [(2, .int (nI (i / 4))), (0, .ref (ad 0)), (1, .int (nI i))]) hC.1 hC.2.1 dX6_blow_53 rfl hl (by decide) rfl (fun ls hl => ?_)
      refine lv_iload_n hC.1 hC.2.1 dX6_blow_54 rfl (lv_at hl 2 rfl) ?_
      refine lv_iconst (v := (nI 4)) hC.1 hC.2.1 dX6_blow_55 (by decide) ?_
      refine k_rem hC (by omega) (by omega) (by omega) dX6_blow_56 ?_
      refine lv_istore_n (lv' := [(3, .int (nI (i % 4))), (2, .int (nI (i / 4))), (0, .ref (ad 0)), (1, .int (nI i))]) hC.1 hC.2.1 dX6_blow_57 rfl hl (by decide) rfl (fun ls hl => ?_)
      refine lv_aload_n hC.1 hC.2.1 dX6_blow_58 rfl (lv_at hl 2 rfl) ?_
      refine m_ga hC hK hw 18 (by decide) rfl q1134 rfl dX6_blow_59 ?_
      refine lv_iload_n hC.1 hC.2.1 dX6_blow_62 rfl (lv_at hl 3 rfl) ?_
      refine m_ld hC hK hw 19 (by decide) (by decide) (by decide) (by simp only [mLen]; omega) (by omega) (v := ((blF (G 6) i).1 i)) (rfl) dX6_blow_63 ?_
      refine lv_istore (lv' := [(4, .int ((blF (G 6) i).1 i)), (3, .int (nI (i % 4))), (2, .int (nI (i / 4))), (0, .ref (ad 0)), (1, .int (nI i))]) hC.1 hC.2.1 dX6_blow_64 hl (by decide) rfl (fun ls hl => ?_)
      refine lv_aload_n hC.1 hC.2.1 dX6_blow_66 rfl (lv_at hl 3 rfl) ?_
      refine m_ga hC hK hw 5 (by decide) rfl q1121 rfl dX6_blow_67 ?_
      refine lv_bipush (v := (nI 9)) hC.1 hC.2.1 dX6_blow_70 (by decide) ?_
      refine lv_iload_n hC.1 hC.2.1 dX6_blow_72 rfl (lv_at hl 4 rfl) ?_
      refine k_add hC dX6_blow_73 ?_
      refine m_ld hC hK hw 6 (by decide) (by decide) (by decide) (by simp only [mLen]; omega) (by omega) (v := (G 6 (9 + i))) (rfl) dX6_blow_74 ?_
      refine lv_istore (lv' := [(5, .int (G 6 (9 + i))), (4, .int ((blF (G 6) i).1 i)), (3, .int (nI (i % 4))), (2, .int (nI (i / 4))), (0, .ref (ad 0)), (1, .int (nI i))]) hC.1 hC.2.1 dX6_blow_75 hl (by decide) rfl (fun ls hl => ?_)
      refine W.join (fun v : Int32 => v = (bI (nthF (G 6 (9 + i)) (G 6 0)))) (fun v => F0 m 105 ls (.int v :: [])) ?_ (fun hJ77 => ?_)
      · rintro _ rfl
        refine lv_istore (lv' := [(6, .int (bI (nthF (G 6 (9 + i)) (G 6 0)))), (5, .int (G 6 (9 + i))), (4, .int ((blF (G 6) i).1 i)), (3, .int (nI (i % 4))), (2, .int (nI (i / 4))), (0, .ref (ad 0)), (1, .int (nI i))]) hC.1 hC.2.1 dX6_blow_105 hl (by decide) rfl (fun ls hl => ?_)
        refine W.join (fun v : Int32 => v = (onF (G 6 (9 + i)) (G 6 (41 + i)) ((blF (G 6) i).1 i))) (fun v => F0 m 150 ls (.int v :: [])) ?_ (fun hJ107 => ?_)
        · rintro _ rfl
          refine lv_istore (lv' := [(7, .int (onF (G 6 (9 + i)) (G 6 (41 + i)) ((blF (G 6) i).1 i))), (6, .int (bI (nthF (G 6 (9 + i)) (G 6 0)))), (5, .int (G 6 (9 + i))), (4, .int ((blF (G 6) i).1 i)), (3, .int (nI (i % 4))), (2, .int (nI (i / 4))), (0, .ref (ad 0)), (1, .int (nI i))]) hC.1 hC.2.1 dX6_blow_150 hl (by decide) rfl (fun ls hl => ?_)
          refine W.join (fun v : Int32 => v = (upF (G 6 (9 + i)) (G 6 0) ((blF (G 6) i).1 i) (onF (G 6 (9 + i)) (G 6 (41 + i)) ((blF (G 6) i).1 i)))) (fun v => F0 m 179 ls (.int v :: [])) ?_ (fun hJ152 => ?_)
          · rintro _ rfl
            refine lv_istore (lv' := [(8, .int (upF (G 6 (9 + i)) (G 6 0) ((blF (G 6) i).1 i) (onF (G 6 (9 + i)) (G 6 (41 + i)) ((blF (G 6) i).1 i)))), (7, .int (onF (G 6 (9 + i)) (G 6 (41 + i)) ((blF (G 6) i).1 i))), (6, .int (bI (nthF (G 6 (9 + i)) (G 6 0)))), (5, .int (G 6 (9 + i))), (4, .int ((blF (G 6) i).1 i)), (3, .int (nI (i % 4))), (2, .int (nI (i / 4))), (0, .ref (ad 0)), (1, .int (nI i))]) hC.1 hC.2.1 dX6_blow_179 hl (by decide) rfl (fun ls hl => ?_)
            refine lv_aload_n hC.1 hC.2.1 dX6_blow_181 rfl (lv_at hl 7 rfl) ?_
            refine lv_iload_n hC.1 hC.2.1 dX6_blow_182 rfl (lv_at hl 6 rfl) ?_
            refine lv_iload_n hC.1 hC.2.1 dX6_blow_183 rfl (lv_at hl 5 rfl) ?_
            refine lv_iload hC.1 hC.2.1 dX6_blow_184 (lv_at hl 1 rfl) ?_
            refine m_callv (n := 3) hC hl.1 hK hw (tX6_goes l (setFL G (blF (G 6) i)) (i / 4) (nI (i % 4)) (onF (G 6 (9 + i)) (G 6 (41 + i)) ((blF (G 6) i).1 i)) (by omega)) (lw_V q1347 q1349 qs44 q66 q1350) rfl rfl (by decide +kernel) ⟨by decide, by decide⟩ rfl rfl (Nat.le_of_ble_eq_true rfl) dX6_blow_186 ⟨Nat.zero_le _, Nat.zero_le _⟩ ?_
            rintro G2 H locs hG2 hw
            replace hw := hw.eq hG2
            clear hG2
            refine lv_aload_n hC.1 hC.2.1 dX6_blow_189 rfl (lv_at hl 7 rfl) ?_
            refine lv_iload_n hC.1 hC.2.1 dX6_blow_190 rfl (lv_at hl 6 rfl) ?_
            refine lv_iload_n hC.1 hC.2.1 dX6_blow_191 rfl (lv_at hl 5 rfl) ?_
            refine lv_iconst (v := (nI 1)) hC.1 hC.2.1 dX6_blow_192 (by decide) ?_
            refine lv_isub hC.1 hC.2.1 dX6_blow_193 ?_
            refine lv_iload hC.1 hC.2.1 dX6_blow_194 (lv_at hl 0 rfl) ?_
            refine m_callv (n := 3) hC hl.1 hK hw (tX6_goes l (goesG (setFL G (blF (G 6) i)) (i / 4) (nI (i % 4)) (onF (G 6 (9 + i)) (G 6 (41 + i)) ((blF (G 6) i).1 i))) (i / 4) ((nI (i % 4)) - (nI 1)) (upF (G 6 (9 + i)) (G 6 0) ((blF (G 6) i).1 i) (onF (G 6 (9 + i)) (G 6 (41 + i)) ((blF (G 6) i).1 i))) (by omega)) (lw_V q1347 q1349 qs44 q66 q1350) rfl rfl (by decide +kernel) ⟨by decide, by decide⟩ rfl rfl (Nat.le_of_ble_eq_true rfl) dX6_blow_196 ⟨Nat.zero_le _, Nat.zero_le _⟩ ?_
            rintro G2 H locs hG2 hw
            replace hw := hw.eq hG2
            clear hG2
            refine lv_aload_n hC.1 hC.2.1 dX6_blow_199 rfl (lv_at hl 7 rfl) ?_
            refine lv_iload_n hC.1 hC.2.1 dX6_blow_200 rfl (lv_at hl 6 rfl) ?_
            refine lv_iload_n hC.1 hC.2.1 dX6_blow_201 rfl (lv_at hl 5 rfl) ?_
            refine lv_iconst (v := (nI 1)) hC.1 hC.2.1 dX6_blow_202 (by decide) ?_
            refine k_add hC dX6_blow_203 ?_
            refine lv_iload hC.1 hC.2.1 dX6_blow_204 (lv_at hl 4 rfl) ?_
            refine lv_iload hC.1 hC.2.1 dX6_blow_206 (lv_at hl 1 rfl) ?_
            refine lv_isub hC.1 hC.2.1 dX6_blow_208 ?_
            refine lv_iload hC.1 hC.2.1 dX6_blow_209 (lv_at hl 0 rfl) ?_
            refine lv_isub hC.1 hC.2.1 dX6_blow_211 ?_
            refine m_callv (n := 3) hC hl.1 hK hw (tX6_goes l (goesG (goesG (setFL G (blF (G 6) i)) (i / 4) (nI (i % 4)) (onF (G 6 (9 + i)) (G 6 (41 + i)) ((blF (G 6) i).1 i))) (i / 4) ((nI (i % 4)) - (nI 1)) (upF (G 6 (9 + i)) (G 6 0) ((blF (G 6) i).1 i) (onF (G 6 (9 + i)) (G 6 (41 + i)) ((blF (G 6) i).1 i)))) (i / 4) (nI ((i % 4) + 1)) ((((blF (G 6) i).1 i) - (onF (G 6 (9 + i)) (G 6 (41 + i)) ((blF (G 6) i).1 i))) - (upF (G 6 (9 + i)) (G 6 0) ((blF (G 6) i).1 i) (onF (G 6 (9 + i)) (G 6 (41 + i)) ((blF (G 6) i).1 i)))) (by omega)) (lw_V q1347 q1349 qs44 q66 q1350) rfl rfl (by decide +kernel) ⟨by decide, by decide⟩ rfl rfl (Nat.le_of_ble_eq_true rfl) dX6_blow_212 ⟨Nat.zero_le _, Nat.zero_le _⟩ ?_
            rintro G2 H locs hG2 hw
            replace hw := hw.eq hG2
            clear hG2
            refine k_iinc (k := 8) (d := 1) (lv' := [(1, .int (nI (i + 1))), (8, .int (upF (G 6 (9 + i)) (G 6 0) ((blF (G 6) i).1 i) (onF (G 6 (9 + i)) (G 6 (41 + i)) ((blF (G 6) i).1 i)))), (7, .int (onF (G 6 (9 + i)) (G 6 (41 + i)) ((blF (G 6) i).1 i))), (6, .int (bI (nthF (G 6 (9 + i)) (G 6 0)))), (5, .int (G 6 (9 + i))), (4, .int ((blF (G 6) i).1 i)), (3, .int (nI (i % 4))), (2, .int (nI (i / 4))), (0, .ref (ad 0))]) hC dX6_blow_215 hl rfl (by decide) (by decide) rfl (fun ls hl => ?_)
            refine lv_goto (tgt := 44) hC.1 hC.2.1 dX6_blow_218 (by decide) ?_
            exact ih44 ls (i + 1) H locs ⟨hl.sub' [8, 0] (by rfl), hw.eq (by rw [goesG_set, goesG_set, goesG_set]; rfl), by omega⟩ (by omega)
          · refine lv_iload hC.1 hC.2.1 dX6_blow_152 (lv_at hl 2 rfl) ?_
            refine lv_iconst (v := (nI 4)) hC.1 hC.2.1 dX6_blow_154 (by decide) ?_
            refine lv_icmp_lt (tgt := 172) hC.1 hC.2.1 dX6_blow_155 (by decide) (fun c155 => ?_) (fun c155 => ?_)
            · refine lv_iload hC.1 hC.2.1 dX6_blow_172 (lv_at hl 3 rfl) ?_
              refine lv_iload hC.1 hC.2.1 dX6_blow_174 (lv_at hl 0 rfl) ?_
              refine lv_isub hC.1 hC.2.1 dX6_blow_176 ?_
              refine lv_iconst (v := (nI 2)) hC.1 hC.2.1 dX6_blow_177 (by decide) ?_
              refine lv_idiv hC.1 hC.2.1 dX6_blow_178 (by decide) ?_
              exact hJ152 _ (up_3 c155)
            · refine lv_iload hC.1 hC.2.1 dX6_blow_158 (lv_at hl 1 rfl) ?_
              refine k_beq (tgt := 168) hC dX6_blow_160 (by decide) (fun c160 => ?_) (fun c160 => ?_)
              · refine lv_iconst (v := (nI 0)) hC.1 hC.2.1 dX6_blow_168 (by decide) ?_
                refine lv_goto (tgt := 179) hC.1 hC.2.1 dX6_blow_169 (by decide) ?_
                exact hJ152 _ (up_2 c155 c160)
              · refine lv_iload hC.1 hC.2.1 dX6_blow_163 (lv_at hl 3 rfl) ?_
                refine lv_goto (tgt := 179) hC.1 hC.2.1 dX6_blow_165 (by decide) ?_
                exact hJ152 _ (up_1 c155 c160)
        · refine lv_iload hC.1 hC.2.1 dX6_blow_107 (lv_at hl 1 rfl) ?_
          refine lv_if_eq (tgt := 131) hC.1 hC.2.1 dX6_blow_109 (by decide) (fun c109 => ?_) (fun c109 => ?_)
          · refine lv_iload hC.1 hC.2.1 dX6_blow_131 (lv_at hl 2 rfl) ?_
            refine lv_goto (tgt := 150) hC.1 hC.2.1 dX6_blow_133 (by decide) ?_
            exact hJ107 _ (on_v (Or.inl c109))
          · refine lv_iload hC.1 hC.2.1 dX6_blow_112 (lv_at hl 1 rfl) ?_
            refine lv_iconst (v := (nI 3)) hC.1 hC.2.1 dX6_blow_114 (by decide) ?_
            refine lv_icmp_ne (tgt := 136) hC.1 hC.2.1 dX6_blow_115 (by decide) (fun c115 => ?_) (fun c115 => ?_)
            · refine lv_iload hC.1 hC.2.1 dX6_blow_136 (lv_at hl 1 rfl) ?_
              refine lv_iconst (v := (nI 2)) hC.1 hC.2.1 dX6_blow_138 (by decide) ?_
              refine lv_icmp_ne (tgt := 149) hC.1 hC.2.1 dX6_blow_139 (by decide) (fun c139 => ?_) (fun c139 => ?_)
              · refine lv_iconst (v := (nI 0)) hC.1 hC.2.1 dX6_blow_149 (by decide) ?_
                exact hJ107 _ (on_z (fun h => h.elim c109 (fun h => c115 h.1)) c139)
              · refine lv_iload hC.1 hC.2.1 dX6_blow_142 (lv_at hl 2 rfl) ?_
                refine lv_iconst (v := (nI 2)) hC.1 hC.2.1 dX6_blow_144 (by decide) ?_
                refine lv_idiv hC.1 hC.2.1 dX6_blow_145 (by decide) ?_
                refine lv_goto (tgt := 150) hC.1 hC.2.1 dX6_blow_146 (by decide) ?_
                exact hJ107 _ (on_h (fun h => h.elim c109 (fun h => c115 h.1)) c139)
            · refine lv_aload_n hC.1 hC.2.1 dX6_blow_118 rfl (lv_at hl 5 rfl) ?_
              refine m_ga hC hK hw 5 (by decide) rfl q1121 rfl dX6_blow_119 ?_
              refine lv_bipush (v := (nI 41)) hC.1 hC.2.1 dX6_blow_122 (by decide) ?_
              refine lv_iload_n hC.1 hC.2.1 dX6_blow_124 rfl (lv_at hl 6 rfl) ?_
              refine k_add hC dX6_blow_125 ?_
              refine m_ld hC hK hw 6 (by decide) (by decide) (by decide) (by simp only [mLen]; omega) (by omega) (v := (G 6 (41 + i))) (rfl) dX6_blow_126 ?_
              refine lv_iconst (v := (nI 1)) hC.1 hC.2.1 dX6_blow_127 (by decide) ?_
              refine lv_icmp_ne (tgt := 136) hC.1 hC.2.1 dX6_blow_128 (by decide) (fun c128 => ?_) (fun c128 => ?_)
              · refine lv_iload hC.1 hC.2.1 dX6_blow_136 (lv_at hl 1 rfl) ?_
                refine lv_iconst (v := (nI 2)) hC.1 hC.2.1 dX6_blow_138 (by decide) ?_
                refine lv_icmp_ne (tgt := 149) hC.1 hC.2.1 dX6_blow_139 (by decide) (fun c139 => ?_) (fun c139 => ?_)
                · refine lv_iconst (v := (nI 0)) hC.1 hC.2.1 dX6_blow_149 (by decide) ?_
                  exact hJ107 _ (on_z (fun h => h.elim c109 (fun h => c128 h.2)) c139)
                · refine lv_iload hC.1 hC.2.1 dX6_blow_142 (lv_at hl 2 rfl) ?_
                  refine lv_iconst (v := (nI 2)) hC.1 hC.2.1 dX6_blow_144 (by decide) ?_
                  refine lv_idiv hC.1 hC.2.1 dX6_blow_145 (by decide) ?_
                  refine lv_goto (tgt := 150) hC.1 hC.2.1 dX6_blow_146 (by decide) ?_
                  exact hJ107 _ (on_h (fun h => h.elim c109 (fun h => c128 h.2)) c139)
              · refine lv_iload hC.1 hC.2.1 dX6_blow_131 (lv_at hl 2 rfl) ?_
                refine lv_goto (tgt := 150) hC.1 hC.2.1 dX6_blow_133 (by decide) ?_
                exact hJ107 _ (on_v (Or.inr ⟨c115, c128⟩))
      · refine lv_iload hC.1 hC.2.1 dX6_blow_77 (lv_at hl 0 rfl) ?_
        refine lv_iconst (v := (nI 4)) hC.1 hC.2.1 dX6_blow_79 (by decide) ?_
        refine lv_icmp_eq (tgt := 100) hC.1 hC.2.1 dX6_blow_80 (by decide) (fun c80 => ?_) (fun c80 => ?_)
        · refine lv_iconst (v := (nI 1)) hC.1 hC.2.1 dX6_blow_100 (by decide) ?_
          refine lv_goto (tgt := 105) hC.1 hC.2.1 dX6_blow_101 (by decide) ?_
          exact hJ77 _ (nth_t1 c80)
        · refine lv_iload hC.1 hC.2.1 dX6_blow_83 (lv_at hl 0 rfl) ?_
          refine lv_iconst (v := (nI 5)) hC.1 hC.2.1 dX6_blow_85 (by decide) ?_
          refine lv_icmp_ne (tgt := 104) hC.1 hC.2.1 dX6_blow_86 (by decide) (fun c86 => ?_) (fun c86 => ?_)
          · refine lv_iconst (v := (nI 0)) hC.1 hC.2.1 dX6_blow_104 (by decide) ?_
            exact hJ77 _ (nth_f1 c80 c86)
          · refine lv_aload_n hC.1 hC.2.1 dX6_blow_89 rfl (lv_at hl 4 rfl) ?_
            refine m_ga hC hK hw 5 (by decide) rfl q1121 rfl dX6_blow_90 ?_
            refine lv_iconst (v := (nI 0)) hC.1 hC.2.1 dX6_blow_93 (by decide) ?_
            refine m_ld hC hK hw 6 (by decide) (by decide) (by decide) (by simp only [mLen]; omega) (by omega) (v := (G 6 0)) (rfl) dX6_blow_94 ?_
            refine lv_iconst (v := (nI 2)) hC.1 hC.2.1 dX6_blow_95 (by decide) ?_
            refine lv_irem hC.1 hC.2.1 dX6_blow_96 (by decide) ?_
            refine lv_if_ne (tgt := 104) hC.1 hC.2.1 dX6_blow_97 (by decide) (fun c97 => ?_) (fun c97 => ?_)
            · refine lv_iconst (v := (nI 0)) hC.1 hC.2.1 dX6_blow_104 (by decide) ?_
              exact hJ77 _ (nth_f2 c80 c97)
            · refine lv_iconst (v := (nI 1)) hC.1 hC.2.1 dX6_blow_100 (by decide) ?_
              refine lv_goto (tgt := 105) hC.1 hC.2.1 dX6_blow_101 (by decide) ?_
              exact hJ77 _ (nth_t2 c86 c97)
  · refine lv_aload_n hC.1 hC.2.1 dX6_blow_13 rfl (lv_at hl 0 rfl) ?_
    refine m_ga hC hK hw 18 (by decide) rfl q1134 rfl dX6_blow_14 ?_
    refine lv_iload_n hC.1 hC.2.1 dX6_blow_17 rfl (lv_at hl 1 rfl) ?_
    refine lv_iload_n hC.1 hC.2.1 dX6_blow_18 rfl (lv_at hl 1 rfl) ?_
    refine lv_iconst (v := (nI 4)) hC.1 hC.2.1 dX6_blow_19 (by decide) ?_
    refine k_ge (tgt := 34) hC (by omega) (by omega) dX6_blow_20 (by decide) (fun c20 => ?_) (fun c20 => ?_)
    · refine lv_iconst (v := (nI 0)) hC.1 hC.2.1 dX6_blow_34 (by decide) ?_
      refine m_st hC hK hw 19 (by decide) (by decide) (by decide) (by simp only [mLen]; omega) (by omega) dX6_blow_35 (fun H locs hw => ?_)
      refine k_iinc (k := 1) (d := 1) (lv' := [(1, .int (nI (i + 1))), (0, .ref (ad 0))]) hC dX6_blow_36 hl rfl (by decide) (by decide) rfl (fun ls hl => ?_)
      refine lv_goto (tgt := 7) hC.1 hC.2.1 dX6_blow_39 (by decide) ?_
      exact ih7 ls (i + 1) H locs ⟨hl.sub' [1, 0] (by rfl), hw.eq (by rw [setFL_st, show (nI 0) = bl0 (G 6) i from by unfold bl0; rw [if_neg (by omega)], bl0_step]), by omega⟩ (by omega)
    · refine lv_aload_n hC.1 hC.2.1 dX6_blow_23 rfl (lv_at hl 0 rfl) ?_
      refine m_ga hC hK hw 5 (by decide) rfl q1121 rfl dX6_blow_24 ?_
      refine lv_iconst (v := (nI 1)) hC.1 hC.2.1 dX6_blow_27 (by decide) ?_
      refine lv_iload_n hC.1 hC.2.1 dX6_blow_28 rfl (lv_at hl 1 rfl) ?_
      refine k_add hC dX6_blow_29 ?_
      refine m_ld hC hK hw 6 (by decide) (by decide) (by decide) (by simp only [mLen]; omega) (by omega) (v := (G 6 (1 + i))) (rfl) dX6_blow_30 ?_
      refine lv_goto (tgt := 35) hC.1 hC.2.1 dX6_blow_31 (by decide) ?_
      refine m_st hC hK hw 19 (by decide) (by decide) (by decide) (by simp only [mLen]; omega) (by omega) dX6_blow_35 (fun H locs hw => ?_)
      refine k_iinc (k := 1) (d := 1) (lv' := [(1, .int (nI (i + 1))), (0, .ref (ad 0))]) hC dX6_blow_36 hl rfl (by decide) (by decide) rfl (fun ls hl => ?_)
      refine lv_goto (tgt := 7) hC.1 hC.2.1 dX6_blow_39 (by decide) ?_
      exact ih7 ls (i + 1) H locs ⟨hl.sub' [1, 0] (by rfl), hw.eq (by rw [setFL_st, show (G 6 (1 + i)) = bl0 (G 6) i from by unfold bl0; rw [if_pos (by omega)], bl0_step]), by omega⟩ (by omega)

set_option maxHeartbeats 4000000 in
theorem tX6_feltNow (l : Launch) (G : mG) (c : Nat) (h0 : c < 20) : mI l yX6_feltNow cX6_feltNow 2 .int ({ frames := 4, cells := 0, slots := 0, locals := 96 } : Room) [.int (nI c)] G (fun r G' => r = ((bl (G 6)).1 c) ∧ G' = blowG G) := by
  refine mI.of (by decide) rfl (fun _ => Nat.le_of_ble_eq_true rfl) ?_
  intro D dA ad p e s m below meth cd ls hC hlk hr hK hl hw
  have hl : lv_has ls 2 [(0, .ref (ad 0)), (1, .int (nI c))] := hl
  refine lv_aload_n hC.1 hC.2.1 dX6_feltNow_0 rfl (lv_at hl 0 rfl) ?_
  refine m_callv (n := 0) hC hl.1 hK hw (tX6_blow l G  ) (lw_V q1343 q1345 qs43 q66 q1346) rfl rfl (by decide +kernel) ⟨by decide, by decide⟩ rfl rfl (Nat.le_of_ble_eq_true rfl) dX6_feltNow_1 ⟨Nat.zero_le _, Nat.zero_le _⟩ ?_
  rintro G2 H locs hG2 hw
  replace hw := hw.eq hG2
  clear hG2
  refine lv_aload_n hC.1 hC.2.1 dX6_feltNow_4 rfl (lv_at hl 0 rfl) ?_
  refine m_ga hC hK hw 18 (by decide) rfl q1134 rfl dX6_feltNow_5 ?_
  refine lv_iload_n hC.1 hC.2.1 dX6_feltNow_8 rfl (lv_at hl 1 rfl) ?_
  refine m_ld hC hK hw 19 (by decide) (by decide) (by decide) (by simp only [mLen]; omega) (by omega) (v := ((bl (G 6)).1 c)) (rfl) dX6_feltNow_9 ?_
  exact m_iret hC hlk hr hw rfl (⟨rfl, rfl⟩) dX6_feltNow_10

set_option maxHeartbeats 4000000 in
theorem tX6_oneHour (l : Launch) (G : mG) : mV l yX6_oneHour cX6_oneHour 2 ({ frames := 4, cells := 0, slots := 0, locals := 96 } : Room) [] G (fun G' => G' = hourG G) := by
  refine mV.of (by decide) rfl (fun _ => Nat.le_of_ble_eq_true rfl) ?_
  intro D dA ad p e s m below meth cd ls hC hlk hr hK hl hw
  have hl : lv_has ls 2 [(0, .ref (ad 0))] := hl
  refine lv_aload_n hC.1 hC.2.1 dX6_oneHour_0 rfl (lv_at hl 0 rfl) ?_
  refine m_callv (n := 0) hC hl.1 hK hw (tX6_blow l G  ) (lw_V q1343 q1345 qs43 q66 q1346) rfl rfl (by decide +kernel) ⟨by decide, by decide⟩ rfl rfl (Nat.le_of_ble_eq_true rfl) dX6_oneHour_1 ⟨Nat.zero_le _, Nat.zero_le _⟩ ?_
  rintro G2 H locs hG2 hw
  replace hw := hw.eq hG2
  clear hG2
  refine lv_aload_n hC.1 hC.2.1 dX6_oneHour_4 rfl (lv_at hl 0 rfl) ?_
  refine lv_iconst (v := (nI 0)) hC.1 hC.2.1 dX6_oneHour_5 (by decide) ?_
  refine m_pi hC hK hw 20 (by decide) rfl rfl q1136 rfl rfl rfl rfl dX6_oneHour_6 (fun H locs hw => ?_)
  refine lv_iconst (v := (nI 0)) hC.1 hC.2.1 dX6_oneHour_9 (by decide) ?_
  refine lv_istore_n (lv' := [(1, .int (nI 0)), (0, .ref (ad 0))]) hC.1 hC.2.1 dX6_oneHour_10 rfl hl (by decide) rfl (fun ls hl => ?_)
  refine W.loop (fun ls i H locs => lv_has ls 2 [(0, .ref (ad 0)), (1, .int (nI i))] ∧ mw D dA (nA mDom ad s.heap.size) s.heap ad (hG G (hbF (G 6) (bl (G 6)).1 i)) H locs ∧ (i ≤ 16)) 11 (fun _ => []) (fun i => 16 - i) ?_ 0 ⟨hl.sub' [1, 0] (by rfl), hw.eq (hG_init G), by omega⟩
  rintro ls i H locs ⟨hl, hw, hi⟩ ih11
  refine lv_iload_n hC.1 hC.2.1 dX6_oneHour_11 rfl (lv_at hl 1 rfl) ?_
  refine lv_bipush (v := (nI 16)) hC.1 hC.2.1 dX6_oneHour_12 (by decide) ?_
  refine k_ge (tgt := 66) hC (by omega) (by omega) dX6_oneHour_14 (by decide) (fun c14 => ?_) (fun c14 => ?_)
  · have e16 : i = 16 := by omega
    subst e16
    refine lv_aload_n hC.1 hC.2.1 dX6_oneHour_66 rfl (lv_at hl 0 rfl) ?_
    refine m_ga hC hK hw 5 (by decide) rfl q1121 rfl dX6_oneHour_67 ?_
    refine lv_iconst (v := (nI 0)) hC.1 hC.2.1 dX6_oneHour_70 (by decide) ?_
    refine lv_dup2_11 hC.1 hC.2.1 dX6_oneHour_71 rfl rfl ?_
    refine m_ld hC hK hw 6 (by decide) (by decide) (by decide) (by simp only [mLen]; omega) (by omega) (v := ((hbF (G 6) (bl (G 6)).1 16).1 0)) (rfl) dX6_oneHour_72 ?_
    refine lv_iconst (v := (nI 1)) hC.1 hC.2.1 dX6_oneHour_73 (by decide) ?_
    refine lv_iadd hC.1 hC.2.1 dX6_oneHour_74 ?_
    refine m_st hC hK hw 6 (by decide) (by decide) (by decide) (by simp only [mLen]; omega) (by omega) dX6_oneHour_75 (fun H locs hw => ?_)
    refine lv_iconst (v := (nI 0)) hC.1 hC.2.1 dX6_oneHour_76 (by decide) ?_
    refine lv_istore_n (lv' := [(1, .int (nI 0)), (0, .ref (ad 0))]) hC.1 hC.2.1 dX6_oneHour_77 rfl hl (by decide) rfl (fun ls hl => ?_)
    refine W.loop (fun ls i H locs => lv_has ls 2 [(0, .ref (ad 0)), (1, .int (nI i))] ∧ mw D dA (nA mDom ad s.heap.size) s.heap ad (hG G (rsF (hS0 (G 6)) i, hourB (G 6))) H locs ∧ (i ≤ 4)) 78 (fun _ => []) (fun i => 4 - i) ?_ 0 ⟨hl.sub' [1, 0] (by rfl), hw.eq (hS0_step G), by omega⟩
    rintro ls i H locs ⟨hl, hw, hi⟩ ih78
    refine lv_iload_n hC.1 hC.2.1 dX6_oneHour_78 rfl (lv_at hl 1 rfl) ?_
    refine lv_iconst (v := (nI 4)) hC.1 hC.2.1 dX6_oneHour_79 (by decide) ?_
    refine k_ge (tgt := 117) hC (by omega) (by omega) dX6_oneHour_80 (by decide) (fun c80 => ?_) (fun c80 => ?_)
    · exact m_vret hC hlk hr hw (by rw [show i = 4 by omega, hourG_eq, hourS_eq]) dX6_oneHour_117
    · refine lv_aload_n hC.1 hC.2.1 dX6_oneHour_83 rfl (lv_at hl 0 rfl) ?_
      refine m_ga hC hK hw 5 (by decide) rfl q1121 rfl dX6_oneHour_84 ?_
      refine lv_iconst (v := (nI 1)) hC.1 hC.2.1 dX6_oneHour_87 (by decide) ?_
      refine lv_iload_n hC.1 hC.2.1 dX6_oneHour_88 rfl (lv_at hl 1 rfl) ?_
      refine k_add hC dX6_oneHour_89 ?_
      refine lv_aload_n hC.1 hC.2.1 dX6_oneHour_90 rfl (lv_at hl 0 rfl) ?_
      refine m_ga hC hK hw 5 (by decide) rfl q1121 rfl dX6_oneHour_91 ?_
      refine lv_iconst (v := (nI 1)) hC.1 hC.2.1 dX6_oneHour_94 (by decide) ?_
      refine lv_iload_n hC.1 hC.2.1 dX6_oneHour_95 rfl (lv_at hl 1 rfl) ?_
      refine k_add hC dX6_oneHour_96 ?_
      refine m_ld hC hK hw 6 (by decide) (by decide) (by decide) (by simp only [mLen]; omega) (by omega) (v := (rsF (hS0 (G 6)) i (1 + i))) (rfl) dX6_oneHour_97 ?_
      refine lv_aload_n hC.1 hC.2.1 dX6_oneHour_98 rfl (lv_at hl 0 rfl) ?_
      refine m_ga hC hK hw 5 (by decide) rfl q1121 rfl dX6_oneHour_99 ?_
      refine lv_iconst (v := (nI 5)) hC.1 hC.2.1 dX6_oneHour_102 (by decide) ?_
      refine lv_iload_n hC.1 hC.2.1 dX6_oneHour_103 rfl (lv_at hl 1 rfl) ?_
      refine k_add hC dX6_oneHour_104 ?_
      refine m_ld hC hK hw 6 (by decide) (by decide) (by decide) (by simp only [mLen]; omega) (by omega) (v := (rsF (hS0 (G 6)) i (5 + i))) (rfl) dX6_oneHour_105 ?_
      refine lv_iadd hC.1 hC.2.1 dX6_oneHour_106 ?_
      refine lv_bipush (v := (nI 32)) hC.1 hC.2.1 dX6_oneHour_107 (by decide) ?_
      refine lv_irem hC.1 hC.2.1 dX6_oneHour_109 (by decide) ?_
      refine m_st hC hK hw 6 (by decide) (by decide) (by decide) (by simp only [mLen]; omega) (by omega) dX6_oneHour_110 (fun H locs hw => ?_)
      refine k_iinc (k := 1) (d := 1) (lv' := [(1, .int (nI (i + 1))), (0, .ref (ad 0))]) hC dX6_oneHour_111 hl rfl (by decide) (by decide) rfl (fun ls hl => ?_)
      refine lv_goto (tgt := 78) hC.1 hC.2.1 dX6_oneHour_114 (by decide) ?_
      exact ih78 ls (i + 1) H locs ⟨hl.sub' [1, 0] (by rfl), hw.eq (rs_g2 G _ _ _), by omega⟩ (by omega)
  · refine lv_aload_n hC.1 hC.2.1 dX6_oneHour_17 rfl (lv_at hl 0 rfl) ?_
    refine lv_iload_n hC.1 hC.2.1 dX6_oneHour_18 rfl (lv_at hl 1 rfl) ?_
    refine m_calli (n := 1) hC hl.1 hK hw (tX6_isWork l (hG G (hbF (G 6) (bl (G 6)).1 i)) i (by omega)) (lw_V q1301 q1303 qs38 q66 q1304) rfl rfl (by decide +kernel) ⟨by decide, by decide⟩ rfl rfl (Nat.le_of_ble_eq_true rfl) dX6_oneHour_19 ⟨Nat.zero_le _, Nat.zero_le _⟩ ?_
    rintro r2 G2 H locs ⟨hr2, hG2⟩ hw
    replace hw := hw.eq hG2
    rw [hr2]
    clear hr2 hG2
    refine k_beq (tgt := 60) hC dX6_oneHour_22 (by decide) (fun c22 => ?_) (fun c22 => ?_)
    · refine k_iinc (k := 1) (d := 1) (lv' := [(1, .int (nI (i + 1))), (0, .ref (ad 0))]) hC dX6_oneHour_60 hl rfl (by decide) (by decide) rfl (fun ls hl => ?_)
      refine lv_goto (tgt := 11) hC.1 hC.2.1 dX6_oneHour_63 (by decide) ?_
      exact ih11 ls (i + 1) H locs ⟨hl.sub' [1, 0] (by rfl), hw.eq (congrArg (hG G) (hb_no1 c22)), by omega⟩ (by omega)
    · refine lv_aload_n hC.1 hC.2.1 dX6_oneHour_25 rfl (lv_at hl 0 rfl) ?_
      refine m_ga hC hK hw 18 (by decide) rfl q1134 rfl dX6_oneHour_26 ?_
      refine lv_iload_n hC.1 hC.2.1 dX6_oneHour_29 rfl (lv_at hl 1 rfl) ?_
      refine m_ld hC hK hw 19 (by decide) (by decide) (by decide) (by simp only [mLen]; omega) (by omega) (v := ((bl (G 6)).1 i)) (rfl) dX6_oneHour_30 ?_
      refine lv_aload_n hC.1 hC.2.1 dX6_oneHour_31 rfl (lv_at hl 0 rfl) ?_
      refine m_ga hC hK hw 5 (by decide) rfl q1121 rfl dX6_oneHour_32 ?_
      refine lv_bipush (v := (nI 25)) hC.1 hC.2.1 dX6_oneHour_35 (by decide) ?_
      refine lv_iload_n hC.1 hC.2.1 dX6_oneHour_37 rfl (lv_at hl 1 rfl) ?_
      refine k_add hC dX6_oneHour_38 ?_
      refine m_ld hC hK hw 6 (by decide) (by decide) (by decide) (by simp only [mLen]; omega) (by omega) (v := ((hbF (G 6) (bl (G 6)).1 i).1 (25 + i))) (rfl) dX6_oneHour_39 ?_
      refine lv_icmp_le (tgt := 60) hC.1 hC.2.1 dX6_oneHour_40 (by decide) (fun c40 => ?_) (fun c40 => ?_)
      · refine k_iinc (k := 1) (d := 1) (lv' := [(1, .int (nI (i + 1))), (0, .ref (ad 0))]) hC dX6_oneHour_60 hl rfl (by decide) (by decide) rfl (fun ls hl => ?_)
        refine lv_goto (tgt := 11) hC.1 hC.2.1 dX6_oneHour_63 (by decide) ?_
        exact ih11 ls (i + 1) H locs ⟨hl.sub' [1, 0] (by rfl), hw.eq (congrArg (hG G) (hb_no2 c40)), by omega⟩ (by omega)
      · refine lv_aload_n hC.1 hC.2.1 dX6_oneHour_43 rfl (lv_at hl 0 rfl) ?_
        refine lv_dup hC.1 hC.2.1 dX6_oneHour_44 rfl ?_
        refine m_gi hC hK hw 20 (by decide) rfl q1136 rfl (v := ((hbF (G 6) (bl (G 6)).1 i).2)) (rfl) dX6_oneHour_45 ?_
        refine lv_iconst (v := (nI 1)) hC.1 hC.2.1 dX6_oneHour_48 (by decide) ?_
        refine lv_iload_n hC.1 hC.2.1 dX6_oneHour_49 rfl (lv_at hl 1 rfl) ?_
        refine lv_ishl hC.1 hC.2.1 dX6_oneHour_50 ?_
        refine lv_ior hC.1 hC.2.1 dX6_oneHour_51 ?_
        refine m_pi hC hK hw 20 (by decide) rfl rfl q1136 rfl rfl rfl rfl dX6_oneHour_52 (fun H locs hw => ?_)
        refine lv_aload_n hC.1 hC.2.1 dX6_oneHour_55 rfl (lv_at hl 0 rfl) ?_
        refine lv_iload_n hC.1 hC.2.1 dX6_oneHour_56 rfl (lv_at hl 1 rfl) ?_
        refine m_callv (n := 1) hC hl.1 hK hw (tX6_clear l (g2 (hG G (hbF (G 6) (bl (G 6)).1 i)) 0 20 (((hbF (G 6) (bl (G 6)).1 i).2) ||| ((nI 1) <<< ((nI i) &&& 31)))) i (by omega)) (lw_V q1317 q1319 qs41 q66 q1320) rfl rfl (by decide +kernel) ⟨by decide, by decide⟩ rfl rfl (Nat.le_of_ble_eq_true rfl) dX6_oneHour_57 ⟨Nat.zero_le _, Nat.zero_le _⟩ ?_
        rintro G2 H locs hG2 hw
        replace hw := hw.eq hG2
        clear hG2
        refine k_iinc (k := 1) (d := 1) (lv' := [(1, .int (nI (i + 1))), (0, .ref (ad 0))]) hC dX6_oneHour_60 hl rfl (by decide) (by decide) rfl (fun ls hl => ?_)
        refine lv_goto (tgt := 11) hC.1 hC.2.1 dX6_oneHour_63 (by decide) ?_
        exact ih11 ls (i + 1) H locs ⟨hl.sub' [1, 0] (by rfl), hw.eq (by rw [hG_brk, hG_st]; exact congrArg (hG G) (hb_yes c22 c40)), by omega⟩ (by omega)

set_option maxHeartbeats 4000000 in
theorem tX6_putAside (l : Launch) (G : mG) : mV l yX6_putAside cX6_putAside 2 ({ frames := 0, cells := 0, slots := 0, locals := 0 } : Room) [] G (fun G' => G' = asideG G) := by
  refine mV.of (by decide) rfl (fun _ => Nat.le_of_ble_eq_true rfl) ?_
  intro D dA ad p e s m below meth cd ls hC hlk hr hK hl hw
  have hl : lv_has ls 2 [(0, .ref (ad 0))] := hl
  refine lv_iconst (v := (nI 0)) hC.1 hC.2.1 dX6_putAside_0 (by decide) ?_
  refine lv_istore_n (lv' := [(1, .int (nI 0)), (0, .ref (ad 0))]) hC.1 hC.2.1 dX6_putAside_1 rfl hl (by decide) rfl (fun ls hl => ?_)
  refine W.loop (fun ls i H locs => lv_has ls 2 [(0, .ref (ad 0)), (1, .int (nI i))] ∧ mw D dA (nA mDom ad s.heap.size) s.heap ad (va_up G 24 (fun j => if j < i then G 6 j else G 24 j)) H locs ∧ (i ≤ 57)) 2 (fun _ => []) (fun i => 57 - i) ?_ 0 ⟨hl.sub' [1, 0] (by rfl), hw.eq (cp_0 G 24 _), by omega⟩
  rintro ls i H locs ⟨hl, hw, hi⟩ ih2
  refine lv_iload_n hC.1 hC.2.1 dX6_putAside_2 rfl (lv_at hl 1 rfl) ?_
  refine lv_bipush (v := (nI 57)) hC.1 hC.2.1 dX6_putAside_3 (by decide) ?_
  refine k_ge (tgt := 26) hC (by omega) (by omega) dX6_putAside_5 (by decide) (fun c5 => ?_) (fun c5 => ?_)
  · have eN : i = 57 := by omega
    subst eN
    have hw : mw D dA (nA mDom ad s.heap.size) s.heap ad (asideG G) H locs := hw.to (fun k _ _ => rfl) (fun n j hn hj => by by_cases h : n = 24; (subst h; show (if j < 57 then _ else _) = _; rw [if_pos (show j < 57 from hj)]; rfl); simp [va_up, h, asideG, backG])
    exact m_vret hC hlk hr hw (rfl) dX6_putAside_26
  · refine lv_aload_n hC.1 hC.2.1 dX6_putAside_8 rfl (lv_at hl 0 rfl) ?_
    refine m_ga hC hK hw 23 (by decide) rfl q1139 rfl dX6_putAside_9 ?_
    refine lv_iload_n hC.1 hC.2.1 dX6_putAside_12 rfl (lv_at hl 1 rfl) ?_
    refine lv_aload_n hC.1 hC.2.1 dX6_putAside_13 rfl (lv_at hl 0 rfl) ?_
    refine m_ga hC hK hw 5 (by decide) rfl q1121 rfl dX6_putAside_14 ?_
    refine lv_iload_n hC.1 hC.2.1 dX6_putAside_17 rfl (lv_at hl 1 rfl) ?_
    refine m_ld hC hK hw 6 (by decide) (by decide) (by decide) (by simp only [mLen]; omega) (by omega) (v := (G 6 i)) (rfl) dX6_putAside_18 ?_
    refine m_st hC hK hw 24 (by decide) (by decide) (by decide) (by simp only [mLen]; omega) (by omega) dX6_putAside_19 (fun H locs hw => ?_)
    refine k_iinc (k := 1) (d := 1) (lv' := [(1, .int (nI (i + 1))), (0, .ref (ad 0))]) hC dX6_putAside_20 hl rfl (by decide) (by decide) rfl (fun ls hl => ?_)
    refine lv_goto (tgt := 2) hC.1 hC.2.1 dX6_putAside_23 (by decide) ?_
    exact ih2 ls (i + 1) H locs ⟨hl.sub' [1, 0] (by rfl), hw.eq (by rw [g2_up]; exact congrArg (va_up G 24) (cp_step _ _ _)), by omega⟩ (by omega)

set_option maxHeartbeats 4000000 in
theorem tX6_takeBack (l : Launch) (G : mG) : mV l yX6_takeBack cX6_takeBack 2 ({ frames := 0, cells := 0, slots := 0, locals := 0 } : Room) [] G (fun G' => G' = backG G) := by
  refine mV.of (by decide) rfl (fun _ => Nat.le_of_ble_eq_true rfl) ?_
  intro D dA ad p e s m below meth cd ls hC hlk hr hK hl hw
  have hl : lv_has ls 2 [(0, .ref (ad 0))] := hl
  refine lv_iconst (v := (nI 0)) hC.1 hC.2.1 dX6_takeBack_0 (by decide) ?_
  refine lv_istore_n (lv' := [(1, .int (nI 0)), (0, .ref (ad 0))]) hC.1 hC.2.1 dX6_takeBack_1 rfl hl (by decide) rfl (fun ls hl => ?_)
  refine W.loop (fun ls i H locs => lv_has ls 2 [(0, .ref (ad 0)), (1, .int (nI i))] ∧ mw D dA (nA mDom ad s.heap.size) s.heap ad (va_up G 6 (fun j => if j < i then G 24 j else G 6 j)) H locs ∧ (i ≤ 57)) 2 (fun _ => []) (fun i => 57 - i) ?_ 0 ⟨hl.sub' [1, 0] (by rfl), hw.eq (cp_0 G 6 _), by omega⟩
  rintro ls i H locs ⟨hl, hw, hi⟩ ih2
  refine lv_iload_n hC.1 hC.2.1 dX6_takeBack_2 rfl (lv_at hl 1 rfl) ?_
  refine lv_bipush (v := (nI 57)) hC.1 hC.2.1 dX6_takeBack_3 (by decide) ?_
  refine k_ge (tgt := 26) hC (by omega) (by omega) dX6_takeBack_5 (by decide) (fun c5 => ?_) (fun c5 => ?_)
  · have eN : i = 57 := by omega
    subst eN
    have hw : mw D dA (nA mDom ad s.heap.size) s.heap ad (backG G) H locs := hw.to (fun k _ _ => rfl) (fun n j hn hj => by by_cases h : n = 6; (subst h; show (if j < 57 then _ else _) = _; rw [if_pos (show j < 57 from hj)]; rfl); simp [va_up, h, asideG, backG])
    exact m_vret hC hlk hr hw (rfl) dX6_takeBack_26
  · refine lv_aload_n hC.1 hC.2.1 dX6_takeBack_8 rfl (lv_at hl 0 rfl) ?_
    refine m_ga hC hK hw 5 (by decide) rfl q1121 rfl dX6_takeBack_9 ?_
    refine lv_iload_n hC.1 hC.2.1 dX6_takeBack_12 rfl (lv_at hl 1 rfl) ?_
    refine lv_aload_n hC.1 hC.2.1 dX6_takeBack_13 rfl (lv_at hl 0 rfl) ?_
    refine m_ga hC hK hw 23 (by decide) rfl q1139 rfl dX6_takeBack_14 ?_
    refine lv_iload_n hC.1 hC.2.1 dX6_takeBack_17 rfl (lv_at hl 1 rfl) ?_
    refine m_ld hC hK hw 24 (by decide) (by decide) (by decide) (by simp only [mLen]; omega) (by omega) (v := (G 24 i)) (rfl) dX6_takeBack_18 ?_
    refine m_st hC hK hw 6 (by decide) (by decide) (by decide) (by simp only [mLen]; omega) (by omega) dX6_takeBack_19 (fun H locs hw => ?_)
    refine k_iinc (k := 1) (d := 1) (lv' := [(1, .int (nI (i + 1))), (0, .ref (ad 0))]) hC dX6_takeBack_20 hl rfl (by decide) (by decide) rfl (fun ls hl => ?_)
    refine lv_goto (tgt := 2) hC.1 hC.2.1 dX6_takeBack_23 (by decide) ?_
    exact ih2 ls (i + 1) H locs ⟨hl.sub' [1, 0] (by rfl), hw.eq (by rw [g2_up]; exact congrArg (va_up G 6) (cp_step _ _ _)), by omega⟩ (by omega)

set_option maxHeartbeats 4000000 in
theorem tX6_blowIn (l : Launch) (G : mG) (d : Nat) (h0 : d ≤ 40) : mV l yX6_blowIn cX6_blowIn 3 ({ frames := 5, cells := 0, slots := 0, locals := 117 } : Room) [.int (nI d)] G (fun G' => G' = blowInG G d) := by
  refine mV.of (by decide) rfl (fun _ => Nat.le_of_ble_eq_true rfl) ?_
  intro D dA ad p e s m below meth cd ls hC hlk hr hK hl hw
  have hl : lv_has ls 3 [(0, .ref (ad 0)), (1, .int (nI d))] := hl
  refine lv_aload_n hC.1 hC.2.1 dX6_blowIn_0 rfl (lv_at hl 0 rfl) ?_
  refine m_callv (n := 0) hC hl.1 hK hw (tX6_putAside l G  ) (lw_V q1377 q1379 qs47 q66 q1380) rfl rfl (by decide +kernel) ⟨by decide, by decide⟩ rfl rfl (Nat.le_of_ble_eq_true rfl) dX6_blowIn_1 ⟨Nat.zero_le _, Nat.zero_le _⟩ ?_
  rintro G2 H locs hG2 hw
  replace hw := hw.eq hG2
  clear hG2
  refine lv_iconst (v := (nI 0)) hC.1 hC.2.1 dX6_blowIn_4 (by decide) ?_
  refine lv_istore_n (lv' := [(2, .int (nI 0)), (0, .ref (ad 0)), (1, .int (nI d))]) hC.1 hC.2.1 dX6_blowIn_5 rfl hl (by decide) rfl (fun ls hl => ?_)
  refine W.loop (fun ls i H locs => lv_has ls 3 [(0, .ref (ad 0)), (1, .int (nI d)), (2, .int (nI i))] ∧ mw D dA (nA mDom ad s.heap.size) s.heap ad (hourN (asideG G) i) H locs ∧ (i ≤ d)) 6 (fun _ => []) (fun i => d - i) ?_ 0 ⟨hl.sub' [1, 2, 0] (by rfl), hw.eq (by rfl), by omega⟩
  rintro ls i H locs ⟨hl, hw, hi⟩ ih6
  refine lv_iload_n hC.1 hC.2.1 dX6_blowIn_6 rfl (lv_at hl 2 rfl) ?_
  refine lv_iload_n hC.1 hC.2.1 dX6_blowIn_7 rfl (lv_at hl 1 rfl) ?_
  refine k_ge (tgt := 21) hC (by omega) (by omega) dX6_blowIn_8 (by decide) (fun c8 => ?_) (fun c8 => ?_)
  · have eN : i = d := by omega
    subst eN
    refine lv_aload_n hC.1 hC.2.1 dX6_blowIn_21 rfl (lv_at hl 0 rfl) ?_
    refine m_callv (n := 0) hC hl.1 hK hw (tX6_blow l (hourN (asideG G) i)  ) (lw_V q1343 q1345 qs43 q66 q1346) rfl rfl (by decide +kernel) ⟨by decide, by decide⟩ rfl rfl (Nat.le_of_ble_eq_true rfl) dX6_blowIn_22 ⟨Nat.zero_le _, Nat.zero_le _⟩ ?_
    rintro G2 H locs hG2 hw
    replace hw := hw.eq hG2
    clear hG2
    refine lv_aload_n hC.1 hC.2.1 dX6_blowIn_25 rfl (lv_at hl 0 rfl) ?_
    refine m_callv (n := 0) hC hl.1 hK hw (tX6_takeBack l (blowG (hourN (asideG G) i))  ) (lw_V q1381 q1383 qs48 q66 q1384) rfl rfl (by decide +kernel) ⟨by decide, by decide⟩ rfl rfl (Nat.le_of_ble_eq_true rfl) dX6_blowIn_26 ⟨Nat.zero_le _, Nat.zero_le _⟩ ?_
    rintro G2 H locs hG2 hw
    replace hw := hw.eq hG2
    clear hG2
    exact m_vret hC hlk hr hw (rfl) dX6_blowIn_29
  · refine lv_aload_n hC.1 hC.2.1 dX6_blowIn_11 rfl (lv_at hl 0 rfl) ?_
    refine m_callv (n := 0) hC hl.1 hK hw (tX6_oneHour l (hourN (asideG G) i)  ) (lw_V q1339 q1341 qs42 q66 q1342) rfl rfl (by decide +kernel) ⟨by decide, by decide⟩ rfl rfl (Nat.le_of_ble_eq_true rfl) dX6_blowIn_12 ⟨Nat.zero_le _, Nat.zero_le _⟩ ?_
    rintro G2 H locs hG2 hw
    replace hw := hw.eq hG2
    clear hG2
    refine k_iinc (k := 2) (d := 1) (lv' := [(2, .int (nI (i + 1))), (0, .ref (ad 0)), (1, .int (nI d))]) hC dX6_blowIn_15 hl rfl (by decide) (by decide) rfl (fun ls hl => ?_)
    refine lv_goto (tgt := 6) hC.1 hC.2.1 dX6_blowIn_18 (by decide) ?_
    exact ih6 ls (i + 1) H locs ⟨hl.sub' [1, 2, 0] (by rfl), hw.eq (by rfl), by omega⟩ (by omega)
