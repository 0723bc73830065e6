/-! works: what touches no cell -/
set_option maxHeartbeats 4000000 in
theorem tX5_kind (l : Launch) (a : Nat) : pS l yX5_kind cX5_kind 1 .int ({ frames := 0, cells := 0, slots := 0, locals := 0 } : Room) [.ref a] (nI 1) := by
  refine pS.of (by decide) (Nat.le_of_ble_eq_true rfl) ?_
  intro p e s m below meth cd ls hC hlk hr hl
  refine lv_iconst (v := (nI 1)) hC.1 hC.2.1 dX5_kind_0 (by decide) ?_
  exact pS_ret hC hlk hr rfl rfl dX5_kind_1
set_option maxHeartbeats 4000000 in
theorem tX9_kind (l : Launch) (a : Nat) : pS l yX9_kind cX9_kind 1 .int ({ frames := 0, cells := 0, slots := 0, locals := 0 } : Room) [.ref a] (nI 2) := by
  refine pS.of (by decide) (Nat.le_of_ble_eq_true rfl) ?_
  intro p e s m below meth cd ls hC hlk hr hl
  refine lv_iconst (v := (nI 2)) hC.1 hC.2.1 dX9_kind_0 (by decide) ?_
  exact pS_ret hC hlk hr rfl rfl dX9_kind_1
set_option maxHeartbeats 4000000 in
theorem tX10_kind (l : Launch) (a : Nat) : pS l yX10_kind cX10_kind 1 .int ({ frames := 0, cells := 0, slots := 0, locals := 0 } : Room) [.ref a] (nI 3) := by
  refine pS.of (by decide) (Nat.le_of_ble_eq_true rfl) ?_
  intro p e s m below meth cd ls hC hlk hr hl
  refine lv_iconst (v := (nI 3)) hC.1 hC.2.1 dX10_kind_0 (by decide) ?_
  exact pS_ret hC hlk hr rfl rfl dX10_kind_1
set_option maxHeartbeats 4000000 in
theorem tX11_kind (l : Launch) (a : Nat) : pS l yX11_kind cX11_kind 1 .int ({ frames := 0, cells := 0, slots := 0, locals := 0 } : Room) [.ref a] (nI 4) := by
  refine pS.of (by decide) (Nat.le_of_ble_eq_true rfl) ?_
  intro p e s m below meth cd ls hC hlk hr hl
  refine lv_iconst (v := (nI 4)) hC.1 hC.2.1 dX11_kind_0 (by decide) ?_
  exact pS_ret hC hlk hr rfl rfl dX11_kind_1
set_option maxHeartbeats 4000000 in
theorem tX12_kind (l : Launch) (a : Nat) : pS l yX12_kind cX12_kind 1 .int ({ frames := 0, cells := 0, slots := 0, locals := 0 } : Room) [.ref a] (nI 5) := by
  refine pS.of (by decide) (Nat.le_of_ble_eq_true rfl) ?_
  intro p e s m below meth cd ls hC hlk hr hl
  refine lv_iconst (v := (nI 5)) hC.1 hC.2.1 dX12_kind_0 (by decide) ?_
  exact pS_ret hC hlk hr rfl rfl dX12_kind_1
set_option maxHeartbeats 4000000 in
theorem tX4_on (l : Launch) (a : Nat) (x z : Int32) : pS l yX4_on cX4_on 3 .int ({ frames := 0, cells := 0, slots := 0, locals := 0 } : Room) [.ref a, .int x, .int z] (nI 0) := by
  refine pS.of (by decide) (Nat.le_of_ble_eq_true rfl) ?_
  intro p e s m below meth cd ls hC hlk hr hl
  refine lv_iconst (v := (nI 0)) hC.1 hC.2.1 dX4_on_0 (by decide) ?_
  exact pS_ret hC hlk hr rfl rfl dX4_on_1
set_option maxHeartbeats 4000000 in
theorem tX5_north (l : Launch) (a : Nat) (x z : Int32) : pS l yX5_north cX5_north 3 .int ({ frames := 0, cells := 0, slots := 0, locals := 0 } : Room) [.ref a, .int x, .int z] (x / nI 2) := by
  refine pS.of (by decide) (Nat.le_of_ble_eq_true rfl) ?_
  intro p e s m below meth cd ls hC hlk hr hl
  have hl : lv_has ls 3 [(0, .ref a), (1, .int x), (2, .int z)] := hl
  refine lv_iload_n hC.1 hC.2.1 dX5_north_0 rfl (lv_at hl 1 rfl) ?_
  refine lv_iconst (v := (nI 2)) hC.1 hC.2.1 dX5_north_1 (by decide) ?_
  refine lv_idiv hC.1 hC.2.1 dX5_north_2 (by decide) ?_
  exact pS_ret hC hlk hr rfl rfl dX5_north_3
set_option maxHeartbeats 4000000 in
theorem tX11_north (l : Launch) (a : Nat) (x z : Int32) : pS l yX11_north cX11_north 3 .int ({ frames := 0, cells := 0, slots := 0, locals := 0 } : Room) [.ref a, .int x, .int z] x := by
  refine pS.of (by decide) (Nat.le_of_ble_eq_true rfl) ?_
  intro p e s m below meth cd ls hC hlk hr hl
  have hl : lv_has ls 3 [(0, .ref a), (1, .int x), (2, .int z)] := hl
  refine lv_iload_n hC.1 hC.2.1 dX11_north_0 rfl (lv_at hl 1 rfl) ?_
  exact pS_ret hC hlk hr rfl rfl dX11_north_1
