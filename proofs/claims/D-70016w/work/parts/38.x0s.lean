/-! ===== WindCarver: static helpers (by gen/w38.py) ===== -/
section PSN
variable {p : Program} {l : Launch} {e : Env} {Rm : Room} {s : State} {m : MethodId} {args : Array Value} {below : List Frame} {meth : Method} {c : Code} {H : Heap} {locs : List Loc} {cells slots : Nat} {Q : State → Prop}
variable {cc : ByteArray} {nl pc : Nat} {ls : Array Slot} {rest : List Value} {own : String}
theorem pS_callN (hC : CallFix p m c cc nl s args lw_all own) (hl : ls.size = nl) (hX : gX s) {y : MethodName} {bytes : ByteArray} {maxL index n : Nat} {host : String} {ty : FieldType} {rm : Room} {as : List Value} {r : Int32} (hM : pS l y bytes maxL ty rm as r)
    (h1 : Cond.methodLinkNest own index y host ∈ lw_tbl) (h2 : Cond.static y ∈ lw_all) (h3 : Cond.initialized y.cls ∈ lw_all) (h4 : Cond.code y bytes maxL (some ty) ∈ lw_all) (hrc : rm.cells = 0) (hrs : rm.slots = 0) (hd : y.cls ≠ "java/lang/invoke/MethodHandle" ∧ y.cls ≠ "java/lang/invoke/VarHandle" ∧ (parseMethodDescriptor y.desc).map (fun d => d.parameters.length) = some n) (hR : rm.frames + 1 ≤ Rm.frames ∧ 8 + (maxL + 11) + rm.locals ≤ Rm.locals)
    (hn : as.length = n) {st0 : List Value} (hst : st0 = as.reverse ++ rest) (hW : (rest.map fun v => v.category).sum ≤ 8) (hdg : decode cc pc = .ok (.invokestatic index, 3)) (hf : cells ≤ Rm.cells ∧ slots ≤ Rm.slots)
    (kk : W p l e Rm s m args below meth c H locs cells slots Q (F0 m (pc + 3) ls (.int r :: rest))) : W p l e Rm s m args below meth c H locs cells slots Q (F0 m pc ls st0) :=
  W.callR (va_runSN (As := as) (rest := rest) hC hM ⟨va_cnB n hC.2.2.2.2 (lw_meth h4) rfl hrc hrs (hX _ h1 rfl) (hC.2.2.2.2 _ h3) hd hR, hC.2.2.2.2 _ h2, trivial⟩ preEq rfl hn hl hst (lv_room hW) hdg hf).run kk
end PSN

set_option maxHeartbeats 4000000 in
theorem tX0_isIn (l : Launch) (v : Int64) (lo : Int64) (hi : Int64) : pS l yX0_isIn cX0_isIn 6 .boolean ({ frames := 0, cells := 0, slots := 0, locals := 0 } : Room) [.long v, .long lo, .long hi] (bI (decide (lo ≤ v) && decide (v ≤ hi))) := by
  refine pS.of (by decide) (Nat.le_of_ble_eq_true rfl) ?_
  intro p e s m below meth cd ls hC hlk hr hl
  have hl : lv_has ls 6 [(0, .long v), (2, .long lo), (4, .long hi)] := hl
  refine lv_lload_n hC.1 hC.2.1 dX0_isIn_0 rfl (lv_at hl 0 rfl) ?_
  refine lv_lload_n hC.1 hC.2.1 dX0_isIn_1 rfl (lv_at hl 1 rfl) ?_
  refine W.lcmp hC.1 hC.2.1 dX0_isIn_2 ?_
  refine lv_if_lt (tgt := 17) hC.1 hC.2.1 dX0_isIn_3 (by decide) (fun c3 => ?_) (fun c3 => ?_)
  · refine lv_iconst (v := (nI 0)) hC.1 hC.2.1 dX0_isIn_17 (by decide) ?_
    exact pS_ret hC hlk hr (in_f1 c3) rfl dX0_isIn_18
  · refine lv_lload_n hC.1 hC.2.1 dX0_isIn_6 rfl (lv_at hl 0 rfl) ?_
    refine lv_lload hC.1 hC.2.1 dX0_isIn_7 (lv_at hl 2 rfl) ?_
    refine W.lcmp hC.1 hC.2.1 dX0_isIn_9 ?_
    refine lv_if_gt (tgt := 17) hC.1 hC.2.1 dX0_isIn_10 (by decide) (fun c10 => ?_) (fun c10 => ?_)
    · refine lv_iconst (v := (nI 0)) hC.1 hC.2.1 dX0_isIn_17 (by decide) ?_
      exact pS_ret hC hlk hr (in_f2 c10) rfl dX0_isIn_18
    · refine lv_iconst (v := (nI 1)) hC.1 hC.2.1 dX0_isIn_13 (by decide) ?_
      refine lv_goto (tgt := 18) hC.1 hC.2.1 dX0_isIn_14 (by decide) ?_
      exact pS_ret hC hlk hr (in_t c3 c10) rfl dX0_isIn_18

theorem tX0_isInI (l : Launch) (v lo hi : Int32) : pS l yX0_isIn cX0_isIn 6 .boolean ({ frames := 0, cells := 0, slots := 0, locals := 0 } : Room) [.long v.toInt64, .long lo.toInt64, .long hi.toInt64] (bI (inB v lo hi)) := by
  rw [← inL]
  exact tX0_isIn l _ _ _

set_option maxHeartbeats 4000000 in
theorem tX0_has (l : Launch) (a : Int32) (k : Int32) : pS l yX0_has cX0_has 2 .boolean ({ frames := 0, cells := 0, slots := 0, locals := 0 } : Room) [.int a, .int k] (bI (hasB a k)) := by
  refine pS.of (by decide) (Nat.le_of_ble_eq_true rfl) ?_
  intro p e s m below meth cd ls hC hlk hr hl
  have hl : lv_has ls 2 [(0, .int a), (1, .int k)] := hl
  refine lv_iload_n hC.1 hC.2.1 dX0_has_0 rfl (lv_at hl 0 rfl) ?_
  refine lv_iload_n hC.1 hC.2.1 dX0_has_1 rfl (lv_at hl 1 rfl) ?_
  refine lv_ishr hC.1 hC.2.1 dX0_has_2 ?_
  refine lv_iconst (v := (nI 1)) hC.1 hC.2.1 dX0_has_3 (by decide) ?_
  refine lv_iand hC.1 hC.2.1 dX0_has_4 ?_
  refine lv_iconst (v := (nI 1)) hC.1 hC.2.1 dX0_has_5 (by decide) ?_
  refine lv_icmp_ne (tgt := 13) hC.1 hC.2.1 dX0_has_6 (by decide) (fun c6 => ?_) (fun c6 => ?_)
  · refine lv_iconst (v := (nI 0)) hC.1 hC.2.1 dX0_has_13 (by decide) ?_
    exact pS_ret hC hlk hr (bI_of_f (by simp [hasB, c6])) rfl dX0_has_14
  · refine lv_iconst (v := (nI 1)) hC.1 hC.2.1 dX0_has_9 (by decide) ?_
    refine lv_goto (tgt := 14) hC.1 hC.2.1 dX0_has_10 (by decide) ?_
    exact pS_ret hC hlk hr (bI_of_t (by simp [hasB, c6])) rfl dX0_has_14

set_option maxHeartbeats 4000000 in
theorem tX0_isRow (l : Launch) (k : Int32) : pS l yX0_isRow cX0_isRow 1 .boolean ({ frames := 1, cells := 0, slots := 0, locals := 25 } : Room) [.int k] (bI (inB k 0 (nI 7))) := by
  refine pS.of (by decide) (Nat.le_of_ble_eq_true rfl) ?_
  intro p e s m below meth cd ls hC hlk hr hl
  have hl : lv_has ls 1 [(0, .int k)] := hl
  refine lv_iload_n hC.1 hC.2.1 dX0_isRow_0 rfl (lv_at hl 0 rfl) ?_
  refine lv_i2l hC.1 hC.2.1 dX0_isRow_1 rfl ?_
  refine lv_lconst (v := 0) hC.1 hC.2.1 dX0_isRow_2 (by decide) ?_
  refine lv_ldc2 hC.1 hC.2.1 hC.2.2.2.1 (hC.2.2.2.2 _ q332) dX0_isRow_3 ?_
  refine pS_call (n := 3) hC hl.1 (tX0_isInI l k 0 (nI 7)) (lw_S q333 q334 q60 q335) rfl rfl (by decide +kernel) ⟨by decide, by decide⟩ rfl rfl (Nat.le_of_ble_eq_true rfl) dX0_isRow_6 ⟨Nat.zero_le _, Nat.zero_le _⟩ ?_
  exact pS_ret hC hlk hr (rfl) (bI_nar _) dX0_isRow_9

set_option maxHeartbeats 4000000 in
theorem tX0_isCell (l : Launch) (k : Int32) : pS l yX0_isCell cX0_isCell 1 .boolean ({ frames := 1, cells := 0, slots := 0, locals := 25 } : Room) [.int k] (bI (inB k 0 (nI 15))) := by
  refine pS.of (by decide) (Nat.le_of_ble_eq_true rfl) ?_
  intro p e s m below meth cd ls hC hlk hr hl
  have hl : lv_has ls 1 [(0, .int k)] := hl
  refine lv_iload_n hC.1 hC.2.1 dX0_isCell_0 rfl (lv_at hl 0 rfl) ?_
  refine lv_i2l hC.1 hC.2.1 dX0_isCell_1 rfl ?_
  refine lv_lconst (v := 0) hC.1 hC.2.1 dX0_isCell_2 (by decide) ?_
  refine lv_ldc2 hC.1 hC.2.1 hC.2.2.2.1 (hC.2.2.2.2 _ q707) dX0_isCell_3 ?_
  refine pS_call (n := 3) hC hl.1 (tX0_isInI l k 0 (nI 15)) (lw_S q333 q334 q60 q335) rfl rfl (by decide +kernel) ⟨by decide, by decide⟩ rfl rfl (Nat.le_of_ble_eq_true rfl) dX0_isCell_6 ⟨Nat.zero_le _, Nat.zero_le _⟩ ?_
  exact pS_ret hC hlk hr (rfl) (bI_nar _) dX0_isCell_9

set_option maxHeartbeats 4000000 in
theorem tX0_isSide (l : Launch) (k : Int32) : pS l yX0_isSide cX0_isSide 1 .boolean ({ frames := 1, cells := 0, slots := 0, locals := 25 } : Room) [.int k] (bI (inB k 0 (nI 3))) := by
  refine pS.of (by decide) (Nat.le_of_ble_eq_true rfl) ?_
  intro p e s m below meth cd ls hC hlk hr hl
  have hl : lv_has ls 1 [(0, .int k)] := hl
  refine lv_iload_n hC.1 hC.2.1 dX0_isSide_0 rfl (lv_at hl 0 rfl) ?_
  refine lv_i2l hC.1 hC.2.1 dX0_isSide_1 rfl ?_
  refine lv_lconst (v := 0) hC.1 hC.2.1 dX0_isSide_2 (by decide) ?_
  refine lv_ldc2 hC.1 hC.2.1 hC.2.2.2.1 (hC.2.2.2.2 _ q756) dX0_isSide_3 ?_
  refine pS_call (n := 3) hC hl.1 (tX0_isInI l k 0 (nI 3)) (lw_S q333 q334 q60 q335) rfl rfl (by decide +kernel) ⟨by decide, by decide⟩ rfl rfl (Nat.le_of_ble_eq_true rfl) dX0_isSide_6 ⟨Nat.zero_le _, Nat.zero_le _⟩ ?_
  exact pS_ret hC hlk hr (rfl) (bI_nar _) dX0_isSide_9

set_option maxHeartbeats 4000000 in
theorem tX0_isKind (l : Launch) (k : Int32) : pS l yX0_isKind cX0_isKind 1 .boolean ({ frames := 1, cells := 0, slots := 0, locals := 25 } : Room) [.int k] (bI (inB k (nI 1) (nI 5))) := by
  refine pS.of (by decide) (Nat.le_of_ble_eq_true rfl) ?_
  intro p e s m below meth cd ls hC hlk hr hl
  have hl : lv_has ls 1 [(0, .int k)] := hl
  refine lv_iload_n hC.1 hC.2.1 dX0_isKind_0 rfl (lv_at hl 0 rfl) ?_
  refine lv_i2l hC.1 hC.2.1 dX0_isKind_1 rfl ?_
  refine lv_lconst (v := 1) hC.1 hC.2.1 dX0_isKind_2 (by decide) ?_
  refine lv_ldc2 hC.1 hC.2.1 hC.2.2.2.1 (hC.2.2.2.2 _ q711) dX0_isKind_3 ?_
  refine pS_call (n := 3) hC hl.1 (tX0_isInI l k (nI 1) (nI 5)) (lw_S q333 q334 q60 q335) rfl rfl (by decide +kernel) ⟨by decide, by decide⟩ rfl rfl (Nat.le_of_ble_eq_true rfl) dX0_isKind_6 ⟨Nat.zero_le _, Nat.zero_le _⟩ ?_
  exact pS_ret hC hlk hr (rfl) (bI_nar _) dX0_isKind_9

set_option maxHeartbeats 4000000 in
theorem tX0_isFar (l : Launch) (k : Int32) : pS l yX0_isFar cX0_isFar 1 .boolean ({ frames := 1, cells := 0, slots := 0, locals := 25 } : Room) [.int k] (bI (inB k 0 (nI 40))) := by
  refine pS.of (by decide) (Nat.le_of_ble_eq_true rfl) ?_
  intro p e s m below meth cd ls hC hlk hr hl
  have hl : lv_has ls 1 [(0, .int k)] := hl
  refine lv_iload_n hC.1 hC.2.1 dX0_isFar_0 rfl (lv_at hl 0 rfl) ?_
  refine lv_i2l hC.1 hC.2.1 dX0_isFar_1 rfl ?_
  refine lv_lconst (v := 0) hC.1 hC.2.1 dX0_isFar_2 (by decide) ?_
  refine lv_ldc2 hC.1 hC.2.1 hC.2.2.2.1 (hC.2.2.2.2 _ q857) dX0_isFar_3 ?_
  refine pS_call (n := 3) hC hl.1 (tX0_isInI l k 0 (nI 40)) (lw_S q333 q334 q60 q335) rfl rfl (by decide +kernel) ⟨by decide, by decide⟩ rfl rfl (Nat.le_of_ble_eq_true rfl) dX0_isFar_6 ⟨Nat.zero_le _, Nat.zero_le _⟩ ?_
  exact pS_ret hC hlk hr (rfl) (bI_nar _) dX0_isFar_9

set_option maxHeartbeats 4000000 in
theorem tX0_isHalf (l : Launch) (k : Int32) : pS l yX0_isHalf cX0_isHalf 1 .boolean ({ frames := 1, cells := 0, slots := 0, locals := 25 } : Room) [.int k] (bI (inB k 0 (nI 1))) := by
  refine pS.of (by decide) (Nat.le_of_ble_eq_true rfl) ?_
  intro p e s m below meth cd ls hC hlk hr hl
  have hl : lv_has ls 1 [(0, .int k)] := hl
  refine lv_iload_n hC.1 hC.2.1 dX0_isHalf_0 rfl (lv_at hl 0 rfl) ?_
  refine lv_i2l hC.1 hC.2.1 dX0_isHalf_1 rfl ?_
  refine lv_lconst (v := 0) hC.1 hC.2.1 dX0_isHalf_2 (by decide) ?_
  refine lv_lconst (v := 1) hC.1 hC.2.1 dX0_isHalf_3 (by decide) ?_
  refine pS_call (n := 3) hC hl.1 (tX0_isInI l k 0 (nI 1)) (lw_S q333 q334 q60 q335) rfl rfl (by decide +kernel) ⟨by decide, by decide⟩ rfl rfl (Nat.le_of_ble_eq_true rfl) dX0_isHalf_4 ⟨Nat.zero_le _, Nat.zero_le _⟩ ?_
  exact pS_ret hC hlk hr (rfl) (bI_nar _) dX0_isHalf_7
