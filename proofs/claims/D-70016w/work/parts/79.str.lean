/-! ===== the constant "wnshv" and String.indexOf (by gen/w79.py) ===== -/
def sBy : List Int32 := [nI 119, nI 110, nI 115, nI 104, nI 118]
/-- what indexOf answers -/
def sIx (n : Nat) : Int32 := if n = 119 then nI 0 else if n = 110 then nI 1 else if n = 115 then nI 2 else if n = 104 then nI 3 else if n = 118 then nI 4 else -1
def stG (a v : Nat) (A : Nat → Prop) (U : State) (H : Heap) : Prop := (va_O "java/lang/String" a A U H ∧ va_OF "java/lang/String" "coder" "B" (.int 0) a A U H ∧ va_OF "java/lang/String" "value" "[B" (.ref v) a A U H ∧ va_T .byte v 5 (fun j => .int (sBy.getD j 0)) A U H) ∧ va_Z "java/lang/String" "COMPACT_STRINGS" "Z" (.int 1) A U H
theorem stG.moved {a v : Nat} {A : Nat → Prop} {u U : State} {H : Heap} (hvm : u.vm.Alike U.vm) (h : stG a v A u H) : stG a v A U H := ⟨⟨va_O.moved hvm h.1.1, va_OF.moved hvm h.1.2.1, va_OF.moved hvm h.1.2.2.1, va_T.moved hvm h.1.2.2.2⟩, va_Z.moved hvm h.2⟩
theorem stG.kept {a v : Nat} {A : Nat → Prop} {U : State} {H H1 : Heap} (h : stG a v A U H) (hq : ∀ a : Nat, a < H.size → ¬ A a → H1[a]? = H[a]?) : stG a v A U H1 := ⟨⟨h.1.1.kept hq, h.1.2.1.kept hq, h.1.2.2.1.kept hq, h.1.2.2.2.kept hq⟩, h.2.kept hq⟩
theorem stG.narrow {a v : Nat} {A B : Nat → Prop} {U : State} {H : Heap} (h : stG a v A U H) (hAB : ∀ q, B q → A q) : stG a v B U H := ⟨⟨h.1.1.narrow hAB, h.1.2.1.narrow hAB, h.1.2.2.1.narrow hAB, h.1.2.2.2.narrow hAB⟩, h.2.narrow hAB⟩
abbrev noA : Nat → Prop := fun _ => False
def sM (l : Launch) (y : MethodName) (ws : List Cond) (rm : Room) (as : List Value) (a v : Nat) (r : Int32) : Prop := Met l y ws rm (va_Pc as (fun U => stG a v noA U U.heap)) (QcRead r) 0 0 (fun _ => False)
theorem sM.of {l : Launch} {y : MethodName} {cc : ByteArray} {nl : Nat} {ty : FieldType} {rm : Room} {as : List Value} {a v : Nat} {r : Int32} (hy : plainFor y = true) (hn : (lg_sl as).length ≤ nl)
    (body : ∀ (p : Program) (e : Env) (s : State) (m : MethodId) (below : List Frame) (meth : Method) (c : Code) (ls : Array Slot), CallFix p m c cc nl s as.toArray lw_all y.cls → meth.locks = false → meth.sig.returnType = some ty → stG a v noA s s.heap → lv_has ls nl (lv_args 0 as) →
      W p l e rm s m as.toArray below meth c s.heap [] 0 0 (MQ below (QcRead r) as.toArray s 0 0 (fun _ => False)) (F0 m 0 ls [])) : sM l y (ws_ y cc nl (some ty)) rm as a v r := by
  refine va_MetF (cc := cc) (maxL := nl) (ret := some ty) hy rfl ?_
  intro p e s m args below meth c s₁ B hml hv
  obtain ⟨rfl, hs⟩ := hv
  have hts := atoms_spec (ws := ws_ y cc nl (some ty)) B.pre
  have hts : ∀ w ∈ lw_all, w.before as.toArray s = true := fun w h => hts w (List.mem_cons_of_mem _ h)
  have hown : s.vm.findClass y.cls = some m.cls := findClass_of_methodNamed B.named
  have hl := lv_entry as (n := nl) hn
  rw [lg_entry_eq]
  exact body p e s m below meth c _ ⟨B.exec, B.bytes, hml, hown, hts⟩ B.notSynchronized B.returns hs hl
section SR
variable {p : Program} {l : Launch} {e : Env} {Rm : Room} {s : State} {m : MethodId} {args : Array Value} {below : List Frame} {meth : Method} {c : Code} {H : Heap} {locs : List Loc} {cells slots : Nat} {Q : State → Prop}
variable {cc : ByteArray} {nl pc : Nat} {ls : Array Slot} {rest : List Value} {A : Nat → Prop} {a v : Nat} {own : String}
theorem s_pre (hs : stG a v A s s.heap) (hS : va_S A s.heap H locs) (U : State) (hU : U.heap = H) (hW : s.WarmedH U.vm) : stG a v noA U U.heap := by
  rw [hU]
  exact ((hs.kept hS.2.1).moved hW.alike).narrow (fun _ h => h.elim)
theorem s_bl {as : List Value} : FrameBlind (va_Pc as (fun U => stG a v noA U U.heap)) := fun _ U g mk q => ⟨q.1, q.2.moved (U := U.calling g mk _) (Vm.Alike.refl _)⟩
theorem s_V (hC : CallFix p m c cc nl s args lw_all own) (hl : ls.size = nl) (hs : stG a v A s s.heap) (hS : va_S A s.heap H locs) {y : MethodName} {bytes : ByteArray} {maxL index n : Nat} {ret : Option FieldType} {rm : Room} {as : List Value} {r : Int32} (hM : sM l y (ws_ y bytes maxL ret) rm (.ref a :: as) a v r)
    (hT : GoodIn lw_all (wsV own index "java/lang/String" y (ws_ y bytes maxL ret))) (hrc : rm.cells = 0) (hrs : rm.slots = 0) (hd : y.cls = "java/lang/String" ∧ y.cls ≠ "java/lang/invoke/MethodHandle" ∧ y.cls ≠ "java/lang/invoke/VarHandle" ∧ (parseMethodDescriptor y.desc).map (fun d => d.parameters.length) = some n) (hR : rm.frames + 1 ≤ Rm.frames ∧ 8 + (maxL + 11) + rm.locals ≤ Rm.locals)
    (hn : as.length = n) {st0 : List Value} (hst : st0 = as.reverse ++ .ref a :: rest) (hW : (rest.map fun v => v.category).sum ≤ 8) (hdg : decode cc pc = .ok (.invokevirtual index, 3)) (hf : cells ≤ Rm.cells ∧ slots ≤ Rm.slots)
    (kk : W p l e Rm s m args below meth c H locs cells slots Q (F0 m (pc + 3) ls (.int r :: rest))) : W p l e Rm s m args below meth c H locs cells slots Q (F0 m pc ls st0) := by
  obtain ⟨cell, h1, h2, h3, -⟩ := hs.1.1.kept hS.2.1
  exact R_run (va_runV (As := as) (rest := rest) hC hM (cwV n hC.2.2.2.2 hT rfl hrc hrs hd hR) ⟨s_bl, ⟨cell, h1, h2, h3⟩, fun U hU hWm => ⟨rfl, s_pre hs hS U hU hWm⟩⟩ rfl hn hl hst (lv_room hW) hdg hf) kk
theorem s_S (hC : CallFix p m c cc nl s args lw_all own) (hl : ls.size = nl) (hs : stG a v A s s.heap) (hS : va_S A s.heap H locs) {y : MethodName} {bytes : ByteArray} {maxL index n : Nat} {ret : Option FieldType} {rm : Room} {as : List Value} {r : Int32} (hM : sM l y (ws_ y bytes maxL ret) rm as a v r)
    (hT : GoodIn lw_all (va_wsS own index y (ws_ y bytes maxL ret))) (hrc : rm.cells = 0) (hrs : rm.slots = 0) (hd : y.cls ≠ "java/lang/invoke/MethodHandle" ∧ y.cls ≠ "java/lang/invoke/VarHandle" ∧ (parseMethodDescriptor y.desc).map (fun d => d.parameters.length) = some n) (hR : rm.frames + 1 ≤ Rm.frames ∧ 8 + (maxL + 11) + rm.locals ≤ Rm.locals)
    (hn : as.length = n) {st0 : List Value} (hst : st0 = as.reverse ++ rest) (hW : (rest.map fun v => v.category).sum ≤ 8) (hdg : decode cc pc = .ok (.invokestatic index, 3)) (hf : cells ≤ Rm.cells ∧ slots ≤ Rm.slots)
    (kk : W p l e Rm s m args below meth c H locs cells slots Q (F0 m (pc + 3) ls (.int r :: rest))) : W p l e Rm s m args below meth c H locs cells slots Q (F0 m pc ls st0) :=
  R_run (va_runS (As := as) (rest := rest) hC hM (va_cwS n hC.2.2.2.2 hT rfl hrc hrs hd hR) ⟨s_bl, fun U hU hWm => ⟨rfl, s_pre hs hS U hU hWm⟩⟩ rfl hn hl hst (lv_room hW) hdg hf) kk
end SR
theorem i2b_nat : ∀ n : Nat, n < 128 → (nI n).toInt8.toInt32 = nI n := by decide +kernel

set_option maxHeartbeats 800000 in
theorem tJ9_canEncode (l : Launch) (n : Nat) (h0 : n ≤ 255) : pS l yJ9_canEncode cJ9_canEncode 1 .boolean ({ frames := 0, cells := 0, slots := 0, locals := 0 } : Room) [.int (nI n)] (nI 1) := by
  refine pS.ofF (by decide +kernel) (Nat.le_of_ble_eq_true rfl) ?_
  intro p e s m below meth cd ls hC hlk hr hl
  have hl : lv_has ls 1 [(0, .int (nI n))] := hl
  refine lv_iload_n hC.1 hC.2.1 dJ9_canEncode_0 rfl (lv_at hl 0 rfl) ?_
  refine lv_if_lt (tgt := 15) hC.1 hC.2.1 dJ9_canEncode_1 (by decide) (fun h => absurd h (nI_pos (by omega))) (fun _ => ?_)
  refine lv_iload_n hC.1 hC.2.1 dJ9_canEncode_4 rfl (lv_at hl 0 rfl) ?_
  refine lv_sipush (v := nI 255) hC.1 hC.2.1 dJ9_canEncode_5 (by decide) ?_
  refine k_gt (tgt := 15) hC (by omega) (by decide) dJ9_canEncode_8 (by decide) (fun h => absurd h (by omega)) (fun _ => ?_)
  refine lv_iconst (v := nI 1) hC.1 hC.2.1 dJ9_canEncode_11 (by decide) ?_
  refine lv_goto (tgt := 16) hC.1 hC.2.1 dJ9_canEncode_12 (by decide) ?_
  exact pS_ret hC hlk hr rfl rfl dJ9_canEncode_16

set_option maxHeartbeats 800000 in
theorem tJ10_max (l : Launch) : pS l yJ10_max cJ10_max 2 .int ({ frames := 0, cells := 0, slots := 0, locals := 0 } : Room) [.int (nI 0), .int (nI 0)] (nI 0) := by
  refine pS.ofF (by decide +kernel) (Nat.le_of_ble_eq_true rfl) ?_
  intro p e s m below meth cd ls hC hlk hr hl
  have hl : lv_has ls 2 [(0, .int (nI 0)), (1, .int (nI 0))] := hl
  refine lv_iload_n hC.1 hC.2.1 dJ10_max_0 rfl (lv_at hl 0 rfl) ?_
  refine lv_iload_n hC.1 hC.2.1 dJ10_max_1 rfl (lv_at hl 1 rfl) ?_
  refine k_lt (tgt := 9) hC (by decide) (by decide) dJ10_max_2 (by decide) (fun h => absurd h (by decide)) (fun _ => ?_)
  refine lv_iload_n hC.1 hC.2.1 dJ10_max_5 rfl (lv_at hl 0 rfl) ?_
  refine lv_goto (tgt := 10) hC.1 hC.2.1 dJ10_max_6 (by decide) ?_
  exact pS_ret hC hlk hr rfl rfl dJ10_max_10

set_option maxHeartbeats 800000 in
theorem tJ10_min (l : Launch) : pS l yJ10_min cJ10_min 2 .int ({ frames := 0, cells := 0, slots := 0, locals := 0 } : Room) [.int (nI 5), .int (nI 5)] (nI 5) := by
  refine pS.ofF (by decide +kernel) (Nat.le_of_ble_eq_true rfl) ?_
  intro p e s m below meth cd ls hC hlk hr hl
  have hl : lv_has ls 2 [(0, .int (nI 5)), (1, .int (nI 5))] := hl
  refine lv_iload_n hC.1 hC.2.1 dJ10_min_0 rfl (lv_at hl 0 rfl) ?_
  refine lv_iload_n hC.1 hC.2.1 dJ10_min_1 rfl (lv_at hl 1 rfl) ?_
  refine k_gt (tgt := 9) hC (by decide) (by decide) dJ10_min_2 (by decide) (fun h => absurd h (by decide)) (fun _ => ?_)
  refine lv_iload_n hC.1 hC.2.1 dJ10_min_5 rfl (lv_at hl 0 rfl) ?_
  refine lv_goto (tgt := 10) hC.1 hC.2.1 dJ10_min_6 (by decide) ?_
  exact pS_ret hC hlk hr rfl rfl dJ10_min_10

set_option maxHeartbeats 800000 in
theorem tJ9_indexOfChar (l : Launch) (a v n : Nat) (h0 : n < 128) : sM l yJ9_indexOfChar (ws_ yJ9_indexOfChar cJ9_indexOfChar 6 (some .int)) ({ frames := 0, cells := 0, slots := 0, locals := 0 } : Room) [.ref v, .int (nI n), .int (nI 0), .int (nI 5)] a v (sIx n) := by
  refine sM.of (by decide +kernel) (Nat.le_of_ble_eq_true rfl) ?_
  intro p e s m below meth cd ls hC hlk hr hs hl
  have hl : lv_has ls 6 [(0, .ref v), (1, .int (nI n)), (2, .int (nI 0)), (3, .int (nI 5))] := hl
  refine lv_iload_n hC.1 hC.2.1 dJ9_indexOfChar_0 rfl (lv_at hl 1 rfl) ?_
  refine lv_i2b hC.1 hC.2.1 dJ9_indexOfChar_1 (i2b_nat n h0) ?_
  refine lv_istore (lv' := [(4, .int (nI n)), (0, .ref v), (1, .int (nI n)), (2, .int (nI 0)), (3, .int (nI 5))]) hC.1 hC.2.1 dJ9_indexOfChar_2 hl (by decide) rfl (fun ls hl => ?_)
  refine lv_iload_n hC.1 hC.2.1 dJ9_indexOfChar_4 rfl (lv_at hl 3 rfl) ?_
  refine lv_istore (lv' := [(5, .int (nI 0)), (4, .int (nI n)), (0, .ref v), (1, .int (nI n)), (2, .int (nI 0)), (3, .int (nI 5))]) hC.1 hC.2.1 dJ9_indexOfChar_5 hl (by decide) rfl (fun ls hl => ?_)
  refine lv_iload hC.1 hC.2.1 dJ9_indexOfChar_7 (lv_at hl 0 rfl) ?_
  refine lv_iload_n hC.1 hC.2.1 dJ9_indexOfChar_9 rfl (lv_at hl 5 rfl) ?_
  refine k_ge (tgt := 31) hC (by decide) (by decide) dJ9_indexOfChar_10 (by decide) (fun h => absurd h (by decide)) (fun _ => ?_)
  refine lv_aload_n hC.1 hC.2.1 dJ9_indexOfChar_13 rfl (lv_at hl 2 rfl) ?_
  refine lv_iload hC.1 hC.2.1 dJ9_indexOfChar_14 (lv_at hl 0 rfl) ?_
  refine va_tb hC.1 hC.2.1 hs.1.2.2.2 va_S.rf (i := nI 0) (nI_vin (by decide) (by decide)) (v := .int (nI 119)) (by decide) dJ9_indexOfChar_16 ?_
  refine lv_iload hC.1 hC.2.1 dJ9_indexOfChar_17 (lv_at hl 1 rfl) ?_
  refine k_ne (tgt := 25) hC (by decide) (by omega) dJ9_indexOfChar_19 (by decide) (fun c0 => ?_) (fun c0 => ?_)
  rotate_left
  · refine lv_iload hC.1 hC.2.1 dJ9_indexOfChar_22 (lv_at hl 0 rfl) ?_
    exact pS_ret hC hlk hr (by unfold sIx; rw [if_pos (by omega)]) rfl dJ9_indexOfChar_24
  refine k_iinc (k := 0) (a := 0) (d := 1) hC dJ9_indexOfChar_25 hl rfl (by decide) (by decide) (lv' := [(5, .int (nI 1)), (4, .int (nI n)), (0, .ref v), (1, .int (nI n)), (2, .int (nI 0)), (3, .int (nI 5))]) rfl (fun ls hl => ?_)
  refine lv_goto (tgt := 7) hC.1 hC.2.1 dJ9_indexOfChar_28 (by decide) ?_
  refine lv_iload hC.1 hC.2.1 dJ9_indexOfChar_7 (lv_at hl 0 rfl) ?_
  refine lv_iload_n hC.1 hC.2.1 dJ9_indexOfChar_9 rfl (lv_at hl 5 rfl) ?_
  refine k_ge (tgt := 31) hC (by decide) (by decide) dJ9_indexOfChar_10 (by decide) (fun h => absurd h (by decide)) (fun _ => ?_)
  refine lv_aload_n hC.1 hC.2.1 dJ9_indexOfChar_13 rfl (lv_at hl 2 rfl) ?_
  refine lv_iload hC.1 hC.2.1 dJ9_indexOfChar_14 (lv_at hl 0 rfl) ?_
  refine va_tb hC.1 hC.2.1 hs.1.2.2.2 va_S.rf (i := nI 1) (nI_vin (by decide) (by decide)) (v := .int (nI 110)) (by decide) dJ9_indexOfChar_16 ?_
  refine lv_iload hC.1 hC.2.1 dJ9_indexOfChar_17 (lv_at hl 1 rfl) ?_
  refine k_ne (tgt := 25) hC (by decide) (by omega) dJ9_indexOfChar_19 (by decide) (fun c1 => ?_) (fun c1 => ?_)
  rotate_left
  · refine lv_iload hC.1 hC.2.1 dJ9_indexOfChar_22 (lv_at hl 0 rfl) ?_
    exact pS_ret hC hlk hr (by unfold sIx; rw [if_neg (by omega), if_pos (by omega)]) rfl dJ9_indexOfChar_24
  refine k_iinc (k := 0) (a := 1) (d := 1) hC dJ9_indexOfChar_25 hl rfl (by decide) (by decide) (lv' := [(5, .int (nI 2)), (4, .int (nI n)), (0, .ref v), (1, .int (nI n)), (2, .int (nI 0)), (3, .int (nI 5))]) rfl (fun ls hl => ?_)
  refine lv_goto (tgt := 7) hC.1 hC.2.1 dJ9_indexOfChar_28 (by decide) ?_
  refine lv_iload hC.1 hC.2.1 dJ9_indexOfChar_7 (lv_at hl 0 rfl) ?_
  refine lv_iload_n hC.1 hC.2.1 dJ9_indexOfChar_9 rfl (lv_at hl 5 rfl) ?_
  refine k_ge (tgt := 31) hC (by decide) (by decide) dJ9_indexOfChar_10 (by decide) (fun h => absurd h (by decide)) (fun _ => ?_)
  refine lv_aload_n hC.1 hC.2.1 dJ9_indexOfChar_13 rfl (lv_at hl 2 rfl) ?_
  refine lv_iload hC.1 hC.2.1 dJ9_indexOfChar_14 (lv_at hl 0 rfl) ?_
  refine va_tb hC.1 hC.2.1 hs.1.2.2.2 va_S.rf (i := nI 2) (nI_vin (by decide) (by decide)) (v := .int (nI 115)) (by decide) dJ9_indexOfChar_16 ?_
  refine lv_iload hC.1 hC.2.1 dJ9_indexOfChar_17 (lv_at hl 1 rfl) ?_
  refine k_ne (tgt := 25) hC (by decide) (by omega) dJ9_indexOfChar_19 (by decide) (fun c2 => ?_) (fun c2 => ?_)
  rotate_left
  · refine lv_iload hC.1 hC.2.1 dJ9_indexOfChar_22 (lv_at hl 0 rfl) ?_
    exact pS_ret hC hlk hr (by unfold sIx; rw [if_neg (by omega), if_neg (by omega), if_pos (by omega)]) rfl dJ9_indexOfChar_24
  refine k_iinc (k := 0) (a := 2) (d := 1) hC dJ9_indexOfChar_25 hl rfl (by decide) (by decide) (lv' := [(5, .int (nI 3)), (4, .int (nI n)), (0, .ref v), (1, .int (nI n)), (2, .int (nI 0)), (3, .int (nI 5))]) rfl (fun ls hl => ?_)
  refine lv_goto (tgt := 7) hC.1 hC.2.1 dJ9_indexOfChar_28 (by decide) ?_
  refine lv_iload hC.1 hC.2.1 dJ9_indexOfChar_7 (lv_at hl 0 rfl) ?_
  refine lv_iload_n hC.1 hC.2.1 dJ9_indexOfChar_9 rfl (lv_at hl 5 rfl) ?_
  refine k_ge (tgt := 31) hC (by decide) (by decide) dJ9_indexOfChar_10 (by decide) (fun h => absurd h (by decide)) (fun _ => ?_)
  refine lv_aload_n hC.1 hC.2.1 dJ9_indexOfChar_13 rfl (lv_at hl 2 rfl) ?_
  refine lv_iload hC.1 hC.2.1 dJ9_indexOfChar_14 (lv_at hl 0 rfl) ?_
  refine va_tb hC.1 hC.2.1 hs.1.2.2.2 va_S.rf (i := nI 3) (nI_vin (by decide) (by decide)) (v := .int (nI 104)) (by decide) dJ9_indexOfChar_16 ?_
  refine lv_iload hC.1 hC.2.1 dJ9_indexOfChar_17 (lv_at hl 1 rfl) ?_
  refine k_ne (tgt := 25) hC (by decide) (by omega) dJ9_indexOfChar_19 (by decide) (fun c3 => ?_) (fun c3 => ?_)
  rotate_left
  · refine lv_iload hC.1 hC.2.1 dJ9_indexOfChar_22 (lv_at hl 0 rfl) ?_
    exact pS_ret hC hlk hr (by unfold sIx; rw [if_neg (by omega), if_neg (by omega), if_neg (by omega), if_pos (by omega)]) rfl dJ9_indexOfChar_24
  refine k_iinc (k := 0) (a := 3) (d := 1) hC dJ9_indexOfChar_25 hl rfl (by decide) (by decide) (lv' := [(5, .int (nI 4)), (4, .int (nI n)), (0, .ref v), (1, .int (nI n)), (2, .int (nI 0)), (3, .int (nI 5))]) rfl (fun ls hl => ?_)
  refine lv_goto (tgt := 7) hC.1 hC.2.1 dJ9_indexOfChar_28 (by decide) ?_
  refine lv_iload hC.1 hC.2.1 dJ9_indexOfChar_7 (lv_at hl 0 rfl) ?_
  refine lv_iload_n hC.1 hC.2.1 dJ9_indexOfChar_9 rfl (lv_at hl 5 rfl) ?_
  refine k_ge (tgt := 31) hC (by decide) (by decide) dJ9_indexOfChar_10 (by decide) (fun h => absurd h (by decide)) (fun _ => ?_)
  refine lv_aload_n hC.1 hC.2.1 dJ9_indexOfChar_13 rfl (lv_at hl 2 rfl) ?_
  refine lv_iload hC.1 hC.2.1 dJ9_indexOfChar_14 (lv_at hl 0 rfl) ?_
  refine va_tb hC.1 hC.2.1 hs.1.2.2.2 va_S.rf (i := nI 4) (nI_vin (by decide) (by decide)) (v := .int (nI 118)) (by decide) dJ9_indexOfChar_16 ?_
  refine lv_iload hC.1 hC.2.1 dJ9_indexOfChar_17 (lv_at hl 1 rfl) ?_
  refine k_ne (tgt := 25) hC (by decide) (by omega) dJ9_indexOfChar_19 (by decide) (fun c4 => ?_) (fun c4 => ?_)
  rotate_left
  · refine lv_iload hC.1 hC.2.1 dJ9_indexOfChar_22 (lv_at hl 0 rfl) ?_
    exact pS_ret hC hlk hr (by unfold sIx; rw [if_neg (by omega), if_neg (by omega), if_neg (by omega), if_neg (by omega), if_pos (by omega)]) rfl dJ9_indexOfChar_24
  refine k_iinc (k := 0) (a := 4) (d := 1) hC dJ9_indexOfChar_25 hl rfl (by decide) (by decide) (lv' := [(5, .int (nI 5)), (4, .int (nI n)), (0, .ref v), (1, .int (nI n)), (2, .int (nI 0)), (3, .int (nI 5))]) rfl (fun ls hl => ?_)
  refine lv_goto (tgt := 7) hC.1 hC.2.1 dJ9_indexOfChar_28 (by decide) ?_
  refine lv_iload hC.1 hC.2.1 dJ9_indexOfChar_7 (lv_at hl 0 rfl) ?_
  refine lv_iload_n hC.1 hC.2.1 dJ9_indexOfChar_9 rfl (lv_at hl 5 rfl) ?_
  refine k_ge (tgt := 31) hC (by decide) (by decide) dJ9_indexOfChar_10 (by decide) (fun _ => ?_) (fun h => absurd h (by decide))
  refine lv_iconst (v := -1) hC.1 hC.2.1 dJ9_indexOfChar_31 (by decide) ?_
  exact pS_ret hC hlk hr (by unfold sIx; rw [if_neg (by omega), if_neg (by omega), if_neg (by omega), if_neg (by omega), if_neg (by omega)]) rfl dJ9_indexOfChar_32

set_option maxHeartbeats 800000 in
theorem tJ9_indexOf (l : Launch) (a v n : Nat) (h0 : n < 128) : sM l yJ9_indexOf (ws_ yJ9_indexOf cJ9_indexOf 4 (some .int)) ({ frames := 1, cells := 0, slots := 0, locals := 25 } : Room) [.ref v, .int (nI n), .int (nI 0), .int (nI 5)] a v (sIx n) := by
  refine sM.of (by decide +kernel) (Nat.le_of_ble_eq_true rfl) ?_
  intro p e s m below meth cd ls hC hlk hr hs hl
  have hl : lv_has ls 4 [(0, .ref v), (1, .int (nI n)), (2, .int (nI 0)), (3, .int (nI 5))] := hl
  refine lv_iload_n hC.1 hC.2.1 dJ9_indexOf_0 rfl (lv_at hl 1 rfl) ?_
  refine pS_call (n := 1) hC hl.1 (tJ9_canEncode l n (by omega)) (lw_S q574 q575 q79 q576) rfl rfl (by decide +kernel) ⟨by decide, by decide⟩ rfl rfl (Nat.le_of_ble_eq_true rfl) dJ9_indexOf_1 ⟨Nat.zero_le _, Nat.zero_le _⟩ ?_
  refine k_zne (tgt := 9) hC (by decide) dJ9_indexOf_4 (by decide) (fun _ => ?_) (fun h => absurd h (by decide))
  refine lv_iload_n hC.1 hC.2.1 dJ9_indexOf_9 rfl (lv_at hl 2 rfl) ?_
  refine lv_iconst (v := nI 0) hC.1 hC.2.1 dJ9_indexOf_10 (by decide) ?_
  refine pS_call (n := 2) hC hl.1 (tJ10_max l) (lw_S q577 q578 q80 q579) rfl rfl (by decide +kernel) ⟨by decide, by decide⟩ rfl rfl (Nat.le_of_ble_eq_true rfl) dJ9_indexOf_11 ⟨Nat.zero_le _, Nat.zero_le _⟩ ?_
  refine lv_istore_n (lv' := [(2, .int (nI 0)), (0, .ref v), (1, .int (nI n)), (3, .int (nI 5))]) hC.1 hC.2.1 dJ9_indexOf_14 rfl hl (by decide) rfl (fun ls hl => ?_)
  refine lv_iload_n hC.1 hC.2.1 dJ9_indexOf_15 rfl (lv_at hl 3 rfl) ?_
  refine lv_aload_n hC.1 hC.2.1 dJ9_indexOf_16 rfl (lv_at hl 1 rfl) ?_
  refine va_tlen hC.1 hC.2.1 hs.1.2.2.2 va_S.rf (v := nI 5) (by decide) dJ9_indexOf_17 ?_
  refine pS_call (n := 2) hC hl.1 (tJ10_min l) (lw_S q580 q581 q80 q582) rfl rfl (by decide +kernel) ⟨by decide, by decide⟩ rfl rfl (Nat.le_of_ble_eq_true rfl) dJ9_indexOf_18 ⟨Nat.zero_le _, Nat.zero_le _⟩ ?_
  refine lv_istore_n (lv' := [(3, .int (nI 5)), (2, .int (nI 0)), (0, .ref v), (1, .int (nI n))]) hC.1 hC.2.1 dJ9_indexOf_21 rfl hl (by decide) rfl (fun ls hl => ?_)
  refine lv_iload_n hC.1 hC.2.1 dJ9_indexOf_22 rfl (lv_at hl 1 rfl) ?_
  refine lv_iload_n hC.1 hC.2.1 dJ9_indexOf_23 rfl (lv_at hl 0 rfl) ?_
  refine k_lt (tgt := 29) hC (by decide) (by decide) dJ9_indexOf_24 (by decide) (fun _ => ?_) (fun h => absurd h (by decide))
  refine lv_aload_n hC.1 hC.2.1 dJ9_indexOf_29 rfl (lv_at hl 2 rfl) ?_
  refine lv_iload_n hC.1 hC.2.1 dJ9_indexOf_30 rfl (lv_at hl 3 rfl) ?_
  refine lv_iload_n hC.1 hC.2.1 dJ9_indexOf_31 rfl (lv_at hl 1 rfl) ?_
  refine lv_iload_n hC.1 hC.2.1 dJ9_indexOf_32 rfl (lv_at hl 0 rfl) ?_
  refine s_S (n := 4) hC hl.1 hs va_S.rf (tJ9_indexOfChar l a v n h0) (lw_S q583 q584 q79 q585) rfl rfl (by decide +kernel) ⟨by decide, by decide⟩ rfl rfl (Nat.le_of_ble_eq_true rfl) dJ9_indexOf_33 ⟨Nat.zero_le _, Nat.zero_le _⟩ ?_
  exact pS_ret hC hlk hr rfl rfl dJ9_indexOf_36

set_option maxHeartbeats 800000 in
theorem tJ4_isLatin1 (l : Launch) (a v : Nat) : sM l yJ4_isLatin1 (ws_ yJ4_isLatin1 cJ4_isLatin1 1 (some .boolean)) ({ frames := 0, cells := 0, slots := 0, locals := 0 } : Room) [.ref a] a v (nI 1) := by
  refine sM.of (by decide +kernel) (Nat.le_of_ble_eq_true rfl) ?_
  intro p e s m below meth cd ls hC hlk hr hs hl
  have hl : lv_has ls 1 [(0, .ref a)] := hl
  refine va_gets (ref := "java/lang/String") hC.1 hC.2.1 hs.2 va_S.rf hC.2.2.2.1 (hC.2.2.2.2 _ q561) (fun x h => h) dJ4_isLatin1_0 ?_
  refine k_zeq (a := 1) (tgt := 17) hC (by decide) dJ4_isLatin1_3 (by decide) (fun h => absurd h (by decide)) (fun _ => ?_)
  refine lv_aload_n hC.1 hC.2.1 dJ4_isLatin1_6 rfl (lv_at hl 0 rfl) ?_
  refine vk_getf (ref := "java/lang/String") hC.1 hC.2.1 hs.1.2.1 va_S.rf hC.2.2.2.1 (hC.2.2.2.2 _ q1512) (fun x h => h) dJ4_isLatin1_7 ?_
  refine k_zne (a := 0) (tgt := 17) hC (by decide) dJ4_isLatin1_10 (by decide) (fun h => absurd rfl h) (fun _ => ?_)
  refine lv_iconst (v := nI 1) hC.1 hC.2.1 dJ4_isLatin1_13 (by decide) ?_
  refine lv_goto (tgt := 18) hC.1 hC.2.1 dJ4_isLatin1_14 (by decide) ?_
  exact pS_ret hC hlk hr rfl rfl dJ4_isLatin1_18

set_option maxHeartbeats 800000 in
theorem tJ4_coder (l : Launch) (a v : Nat) : sM l yJ4_coder (ws_ yJ4_coder cJ4_coder 1 (some .byte)) ({ frames := 0, cells := 0, slots := 0, locals := 0 } : Room) [.ref a] a v (nI 0) := by
  refine sM.of (by decide +kernel) (Nat.le_of_ble_eq_true rfl) ?_
  intro p e s m below meth cd ls hC hlk hr hs hl
  have hl : lv_has ls 1 [(0, .ref a)] := hl
  refine va_gets (ref := "java/lang/String") hC.1 hC.2.1 hs.2 va_S.rf hC.2.2.2.1 (hC.2.2.2.2 _ q561) (fun x h => h) dJ4_coder_0 ?_
  refine k_zeq (a := 1) (tgt := 13) hC (by decide) dJ4_coder_3 (by decide) (fun h => absurd h (by decide)) (fun _ => ?_)
  refine lv_aload_n hC.1 hC.2.1 dJ4_coder_6 rfl (lv_at hl 0 rfl) ?_
  refine vk_getf (ref := "java/lang/String") hC.1 hC.2.1 hs.1.2.1 va_S.rf hC.2.2.2.1 (hC.2.2.2.2 _ q1512) (fun x h => h) dJ4_coder_7 ?_
  refine lv_goto (tgt := 14) hC.1 hC.2.1 dJ4_coder_10 (by decide) ?_
  exact pS_ret hC hlk hr rfl rfl dJ4_coder_14

set_option maxHeartbeats 800000 in
theorem tJ4_length (l : Launch) (a v : Nat) : sM l yJ4_length (ws_ yJ4_length cJ4_length 1 (some .int)) ({ frames := 1, cells := 0, slots := 0, locals := 20 } : Room) [.ref a] a v (nI 5) := by
  refine sM.of (by decide +kernel) (Nat.le_of_ble_eq_true rfl) ?_
  intro p e s m below meth cd ls hC hlk hr hs hl
  have hl : lv_has ls 1 [(0, .ref a)] := hl
  refine lv_aload_n hC.1 hC.2.1 dJ4_length_0 rfl (lv_at hl 0 rfl) ?_
  refine vk_getf (ref := "java/lang/String") hC.1 hC.2.1 hs.1.2.2.1 va_S.rf hC.2.2.2.1 (hC.2.2.2.2 _ q1513) (fun x h => h) dJ4_length_1 ?_
  refine va_tlen hC.1 hC.2.1 hs.1.2.2.2 va_S.rf (v := nI 5) (by decide) dJ4_length_4 ?_
  refine lv_aload_n hC.1 hC.2.1 dJ4_length_5 rfl (lv_at hl 0 rfl) ?_
  refine s_V (n := 0) hC hl.1 hs va_S.rf (tJ4_coder l a v) (lw_V q567 q568 q569 q71 q570) rfl rfl (by decide +kernel) ⟨by decide, by decide⟩ rfl rfl (Nat.le_of_ble_eq_true rfl) dJ4_length_6 ⟨Nat.zero_le _, Nat.zero_le _⟩ ?_
  refine lv_ishr hC.1 hC.2.1 dJ4_length_9 ?_
  exact pS_ret hC hlk hr (by decide) rfl dJ4_length_10

set_option maxHeartbeats 800000 in
theorem tJ4_indexOf_2 (l : Launch) (a v n : Nat) (h0 : n < 128) : sM l yJ4_indexOf_2 (ws_ yJ4_indexOf_2 cJ4_indexOf_2 3 (some .int)) ({ frames := 2, cells := 0, slots := 0, locals := 48 } : Room) [.ref a, .int (nI n), .int (nI 0)] a v (sIx n) := by
  refine sM.of (by decide +kernel) (Nat.le_of_ble_eq_true rfl) ?_
  intro p e s m below meth cd ls hC hlk hr hs hl
  have hl : lv_has ls 3 [(0, .ref a), (1, .int (nI n)), (2, .int (nI 0))] := hl
  refine lv_aload_n hC.1 hC.2.1 dJ4_indexOf_2_0 rfl (lv_at hl 0 rfl) ?_
  refine s_V (n := 0) hC hl.1 hs va_S.rf (tJ4_isLatin1 l a v) (lw_V q557 q558 q559 q71 q560) rfl rfl (by decide +kernel) ⟨by decide, by decide⟩ rfl rfl (Nat.le_of_ble_eq_true rfl) dJ4_indexOf_2_1 ⟨Nat.zero_le _, Nat.zero_le _⟩ ?_
  refine k_zeq (a := 1) (tgt := 23) hC (by decide) dJ4_indexOf_2_4 (by decide) (fun h => absurd h (by decide)) (fun _ => ?_)
  refine lv_aload_n hC.1 hC.2.1 dJ4_indexOf_2_7 rfl (lv_at hl 0 rfl) ?_
  refine vk_getf (ref := "java/lang/String") hC.1 hC.2.1 hs.1.2.2.1 va_S.rf hC.2.2.2.1 (hC.2.2.2.2 _ q1513) (fun x h => h) dJ4_indexOf_2_8 ?_
  refine lv_iload_n hC.1 hC.2.1 dJ4_indexOf_2_11 rfl (lv_at hl 1 rfl) ?_
  refine lv_iload_n hC.1 hC.2.1 dJ4_indexOf_2_12 rfl (lv_at hl 2 rfl) ?_
  refine lv_aload_n hC.1 hC.2.1 dJ4_indexOf_2_13 rfl (lv_at hl 0 rfl) ?_
  refine s_V (n := 0) hC hl.1 hs va_S.rf (tJ4_length l a v) (lw_V q563 q564 q565 q71 q566) rfl rfl (by decide +kernel) ⟨by decide, by decide⟩ rfl rfl (Nat.le_of_ble_eq_true rfl) dJ4_indexOf_2_14 ⟨Nat.zero_le _, Nat.zero_le _⟩ ?_
  refine s_S (n := 4) hC hl.1 hs va_S.rf (tJ9_indexOf l a v n h0) (lw_S q571 q572 q79 q573) rfl rfl (by decide +kernel) ⟨by decide, by decide⟩ rfl rfl (Nat.le_of_ble_eq_true rfl) dJ4_indexOf_2_17 ⟨Nat.zero_le _, Nat.zero_le _⟩ ?_
  refine lv_goto (tgt := 36) hC.1 hC.2.1 dJ4_indexOf_2_20 (by decide) ?_
  exact pS_ret hC hlk hr rfl rfl dJ4_indexOf_2_36

set_option maxHeartbeats 800000 in
theorem tJ4_indexOf (l : Launch) (a v n : Nat) (h0 : n < 128) : sM l yJ4_indexOf (ws_ yJ4_indexOf cJ4_indexOf 2 (some .int)) ({ frames := 3, cells := 0, slots := 0, locals := 70 } : Room) [.ref a, .int (nI n)] a v (sIx n) := by
  refine sM.of (by decide +kernel) (Nat.le_of_ble_eq_true rfl) ?_
  intro p e s m below meth cd ls hC hlk hr hs hl
  have hl : lv_has ls 2 [(0, .ref a), (1, .int (nI n))] := hl
  refine lv_aload_n hC.1 hC.2.1 dJ4_indexOf_0 rfl (lv_at hl 0 rfl) ?_
  refine lv_iload_n hC.1 hC.2.1 dJ4_indexOf_1 rfl (lv_at hl 1 rfl) ?_
  refine lv_iconst (v := nI 0) hC.1 hC.2.1 dJ4_indexOf_2 (by decide) ?_
  refine s_V (n := 2) hC hl.1 hs va_S.rf (tJ4_indexOf_2 l a v n h0) (lw_V q553 q554 q555 q71 q556) rfl rfl (by decide +kernel) ⟨by decide, by decide⟩ rfl rfl (Nat.le_of_ble_eq_true rfl) dJ4_indexOf_3 ⟨Nat.zero_le _, Nat.zero_le _⟩ ?_
  exact pS_ret hC hlk hr rfl rfl dJ4_indexOf_6
