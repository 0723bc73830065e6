/-! ===== lanes: casts, lengths, indices; contracts of methods that lean on the premises ===== -/
theorem gMZ.of {l : Launch} {y : MethodName} {cc : ByteArray} {nl : Nat} {ret : Option FieldType} {rm : Room} {as : List Value} {N : Nat} {ad : Nat → Nat} {K : gK} {I : mG} {R : gR} {post : Option Value → gS → Prop} (hy : plainName y.cls = true) (hn : (lg_sl as).length ≤ nl)
    (body : ∀ (D : va_G) (dA : Nat → ClassId) (p : Program) (e : Env) (s : State) (m : MethodId) (args : Array Value) (below : List Frame) (meth : Method) (c : Code) (ls : Array Slot), CallFix p m c cc nl s args lw_all y.cls → meth.locks = false → meth.sig.returnType = ret → va_K D cCl (cTy dA) s → gX s → gZ s → (∀ (q : Nat) (cell : Cell), s.heap[q]? = some cell → cell.vm.isStatics = true → ¬ nA (List.range N) ad s.heap.size q) → lv_has ls nl (lv_args 0 as) → gw D dA (nA (List.range N) ad s.heap.size) s.heap (List.range N) ad K I R s.heap [] →
      W p l e rm s m args below meth c s.heap [] 0 0 (MQ below (gQ D dA N ad K s.heap.size post) args s rm.cells rm.slots (nA (List.range N) ad s.heap.size)) (F0 m 0 ls [])) : gMZ l y (ws_ y cc nl ret) rm as N ad K I R post := by
  intro D dA sz
  refine Met.ofW (cc := cc) (maxL := nl) (ret := ret) hy rfl ?_
  intro p e s m args below meth c s₁ B hml hv
  obtain ⟨rfl, ⟨hsz, hK, hX, hP, hD, hc⟩, hZ⟩ := hv
  subst hsz
  have hts := atoms_spec (ws := ws_ y cc nl ret) B.pre
  have hts : ∀ w ∈ lw_all, w.before as.toArray s = true := fun w h => hts w (List.mem_cons_of_mem _ h)
  have hown : s.vm.findClass y.cls = some m.cls := findClass_of_methodNamed B.named
  have hl := lv_entry as (n := nl) hn
  rw [lg_entry_eq]
  exact body D dA p e s m _ below meth c _ ⟨B.exec, B.bytes, hml, hown, hts⟩ B.notSynchronized B.returns hK hX hZ (gw.noStat hP) hl ⟨nw.start hP hD, hc⟩
theorem gMZ.ofH {l : Launch} {y : MethodName} {cc : ByteArray} {nl : Nat} {ret : Option FieldType} {hh : List (Nat × Nat × Nat × Nat)} {rm : Room} {as : List Value} {N : Nat} {ad : Nat → Nat} {K : gK} {I : mG} {R : gR} {post : Option Value → gS → Prop} (hy : plainName y.cls = true) (hn : (lg_sl as).length ≤ nl)
    (body : ∀ (D : va_G) (dA : Nat → ClassId) (p : Program) (e : Env) (s : State) (m : MethodId) (args : Array Value) (below : List Frame) (meth : Method) (c : Code) (ls : Array Slot), CallFix p m c cc nl s args lw_all y.cls → meth.locks = false → meth.sig.returnType = ret → c.exceptionTable.toList = tbl hh → va_K D cCl (cTy dA) s → gX s → gZ s → (∀ (q : Nat) (cell : Cell), s.heap[q]? = some cell → cell.vm.isStatics = true → ¬ nA (List.range N) ad s.heap.size q) → lv_has ls nl (lv_args 0 as) → gw D dA (nA (List.range N) ad s.heap.size) s.heap (List.range N) ad K I R s.heap [] →
      W p l e rm s m args below meth c s.heap [] 0 0 (MQ below (gQ D dA N ad K s.heap.size post) args s rm.cells rm.slots (nA (List.range N) ad s.heap.size)) (F0 m 0 ls [])) : gMZ l y (wsW_ y cc nl ret hh) rm as N ad K I R post := by
  intro D dA sz
  refine va_MetW (cc := cc) (maxL := nl) (ret := ret) (hh := hh) hy rfl ?_
  intro p e s m args below meth c s₁ B hml hv
  obtain ⟨rfl, ⟨hsz, hK, hX, hP, hD, hc⟩, hZ⟩ := hv
  subst hsz
  have hts := atoms_spec (ws := wsW_ y cc nl ret hh) B.pre
  obtain ⟨m9, meth', c', hn9, h1, h2, -, -, h5, -, -, -⟩ := Cond.codeWith_spec (hts _ List.mem_cons_self)
  cases B.named.symm.trans hn9
  have X0 := Stand.of_body B
  cases X0.method.symm.trans h1
  cases X0.code.symm.trans h2
  have hts : ∀ w ∈ lw_all, w.before as.toArray s = true := fun w h => hts w (List.mem_cons_of_mem _ h)
  have hown : s.vm.findClass y.cls = some m.cls := findClass_of_methodNamed B.named
  have hl := lv_entry as (n := nl) hn
  rw [lg_entry_eq]
  exact body D dA p e s m _ below meth c _ ⟨B.exec, B.bytes, hml, hown, hts⟩ B.notSynchronized B.returns (tbl_of h5) hK hX hZ (gw.noStat hP) hl ⟨nw.start hP hD, hc⟩
def laneN : Nat → String
  | 0 => "[I"
  | 1 => "[B"
  | _ => "[S"
def laneT : Nat → FieldType
  | 0 => .int
  | 1 => .byte
  | _ => .short
theorem lane_ty {dA : Nat → ClassId} {t : Nat} (h : t < 3) : (cTy dA)[t]? = some (dA t, laneT t) := by
  match t, h with
  | 0, _ => rfl
  | 1, _ => rfl
  | 2, _ => rfl
theorem lane_cls {D : va_G} {dA : Nat → ClassId} {s : State} (hK : va_K D cCl (cTy dA) s) {t : Nat} (h : t < 3) : s.vm.findClass (laneN t) = some (dA t) := by
  have hz := (hK.2 t _ (lane_ty h)).2
  match t, h with
  | 0, _ => exact hz
  | 1, _ => exact hz
  | 2, _ => exact hz
section LN
variable {p : Program} {l : Launch} {e : Env} {Rm : Room} {s : State} {m : MethodId} {args : Array Value} {below : List Frame} {meth : Method} {c : Code} {H : Heap} {locs : List Loc} {cells slots : Nat} {Q : State → Prop}
variable {cc : ByteArray} {nl pc : Nat} {ls : Array Slot} {rest : List Value} {own : String} {D : va_G} {dA : Nat → ClassId} {A : Nat → Prop} {H0 : Heap} {dom : List Nat} {ad : Nat → Nat} {K : gK} {I : mG} {R : gR}
theorem g_lane (hw : gw D dA A H0 dom ad K I R H locs) {n t len : Nat} (hn : n ∈ dom) (hk : K n = (20 + t, len)) (ht : t < 10) : H[ad n]? = some (arrV (dA t) len (fun j => .int (I n j))) := by
  obtain ⟨q0, -, hq⟩ := nL_get (gCt dA K I R ad) ad hn
  have e1 : gCt dA K I R ad n = .inl (dA t, len, .inl (I n)) := gE_p hk ht
  rw [e1] at hq
  exact hw.1.1 q0 _ hq
theorem g_cast (hC : CallFix p m c cc nl s args lw_all own) (hK : va_K D cCl (cTy dA) s) (hw : gw D dA A H0 dom ad K I R H locs) {n t len : Nat} (hn : n ∈ dom) (hk : K n = (20 + t, len)) (ht : t < 3) {index : Nat} (hl : Cond.classLink own index (laneN t) ∈ lw_all) (hdg : decode cc pc = .ok (.checkcast index, 3))
    (kk : W p l e Rm s m args below meth c H locs cells slots Q (F0 m (pc + 3) ls (.ref (ad n) :: rest))) : W p l e Rm s m args below meth c H locs cells slots Q (F0 m pc ls (.ref (ad n) :: rest)) := by
  intro T hT X
  obtain ⟨vm', X', st⟩ := X.checkcastYes hC.1 hC.2.2.2.1 (hC.2.2.2.2 _ hl) (by rw [hT]; exact g_lane hw hn hk (by omega)) rfl (lane_cls hK ht) (va_asg _ _) (g := F0 m pc ls (.ref (ad n) :: rest)) rfl rfl (by rw [hC.2.1]; exact hdg)
  obtain ⟨t, a1, b1⟩ := kk (T.setVm vm') hT X'
  exact ⟨t, st t a1, b1⟩
theorem g_isY (hC : CallFix p m c cc nl s args lw_all own) (hK : va_K D cCl (cTy dA) s) (hw : gw D dA A H0 dom ad K I R H locs) {n t len : Nat} (hn : n ∈ dom) (hk : K n = (20 + t, len)) (ht : t < 3) {index : Nat} (hl : Cond.classLink own index (laneN t) ∈ lw_all) (hdg : decode cc pc = .ok (.instanceof index, 3))
    (kk : W p l e Rm s m args below meth c H locs cells slots Q (F0 m (pc + 3) ls (.int 1 :: rest))) : W p l e Rm s m args below meth c H locs cells slots Q (F0 m pc ls (.ref (ad n) :: rest)) := by
  intro T hT X
  obtain ⟨vm', X', st⟩ := X.instanceofYes hC.1 hC.2.2.2.1 (hC.2.2.2.2 _ hl) (by rw [hT]; exact g_lane hw hn hk (by omega)) rfl (lane_cls hK ht) (va_asg _ _) (g := F0 m pc ls (.ref (ad n) :: rest)) rfl rfl (by rw [hC.2.1]; exact hdg)
  obtain ⟨t, a1, b1⟩ := kk (T.setVm vm') hT X'
  exact ⟨t, st t a1, b1⟩
theorem g_isN (hC : CallFix p m c cc nl s args lw_all own) (hK : va_K D cCl (cTy dA) s) (hw : gw D dA A H0 dom ad K I R H locs) {n t len : Nat} (hn : n ∈ dom) (hk : K n = (20 + t, len)) (ht : t < 3) {index : Nat} {nm : String} (hl : Cond.classLink own index nm ∈ lw_all) (hno : va_Nc (laneN t) nm s) (hdg : decode cc pc = .ok (.instanceof index, 3))
    (kk : W p l e Rm s m args below meth c H locs cells slots Q (F0 m (pc + 3) ls (.int 0 :: rest))) : W p l e Rm s m args below meth c H locs cells slots Q (F0 m pc ls (.ref (ad n) :: rest)) :=
  va_instNo hC.1 hC.2.1 hC.2.2.2.1 (hC.2.2.2.2 _ hl) hno ⟨_, g_lane hw hn hk (by omega), rfl, lane_cls hK ht⟩ hdg kk
theorem g_len (hC : CallFix p m c cc nl s args lw_all own) (hK : va_K D cCl (cTy dA) s) (hw : gw D dA A H0 dom ad K I R H locs) {n t len : Nat} (hn : n ∈ dom) (hk : K n = (20 + t, len)) (ht : t < 3) (hdg : decode cc pc = .ok (.arraylength, 1))
    (kk : W p l e Rm s m args below meth c H locs cells slots Q (F0 m (pc + 1) ls (.int (nI len) :: rest))) : W p l e Rm s m args below meth c H locs cells slots Q (F0 m pc ls (.ref (ad n) :: rest)) :=
  W.alen (n := nI len) hC.1 hC.2.1 (g_lane hw hn hk (by omega)) ((hK.2 t _ (lane_ty ht)).1 len (fun j => .int (I n j))) (by rw [arrV_size]; rfl) rfl rfl hdg kk
theorem g_out (hK : va_K D cCl (cTy dA) s) (hw : gw D dA A H0 dom ad K I R H locs) {n t len : Nat} (hn : n ∈ dom) (hk : K n = (20 + t, len)) (ht : t < 3) (h31 : len < 2147483648) {i : Int32} (ho : i < 0 ∨ len ≤ i.toNatClampNeg) : outA s H (ad n) i :=
  ⟨_, laneT t, g_lane hw hn hk (by omega), (hK.2 t _ (lane_ty ht)).1 len (fun j => .int (I n j)), by rw [arrV_size]; exact h31, by rw [arrV_size]; exact ho⟩
end LN
theorem nc_ok {A B : String} (i : Nat) (h : (narL narrow_1)[i]? = some (.not (.castable A B))) {s : State} (hZ : gZ s) : va_Nc A B s := hZ.1 A B (List.mem_of_getElem? h)
