/-! ===== contracts over the graph world ===== -/
/-- words of the tables that a call doesn't carry by itself -/
def isX : Cond → Bool
  | .fieldLinkNest .. => true
  | .methodLinkNest .. => true
  | .declares .. => true
  | .castable .. => true
  | .arrayOver (.object _) => true
  | _ => false
def gX (U : State) : Prop := ∀ w, w ∈ lw_tbl → isX w = true → va_Nw w U
theorem gX.warm {s U : State} (h : gX s) (hW : s.WarmedH U.vm) : gX U := by
  intro w hw hx
  have h0 := h w hw hx
  cases w with
  | fieldLinkNest a b c d e f => exact va_Nw.warmF hW h0
  | methodLinkNest a b c d => exact va_Nw.warmM hW h0
  | declares a => exact va_Nw.warmD hW h0
  | castable a b => exact va_Nw.warmC hW h0
  | arrayOver t =>
    cases t with
    | object C => exact va_AO.moved hW.alike h0
    | _ => cases hx
  | _ => cases hx
theorem gX.same {s U : State} (h : gX s) (e : s.vm = U.vm) : gX U := by
  intro w hw hx
  have h0 := h w hw hx
  cases w with
  | fieldLinkNest a b c d e2 f => exact va_Nw.same rfl e h0
  | methodLinkNest a b c d => exact va_Nw.same rfl e h0
  | declares a => exact va_Nw.same rfl e h0
  | castable a b => exact va_Nw.same rfl e h0
  | arrayOver t =>
    cases t with
    | object C => exact va_AO.moved (by rw [e]; exact Vm.Alike.refl _) h0
    | _ => cases hx
  | _ => cases hx
def gPre (D : va_G) (dA : Nat → ClassId) (dom : List Nat) (ad : Nat → Nat) (K : gK) (I : mG) (R : gR) (sz : Nat) (U : State) : Prop := U.heap.size = sz ∧ va_K D cCl (cTy dA) U ∧ gX U ∧ va_P D cCl (nL dom (gCt dA K I R ad) ad) U.heap ∧ va_D (fun _ => True) (nL dom (gCt dA K I R ad) ad) ∧ gCl dom R
def gEnd (D : va_G) (dA : Nat → ClassId) (A : Nat → Prop) (dom : List Nat) (ad : Nat → Nat) (K : gK) (I : mG) (R : gR) (t : State) : Prop := va_P D cCl (nL dom (gCt dA K I R ad) ad) t.heap ∧ va_D A (nL dom (gCt dA K I R ad) ad) ∧ gCl dom R
/-- a method with an answer that makes no cells: from (I, R) to (I', R') -/
def gI (l : Launch) (y : MethodName) (cc : ByteArray) (nl : Nat) (ty : FieldType) (rm : Room) (as : List Value) (dom : List Nat) (ad : Nat → Nat) (K : gK) (I : mG) (R : gR) (post : Int32 → mG × gR → Prop) : Prop :=
  ∀ (D : va_G) (dA : Nat → ClassId) (sz : Nat), Met l y (ws_ y cc nl (some ty)) rm (va_Pc as (gPre D dA dom ad K I R sz)) (va_Qi post (fun S => gEnd D dA (nA dom ad sz) dom ad K S.1 S.2) (nA dom ad sz)) 0 0 (nA dom ad sz)
def gV (l : Launch) (y : MethodName) (cc : ByteArray) (nl : Nat) (rm : Room) (as : List Value) (dom : List Nat) (ad : Nat → Nat) (K : gK) (I : mG) (R : gR) (post : mG × gR → Prop) : Prop :=
  ∀ (D : va_G) (dA : Nat → ClassId) (sz : Nat), Met l y (ws_ y cc nl none) rm (va_Pc as (gPre D dA dom ad K I R sz)) (va_Qv post (fun S => gEnd D dA (nA dom ad sz) dom ad K S.1 S.2) (nA dom ad sz)) 0 0 (nA dom ad sz)
theorem gPre.moved {D : va_G} {dA : Nat → ClassId} {dom : List Nat} {ad : Nat → Nat} {K : gK} {I : mG} {R : gR} {sz : Nat} {U V : State} (h : gPre D dA dom ad K I R sz U) (hvm : U.vm = V.vm) (hh : V.heap = U.heap) : gPre D dA dom ad K I R sz V := by
  obtain ⟨h1, h2, h3, h4, h5⟩ := h
  exact ⟨by rw [hh]; exact h1, h2.moved (by rw [hvm]; exact Vm.Alike.refl _), h3.same hvm, by rw [hh]; exact h4, h5⟩
theorem gI.of {l : Launch} {y : MethodName} {cc : ByteArray} {nl : Nat} {ty : FieldType} {rm : Room} {as : List Value} {dom : List Nat} {ad : Nat → Nat} {K : gK} {I : mG} {R : gR} {post : Int32 → mG × gR → Prop} (hy : plainName y.cls = true) (hn : (lg_sl as).length ≤ nl)
    (body : ∀ (D : va_G) (dA : Nat → ClassId) (p : Program) (e : Env) (s : State) (m : MethodId) (below : List Frame) (meth : Method) (c : Code) (ls : Array Slot), CallFix p m c cc nl s as.toArray lw_all y.cls → meth.locks = false → meth.sig.returnType = some ty → va_K D cCl (cTy dA) s → gX s → lv_has ls nl (lv_args 0 as) → gw D dA (nA dom ad s.heap.size) s.heap dom ad K I R s.heap [] →
      W p l e rm s m as.toArray below meth c s.heap [] 0 0 (MQ below (va_Qi post (fun S => gEnd D dA (nA dom ad s.heap.size) dom ad K S.1 S.2) (nA dom ad s.heap.size)) as.toArray s 0 0 (nA dom ad s.heap.size)) (F0 m 0 ls [])) : gI l y cc nl ty rm as dom ad K I R post := by
  intro D dA sz
  refine Met.ofW (cc := cc) (maxL := nl) (ret := some ty) hy rfl ?_
  intro p e s m args below meth c s₁ B hml hv
  obtain ⟨rfl, hsz, hK, hX, hP, hD, hc⟩ := hv
  subst hsz
  have hts := atoms_spec (ws := ws_ y cc nl (some ty)) B.pre
  have hts : ∀ w ∈ lw_all, w.before as.toArray s = true := fun w h => hts w (List.mem_cons_of_mem _ h)
  have hown : s.vm.findClass y.cls = some m.cls := findClass_of_methodNamed B.named
  have hl := lv_entry as (n := nl) hn
  rw [lg_entry_eq]
  exact body D dA p e s m below meth c _ ⟨B.exec, B.bytes, hml, hown, hts⟩ B.notSynchronized B.returns hK hX hl ⟨nw.start hP hD, hc⟩
theorem gV.of {l : Launch} {y : MethodName} {cc : ByteArray} {nl : Nat} {rm : Room} {as : List Value} {dom : List Nat} {ad : Nat → Nat} {K : gK} {I : mG} {R : gR} {post : mG × gR → Prop} (hy : plainName y.cls = true) (hn : (lg_sl as).length ≤ nl)
    (body : ∀ (D : va_G) (dA : Nat → ClassId) (p : Program) (e : Env) (s : State) (m : MethodId) (below : List Frame) (meth : Method) (c : Code) (ls : Array Slot), CallFix p m c cc nl s as.toArray lw_all y.cls → meth.locks = false → meth.sig.returnType = none → va_K D cCl (cTy dA) s → gX s → lv_has ls nl (lv_args 0 as) → gw D dA (nA dom ad s.heap.size) s.heap dom ad K I R s.heap [] →
      W p l e rm s m as.toArray below meth c s.heap [] 0 0 (MQ below (va_Qv post (fun S => gEnd D dA (nA dom ad s.heap.size) dom ad K S.1 S.2) (nA dom ad s.heap.size)) as.toArray s 0 0 (nA dom ad s.heap.size)) (F0 m 0 ls [])) : gV l y cc nl rm as dom ad K I R post := by
  intro D dA sz
  refine Met.ofW (cc := cc) (maxL := nl) (ret := none) hy rfl ?_
  intro p e s m args below meth c s₁ B hml hv
  obtain ⟨rfl, hsz, hK, hX, hP, hD, hc⟩ := hv
  subst hsz
  have hts := atoms_spec (ws := ws_ y cc nl none) B.pre
  have hts : ∀ w ∈ lw_all, w.before as.toArray s = true := fun w h => hts w (List.mem_cons_of_mem _ h)
  have hown : s.vm.findClass y.cls = some m.cls := findClass_of_methodNamed B.named
  have hl := lv_entry as (n := nl) hn
  rw [lg_entry_eq]
  exact body D dA p e s m below meth c _ ⟨B.exec, B.bytes, hml, hown, hts⟩ B.notSynchronized B.returns hK hX hl ⟨nw.start hP hD, hc⟩
section GC
variable {p : Program} {l : Launch} {e : Env} {Rm : Room} {s : State} {m : MethodId} {args : Array Value} {below : List Frame} {meth : Method} {c : Code} {H : Heap} {locs : List Loc} {cells slots : Nat} {Q : State → Prop}
variable {cc : ByteArray} {nl pc : Nat} {ls : Array Slot} {rest : List Value} {D : va_G} {dA : Nat → ClassId} {A : Nat → Prop} {H0 : Heap} {dom : List Nat} {ad : Nat → Nat} {K : gK} {I : mG} {R : gR} {own : String}
theorem g_iret (hC : CallFix p m c cc nl s args lw_all own) (hlk : meth.locks = false) {ty : FieldType} (hr : meth.sig.returnType = some ty) (hw : gw D dA (nA dom ad s.heap.size) s.heap dom ad K I R H locs) {v : Int32} (hn : narrow ty (.int v) = .int v) {post : Int32 → mG × gR → Prop} (hq : post v (I, R)) (hdg : decode cc pc = .ok (.ireturn, 1)) :
    W p l e Rm s m args below meth c H locs 0 0 (MQ below (va_Qi post (fun S => gEnd D dA (nA dom ad s.heap.size) dom ad K S.1 S.2) (nA dom ad s.heap.size)) args s 0 0 (nA dom ad s.heap.size)) (F0 m pc ls [.int v]) :=
  W.zret hC.1 hC.2.1 hr hn (fun t ht hW => ⟨⟨v, (I, R), rfl, hq, by rw [ht]; exact hw.1.1, hw.1.2.1, hw.2⟩, hw.1.2.2.1.F ht⟩) hw.1.2.2.1.2.2 hdg hlk
theorem g_vret (hC : CallFix p m c cc nl s args lw_all own) (hlk : meth.locks = false) (hr : meth.sig.returnType = none) (hw : gw D dA (nA dom ad s.heap.size) s.heap dom ad K I R H locs) {post : mG × gR → Prop} (hq : post (I, R)) (hdg : decode cc pc = .ok (.return_, 1)) :
    W p l e Rm s m args below meth c H locs 0 0 (MQ below (va_Qv post (fun S => gEnd D dA (nA dom ad s.heap.size) dom ad K S.1 S.2) (nA dom ad s.heap.size)) args s 0 0 (nA dom ad s.heap.size)) (F0 m pc ls []) :=
  W.vret hC.1 hC.2.1 hr (fun t ht hW => ⟨⟨(I, R), rfl, hq, by rw [ht]; exact hw.1.1, hw.1.2.1, hw.2⟩, hw.1.2.2.1.F ht⟩) hw.1.2.2.1.2.2 hdg hlk
theorem g_recv {C : String} {T : u_T} (hK : va_K D cCl (cTy dA) s) (hw : gw D dA A H0 dom ad K I R H locs) {n ci : Nat} (hn : n ∈ dom) (hk0 : (K n).1 = ci) (hc20 : ci < 20) (hc : cCl[ci]? = some (C, T, gN ci)) : ∃ cell : Cell, H[ad n]? = some cell ∧ cell.vm.isStatics = false ∧ s.vm.findClass C = some cell.cls := by
  obtain ⟨q0, -, hq⟩ := nL_get (gCt dA K I R ad) ad hn
  have e1 : gCt dA K I R ad n = .inr (ci, gF ci (I n) (R n) ad) := gE_o hk0 hc20
  rw [e1] at hq
  exact va_recv (q := (C, T, gN ci)) (fs := gF ci (I n) (R n) ad) hK hw.1.1 (ci := ci) (q0 := q0) hc hq
/-- a call of a method that is found in the object's own class -/
theorem g_calli {C : String} {T : u_T} (hC : CallFix p m c cc nl s args lw_all own) (hl : ls.size = nl) (hK : va_K D cCl (cTy dA) s) (hX : gX s) (hw : gw D dA A H0 dom ad K I R H locs) {n0 ci : Nat} (hn0 : n0 ∈ dom) (hk0 : (K n0).1 = ci) (hc20 : ci < 20) (hc : cCl[ci]? = some (C, T, gN ci)) {y : MethodName} {bytes : ByteArray} {maxL index n : Nat} {ty : FieldType} {rm : Room} {as : List Value} {post : Int32 → mG × gR → Prop} (hM : gI l y bytes maxL ty rm (.ref (ad n0) :: as) dom ad K I R post)
    (hT : GoodIn lw_all (wsV own index C y (ws_ y bytes maxL (some ty)))) (hrc : rm.cells = 0) (hrs : rm.slots = 0) (hd : y.cls = C ∧ y.cls ≠ "java/lang/invoke/MethodHandle" ∧ y.cls ≠ "java/lang/invoke/VarHandle" ∧ (parseMethodDescriptor y.desc).map (fun d => d.parameters.length) = some n) (hR : rm.frames + 1 ≤ Rm.frames ∧ 8 + (maxL + 11) + rm.locals ≤ Rm.locals)
    (hn : as.length = n) {st0 : List Value} (hst : st0 = as.reverse ++ .ref (ad n0) :: rest) (hW : (rest.map fun v => v.category).sum ≤ 8) (hdg : decode cc pc = .ok (.invokevirtual index, 3)) (hf : cells ≤ Rm.cells ∧ slots ≤ Rm.slots)
    (kk : ∀ (r : Int32) (I' : mG) (R' : gR) (H' : Heap) (locs' : List Loc), post r (I', R') → gw D dA A H0 dom ad K I' R' H' locs' → W p l e Rm s m args below meth c H' locs' cells slots Q (F0 m (pc + 3) ls (.int r :: rest))) : W p l e Rm s m args below meth c H locs cells slots Q (F0 m pc ls st0) := by
  refine va_calli (va_runV (As := as) (rest := rest) hC (hM D dA H.size) (cwV n hC.2.2.2.2 hT rfl hrc hrs hd hR) ⟨fun a U g mk q => ⟨q.1, q.2.moved (V := U.calling g mk a) rfl rfl⟩, g_recv hK hw hn0 hk0 hc20 hc, fun U hU hWm => ⟨rfl, by rw [hU], hK.moved hWm.alike, hX.warm hWm, by rw [hU]; exact hw.1.1, hw.1.2.1.weaken (fun _ _ _ _ => trivial), hw.2⟩⟩ rfl hn hl hst (lv_room hW) hdg hf) hw.1.2.2.1 (fun q _ h => hw.1.free q h) hw.1.free (fun r S t H1 locs1 ht hvm hq hB hz1 hk1 hS => ?_)
  refine kk r S.1 S.2 H1 locs1 hq ⟨⟨?_, hB.2.1.weaken (fun _ _ _ h => hw.1.free _ h), hS, hw.1.2.2.2⟩, hB.2.2⟩
  rw [← ht]
  exact hB.1
theorem g_callv {C : String} {T : u_T} (hC : CallFix p m c cc nl s args lw_all own) (hl : ls.size = nl) (hK : va_K D cCl (cTy dA) s) (hX : gX s) (hw : gw D dA A H0 dom ad K I R H locs) {n0 ci : Nat} (hn0 : n0 ∈ dom) (hk0 : (K n0).1 = ci) (hc20 : ci < 20) (hc : cCl[ci]? = some (C, T, gN ci)) {y : MethodName} {bytes : ByteArray} {maxL index n : Nat} {rm : Room} {as : List Value} {post : mG × gR → Prop} (hM : gV l y bytes maxL rm (.ref (ad n0) :: as) dom ad K I R post)
    (hT : GoodIn lw_all (wsV own index C y (ws_ y bytes maxL none))) (hrc : rm.cells = 0) (hrs : rm.slots = 0) (hd : y.cls = C ∧ y.cls ≠ "java/lang/invoke/MethodHandle" ∧ y.cls ≠ "java/lang/invoke/VarHandle" ∧ (parseMethodDescriptor y.desc).map (fun d => d.parameters.length) = some n) (hR : rm.frames + 1 ≤ Rm.frames ∧ 8 + (maxL + 11) + rm.locals ≤ Rm.locals)
    (hn : as.length = n) {st0 : List Value} (hst : st0 = as.reverse ++ .ref (ad n0) :: rest) (hW : (rest.map fun v => v.category).sum ≤ 8) (hdg : decode cc pc = .ok (.invokevirtual index, 3)) (hf : cells ≤ Rm.cells ∧ slots ≤ Rm.slots)
    (kk : ∀ (I' : mG) (R' : gR) (H' : Heap) (locs' : List Loc), post (I', R') → gw D dA A H0 dom ad K I' R' H' locs' → W p l e Rm s m args below meth c H' locs' cells slots Q (F0 m (pc + 3) ls rest)) : W p l e Rm s m args below meth c H locs cells slots Q (F0 m pc ls st0) := by
  refine va_callv (va_runV (As := as) (rest := rest) hC (hM D dA H.size) (cwV n hC.2.2.2.2 hT rfl hrc hrs hd hR) ⟨fun a U g mk q => ⟨q.1, q.2.moved (V := U.calling g mk a) rfl rfl⟩, g_recv hK hw hn0 hk0 hc20 hc, fun U hU hWm => ⟨rfl, by rw [hU], hK.moved hWm.alike, hX.warm hWm, by rw [hU]; exact hw.1.1, hw.1.2.1.weaken (fun _ _ _ _ => trivial), hw.2⟩⟩ rfl hn hl hst (lv_room hW) hdg hf) hw.1.2.2.1 (fun q _ h => hw.1.free q h) hw.1.free (fun S t H1 locs1 ht hvm hq hB hz1 hk1 hS => ?_)
  refine kk S.1 S.2 H1 locs1 hq ⟨⟨?_, hB.2.1.weaken (fun _ _ _ h => hw.1.free _ h), hS, hw.1.2.2.2⟩, hB.2.2⟩
  rw [← ht]
  exact hB.1
end GC
