/-! ===== the fault: its constructor, over its cell alone ===== -/
abbrev fCl : List vw_C := [(RX8, TX8, 8)]
abbrev fW (a : Nat) (fs : List Value) : va_W := [(a, .inr (0, fs))]
def fA (a sz : Nat) : Nat → Prop := fun q => q = a ∨ sz ≤ q
abbrev zU (v : Value) (A : Nat → Prop) (U : State) (H : Heap) : Prop := va_Z RJ0 "UNASSIGNED_STACK" "[Ljava/lang/StackTraceElement;" v A U H
abbrev zS (v : Value) (A : Nat → Prop) (U : State) (H : Heap) : Prop := va_Z RJ0 "SUPPRESSED_SENTINEL" "Ljava/util/List;" v A U H
def fPre (D : va_G) (a : Nat) (fs : List Value) (v1 v2 : Value) (sz : Nat) (U : State) : Prop := U.heap.size = sz ∧ va_K D fCl [] U ∧ zU v1 (fA a sz) U U.heap ∧ zS v2 (fA a sz) U U.heap ∧ va_P D fCl (fW a fs) U.heap
theorem fPre.moved {D : va_G} {a : Nat} {fs : List Value} {v1 v2 : Value} {sz : Nat} {U V : State} (h : fPre D a fs v1 v2 sz U) (hvm : U.vm = V.vm) (hh : V.heap = U.heap) : fPre D a fs v1 v2 sz V := by
  obtain ⟨h1, h2, h3, h4, h5⟩ := h
  have hv : U.vm.Alike V.vm := by rw [hvm]; exact Vm.Alike.refl _
  exact ⟨by rw [hh]; exact h1, h2.moved hv, by rw [hh]; exact va_Z.moved hv h3, by rw [hh]; exact va_Z.moved hv h4, by rw [hh]; exact h5⟩
def fQ (D : va_G) (a sz : Nat) (post : List Value → Prop) : Array Value → State → Outcome → State → Prop := fun _ st oc t => (∃ fs : List Value, oc = .returned none ∧ post fs ∧ va_P D fCl (fW a fs) t.heap) ∧ va_F (fA a sz) st t
def fM (l : Launch) (y : MethodName) (ws : List Cond) (rm : Room) (as : List Value) (a : Nat) (fs : List Value) (v1 v2 : Value) (post : List Value → Prop) : Prop :=
  ∀ (D : va_G) (sz : Nat), Met l y ws rm (va_Pc as (fPre D a fs v1 v2 sz)) (fQ D a sz post) 0 0 (fA a sz)
theorem f_D {A : Nat → Prop} {a : Nat} {fs : List Value} (h : A a) : va_D A (fW a fs) := by
  refine ⟨fun i j p q hi hj _ => ?_, fun k q hk => ?_⟩
  · have h1 := (List.getElem?_eq_some_iff.mp hi).1
    have h2 := (List.getElem?_eq_some_iff.mp hj).1
    have h1 : i < 1 := h1
    have h2 : j < 1 := h2
    omega
  · have h1 : k < 1 := (List.getElem?_eq_some_iff.mp hk).1
    rw [show k = 0 by omega] at hk
    cases hk
    exact h
theorem fM.of {l : Launch} {y : MethodName} {cc : ByteArray} {nl : Nat} {rm : Room} {as : List Value} {a : Nat} {fs : List Value} {v1 v2 : Value} {post : List Value → Prop} (hy : plainName y.cls = true) (hn : (lg_sl as).length ≤ nl)
    (body : ∀ (D : va_G) (p : Program) (e : Env) (s : State) (m : MethodId) (args : Array Value) (below : List Frame) (meth : Method) (c : Code) (ls : Array Slot), CallFix p m c cc nl s args lw_all y.cls → meth.locks = false → meth.sig.returnType = none → meth.name = y.name → va_K D fCl [] s → zU v1 (fA a s.heap.size) s s.heap → zS v2 (fA a s.heap.size) s s.heap → lv_has ls nl (lv_args 0 as) → va_P D fCl (fW a fs) s.heap → va_S (fA a s.heap.size) s.heap s.heap [] →
      W p l e rm s m args below meth c s.heap [] 0 0 (MQ below (fQ D a s.heap.size post) args s 0 0 (fA a s.heap.size)) (F0 m 0 ls [])) : fM l y (ws_ y cc nl none) rm as a fs v1 v2 post := by
  intro D sz
  refine Met.ofW (cc := cc) (maxL := nl) (ret := none) hy rfl ?_
  intro p e s m args below meth c s₁ B hml hv
  obtain ⟨rfl, hsz, hK, h1, h2, hP⟩ := hv
  subst hsz
  have hts := atoms_spec (ws := ws_ y cc nl none) B.pre
  have hts : ∀ w ∈ lw_all, w.before as.toArray s = true := fun w h => hts w (List.mem_cons_of_mem _ h)
  have hown : s.vm.findClass y.cls = some m.cls := findClass_of_methodNamed B.named
  have hl := lv_entry as (n := nl) hn
  rw [lg_entry_eq]
  exact body D p e s m _ below meth c _ ⟨B.exec, B.bytes, hml, hown, hts⟩ B.notSynchronized B.returns (name_of_methodNamed B.named B.method).1 hK h1 h2 hl hP va_S.rf
section FR
variable {p : Program} {l : Launch} {e : Env} {Rm : Room} {s : State} {m : MethodId} {args : Array Value} {below : List Frame} {meth : Method} {c : Code} {H : Heap} {locs : List Loc} {cells slots : Nat} {Q : State → Prop}
variable {cc : ByteArray} {nl pc : Nat} {ls : Array Slot} {rest : List Value} {D : va_G} {A : Nat → Prop} {a : Nat} {fs : List Value} {v1 v2 : Value} {own : String}
theorem f_run {st0 : List Value} {a0 : Array Value} {post : List Value → Prop} (hr : va_Run p l e Rm s m args below meth c H locs cells slots 0 0 (F0 m pc ls st0) rest (fQ D a H.size post a0) (fA a H.size)) {H0 : Heap} (hS : va_S A H0 H locs) (hA : ∀ q, fA a H.size q → A q)
    (kk : ∀ (fs' : List Value) (H' : Heap) (locs' : List Loc), post fs' → va_P D fCl (fW a fs') H' → (∀ q, q < H.size → q ≠ a → H'[q]? = H[q]?) → va_S A H0 H' locs' → W p l e Rm s m args below meth c H' locs' cells slots Q (F0 m (pc + 3) ls rest)) : W p l e Rm s m args below meth c H locs cells slots Q (F0 m pc ls st0) := by
  intro T hT X
  obtain ⟨v, st₀, t, T', L, h0, X', hL, e1, e2, ⟨⟨fs', hv, hp, hb⟩, hz, hk⟩, st⟩ := hr T hT X
  cases hv
  rw [h0] at hz hk
  obtain ⟨t2, a1, b1⟩ := kk fs' T'.heap (locs ++ L) hp (by rw [e1]; exact hb) (fun q h1 h2 => by
      rw [e1]
      refine hk q h1 ?_
      rintro (h | h)
      · exact h2 h
      · omega)
    ⟨Nat.le_trans hS.1 (by rw [e1]; exact hz), fun q h1 h2 => by rw [e1, hk q (Nat.lt_of_lt_of_le h1 hS.1) (fun z => h2 (hA q z))]; exact hS.2.1 q h1 h2, fun q hq => by
      rcases List.mem_append.mp hq with h | h
      · exact hS.2.2 q h
      · exact hA _ (hL q h)⟩ T' rfl X'
  exact ⟨t2, st t2 a1, b1⟩
theorem f_I (hC : CallFix p m c cc nl s args lw_all own) (hl : ls.size = nl) (hK : va_K D fCl [] s) (h1 : zU v1 A s s.heap) (h2 : zS v2 A s s.heap) (hP : va_P D fCl (fW a fs) H) (hS : va_S A s.heap H locs) (hA : ∀ q, fA a H.size q → A q) {y : MethodName} {bytes : ByteArray} {maxL index n : Nat} {rm : Room} {as : List Value} {post : List Value → Prop} (hM : fM l y (ws_ y bytes maxL none) rm (.ref a :: as) a fs v1 v2 post)
    (w1 : Cond.methodLink own index y ∈ lw_all) (w2 : Cond.instanceMethod y ∈ lw_all) (w3 : Cond.initialized y.cls ∈ lw_all) (w4 : Cond.code y bytes maxL none ∈ lw_all) (hi : y.name = "<init>") (hd : y.cls ≠ "java/lang/invoke/MethodHandle" ∧ y.cls ≠ "java/lang/invoke/VarHandle" ∧ (parseMethodDescriptor y.desc).map (fun d => d.parameters.length) = some n) (hR : rm.frames + 1 ≤ Rm.frames ∧ 8 + (maxL + 11) + rm.locals ≤ Rm.locals)
    (hn : as.length = n) {st0 : List Value} (hst : st0 = as.reverse ++ .ref a :: rest) (hW : (rest.map fun v => v.category).sum ≤ 8) (hdg : decode cc pc = .ok (.invokespecial index, 3)) (hcs : rm.cells = 0 ∧ rm.slots = 0) (hf : cells ≤ Rm.cells ∧ slots ≤ Rm.slots)
    (kk : ∀ (fs' : List Value) (H' : Heap) (locs' : List Loc), post fs' → va_P D fCl (fW a fs') H' → (∀ q, q < H.size → q ≠ a → H'[q]? = H[q]?) → va_S A s.heap H' locs' → W p l e Rm s m args below meth c H' locs' cells slots Q (F0 m (pc + 3) ls rest)) : W p l e Rm s m args below meth c H locs cells slots Q (F0 m pc ls st0) :=
  f_run (va_runI (As := as) (rest := rest) hC (hM D H.size) (⟨callB_of n hC.2.2.2.2 (lw_meth w4) rfl hcs.1 hcs.2 (hC.2.2.2.2 _ w3) (hC.2.2.2.2 _ w1) hd hR, hi, hC.2.2.2.2 _ w2⟩) ⟨fun a U g mk q => ⟨q.1, q.2.moved (V := U.calling g mk a) rfl rfl⟩, fun U hU hWm => ⟨rfl, by rw [hU], hK.moved hWm.alike, by rw [hU]; exact (va_Z.moved hWm.alike (h1.kept hS.2.1)).narrow hA, by rw [hU]; exact (va_Z.moved hWm.alike (h2.kept hS.2.1)).narrow hA, by rw [hU]; exact hP⟩⟩ rfl hn hl hst (lv_room hW) hdg hf) hS hA kk
end FR
theorem v_narO {v : Value} {C : String} (h : v.isRef = true) : narrow (.object C) v = v ∧ fits (.object C) v = true := by
  cases v <;> first | exact ⟨rfl, rfl⟩ | cases h
theorem v_narA {v : Value} {C : FieldType} (h : v.isRef = true) : narrow (.array C) v = v ∧ fits (.array C) v = true := by
  cases v <;> first | exact ⟨rfl, rfl⟩ | cases h
set_option maxHeartbeats 800000 in
theorem tJ0_init_3 (l : Launch) (a : Nat) (v1 v2 x0 x1 x2 x3 x4 x5 x6 x7 : Value) (r1 : v1.isRef = true) (r2 : v2.isRef = true) : fM l yJ0_init_3 (ws_ yJ0_init_3 cJ0_init_3 5 none) ({ frames := 1, cells := 0, slots := 0, locals := 40 } : Room) [.ref a, .null, .null, .int (nI 0), .int (nI 0)] a [x0, x1, x2, x3, x4, x5, x6, x7] v1 v2 (fun fs => fs = [.null, .null, .null, .null, x4, x5, x6, x7]) := by
  refine fM.of (by decide) (Nat.le_of_ble_eq_true rfl) ?_
  intro D p e s m args below meth cd ls hC hlk hr hin hK hz1 hz2 hl hP hS
  have hl : lv_has ls 5 [(0, .ref a), (1, .null), (2, .null), (3, .int (nI 0)), (4, .int (nI 0))] := hl
  have hD : ∀ fs, va_D (fA a s.heap.size) (fW a fs) := fun fs => f_D (Or.inl rfl)
  refine lv_aload_n hC.1 hC.2.1 dJ0_init_3_0 rfl (lv_at hl 0 rfl) ?_
  refine W.objInit hC.1 hC.2.1 hC.2.2.2.1 (hC.2.2.2.2 _ q256) (hC.2.2.2.2 _ q97) (hC.2.2.2.2 _ q98) rfl (hl.1.trans hC.2.2.1.symm) rfl dJ0_init_3_1 (Nat.le_of_ble_eq_true rfl) (Nat.le_of_ble_eq_true rfl) ?_
  refine lv_aload_n hC.1 hC.2.1 dJ0_init_3_4 rfl (lv_at hl 0 rfl) ?_
  refine lv_aload_n hC.1 hC.2.1 dJ0_init_3_5 rfl (lv_at hl 0 rfl) ?_
  refine va_put (ref := RJ0) hC.1 hC.2.1 hC.2.2.2.2 in_X8 tyX8 tyX8_ok nmX8 hC.2.2.2.1 hK hP (hD _) hS 0 rfl rfl 0 (by decide) (hC.2.2.2.2 _ q291) (fun x h => h) rfl (tyX8_ok 0 (by decide)) rfl rfl (by simp) dJ0_init_3_6 (fun H locs hP _ hS => ?_)
  refine lv_aload_n hC.1 hC.2.1 dJ0_init_3_9 rfl (lv_at hl 0 rfl) ?_
  refine va_gets (ref := RJ0) hC.1 hC.2.1 hz1 hS hC.2.2.2.1 (hC.2.2.2.2 _ q257) (fun x h => h) dJ0_init_3_10 ?_
  refine va_put (ref := RJ0) hC.1 hC.2.1 hC.2.2.2.2 in_X8 tyX8 tyX8_ok nmX8 hC.2.2.2.1 hK hP (hD _) hS 0 rfl rfl 1 (by decide) (hC.2.2.2.2 _ q292) (fun x h => h) rfl (tyX8_ok 1 (by decide)) (v_narA r1).1 (v_narA r1).2 (by simp) dJ0_init_3_13 (fun H locs hP _ hS => ?_)
  refine lv_aload_n hC.1 hC.2.1 dJ0_init_3_16 rfl (lv_at hl 0 rfl) ?_
  refine va_gets (ref := RJ0) hC.1 hC.2.1 hz2 hS hC.2.2.2.1 (hC.2.2.2.2 _ q259) (fun x h => h) dJ0_init_3_17 ?_
  refine va_put (ref := RJ0) hC.1 hC.2.1 hC.2.2.2.2 in_X8 tyX8 tyX8_ok nmX8 hC.2.2.2.1 hK hP (hD _) hS 0 rfl rfl 2 (by decide) (hC.2.2.2.2 _ q293) (fun x h => h) rfl (tyX8_ok 2 (by decide)) (v_narO r2).1 (v_narO r2).2 (by simp) dJ0_init_3_20 (fun H locs hP _ hS => ?_)
  refine lv_iload hC.1 hC.2.1 dJ0_init_3_23 (lv_at hl 4 rfl) ?_
  refine k_zeq (tgt := 36) hC (by decide) dJ0_init_3_25 rfl (fun _ => ?_) (fun h => absurd h (by decide))
  refine lv_aload_n hC.1 hC.2.1 dJ0_init_3_36 rfl (lv_at hl 0 rfl) ?_
  refine lv_null hC.1 hC.2.1 dJ0_init_3_37 ?_
  refine va_put (ref := RJ0) hC.1 hC.2.1 hC.2.2.2.2 in_X8 tyX8 tyX8_ok nmX8 hC.2.2.2.1 hK hP (hD _) hS 0 rfl rfl 1 (by decide) (hC.2.2.2.2 _ q292) (fun x h => h) rfl (tyX8_ok 1 (by decide)) rfl rfl (by simp) dJ0_init_3_38 (fun H locs hP _ hS => ?_)
  refine lv_aload_n hC.1 hC.2.1 dJ0_init_3_41 rfl (lv_at hl 0 rfl) ?_
  refine lv_aload_nN hC.1 hC.2.1 dJ0_init_3_42 rfl (lv_at hl 1 rfl) ?_
  refine va_put (ref := RJ0) hC.1 hC.2.1 hC.2.2.2.2 in_X8 tyX8 tyX8_ok nmX8 hC.2.2.2.1 hK hP (hD _) hS 0 rfl rfl 3 (by decide) (hC.2.2.2.2 _ q290) (fun x h => h) rfl (tyX8_ok 3 (by decide)) rfl rfl (by simp) dJ0_init_3_43 (fun H locs hP _ hS => ?_)
  refine lv_aload_n hC.1 hC.2.1 dJ0_init_3_46 rfl (lv_at hl 0 rfl) ?_
  refine lv_aload_nN hC.1 hC.2.1 dJ0_init_3_47 rfl (lv_at hl 2 rfl) ?_
  refine va_put (ref := RJ0) hC.1 hC.2.1 hC.2.2.2.2 in_X8 tyX8 tyX8_ok nmX8 hC.2.2.2.1 hK hP (hD _) hS 0 rfl rfl 0 (by decide) (hC.2.2.2.2 _ q291) (fun x h => h) rfl (tyX8_ok 0 (by decide)) rfl rfl (by simp) dJ0_init_3_48 (fun H locs hP _ hS => ?_)
  refine lv_iload_n hC.1 hC.2.1 dJ0_init_3_51 rfl (lv_at hl 3 rfl) ?_
  refine k_zne (tgt := 60) hC (by decide) dJ0_init_3_52 rfl (fun h => absurd rfl h) (fun _ => ?_)
  refine lv_aload_n hC.1 hC.2.1 dJ0_init_3_55 rfl (lv_at hl 0 rfl) ?_
  refine lv_null hC.1 hC.2.1 dJ0_init_3_56 ?_
  refine va_put (ref := RJ0) hC.1 hC.2.1 hC.2.2.2.2 in_X8 tyX8 tyX8_ok nmX8 hC.2.2.2.1 hK hP (hD _) hS 0 rfl rfl 2 (by decide) (hC.2.2.2.2 _ q293) (fun x h => h) rfl (tyX8_ok 2 (by decide)) rfl rfl (by simp) dJ0_init_3_57 (fun H locs hP _ hS => ?_)
  exact W.vret hC.1 hC.2.1 hr (fun t ht hW => ⟨⟨_, rfl, rfl, by rw [ht]; exact hP⟩, hS.F ht⟩) hS.2.2 dJ0_init_3_60 hlk
set_option maxHeartbeats 800000 in
theorem tJ1_init_3 (l : Launch) (a : Nat) (v1 v2 x0 x1 x2 x3 x4 x5 x6 x7 : Value) (r1 : v1.isRef = true) (r2 : v2.isRef = true) : fM l yJ1_init_3 (ws_ yJ1_init_3 cJ1_init_3 5 none) ({ frames := 2, cells := 0, slots := 0, locals := 64 } : Room) [.ref a, .null, .null, .int (nI 0), .int (nI 0)] a [x0, x1, x2, x3, x4, x5, x6, x7] v1 v2 (fun fs => fs = [.null, .null, .null, .null, x4, x5, x6, x7]) := by
  refine fM.of (by decide) (Nat.le_of_ble_eq_true rfl) ?_
  intro D p e s m args below meth cd ls hC hlk hr hin hK hz1 hz2 hl hP hS
  have hl : lv_has ls 5 [(0, .ref a), (1, .null), (2, .null), (3, .int (nI 0)), (4, .int (nI 0))] := hl
  refine lv_aload_n hC.1 hC.2.1 dJ1_init_3_0 rfl (lv_at hl 0 rfl) ?_
  refine lv_aload_nN hC.1 hC.2.1 dJ1_init_3_1 rfl (lv_at hl 1 rfl) ?_
  refine lv_aload_nN hC.1 hC.2.1 dJ1_init_3_2 rfl (lv_at hl 2 rfl) ?_
  refine lv_iload_n hC.1 hC.2.1 dJ1_init_3_3 rfl (lv_at hl 3 rfl) ?_
  refine lv_iload hC.1 hC.2.1 dJ1_init_3_4 (lv_at hl 4 rfl) ?_
  refine f_I (n := 4) hC hl.1 hK hz1 hz2 hP hS (fun q h => h) (tJ0_init_3 l a v1 v2 x0 x1 x2 x3 x4 x5 x6 x7 r1 r2) q527 q528 q67 q529 rfl (by decide +kernel) ⟨by decide, by decide⟩ rfl rfl (Nat.le_of_ble_eq_true rfl) dJ1_init_3_6 ⟨rfl, rfl⟩ ⟨Nat.zero_le _, Nat.zero_le _⟩ ?_
  rintro fs H locs rfl hP _ hS
  exact W.vret hC.1 hC.2.1 hr (fun t ht hW => ⟨⟨_, rfl, rfl, by rw [ht]; exact hP⟩, hS.F ht⟩) hS.2.2 dJ1_init_3_9 hlk
set_option maxHeartbeats 800000 in
theorem tX8_init (l : Launch) (a : Nat) (v1 v2 x0 x1 x2 x3 x4 x5 x6 x7 : Value) (k z : Int32) (r1 : v1.isRef = true) (r2 : v2.isRef = true) : fM l yX8_init (ws_ yX8_init cX8_init 3 none) ({ frames := 3, cells := 0, slots := 0, locals := 88 } : Room) [.ref a, .int k, .int z] a [x0, x1, x2, x3, x4, x5, x6, x7] v1 v2 (fun fs => fs = [.null, .null, .null, .null, x4, x5, .int k, .int z]) := by
  refine fM.of (by decide) (Nat.le_of_ble_eq_true rfl) ?_
  intro D p e s m args below meth cd ls hC hlk hr hin hK hz1 hz2 hl hP hS
  have hl : lv_has ls 3 [(0, .ref a), (1, .int k), (2, .int z)] := hl
  have hD : ∀ fs, va_D (fA a s.heap.size) (fW a fs) := fun fs => f_D (Or.inl rfl)
  refine lv_aload_n hC.1 hC.2.1 dX8_init_0 rfl (lv_at hl 0 rfl) ?_
  refine lv_null hC.1 hC.2.1 dX8_init_1 ?_
  refine lv_null hC.1 hC.2.1 dX8_init_2 ?_
  refine lv_iconst hC.1 hC.2.1 dX8_init_3 rfl ?_
  refine lv_iconst hC.1 hC.2.1 dX8_init_4 rfl ?_
  refine f_I (n := 4) hC hl.1 hK hz1 hz2 hP hS (fun q h => h) (tJ1_init_3 l a v1 v2 x0 x1 x2 x3 x4 x5 x6 x7 r1 r2) q524 q525 q68 q526 rfl (by decide +kernel) ⟨by decide, by decide⟩ rfl rfl (Nat.le_of_ble_eq_true rfl) dX8_init_5 ⟨rfl, rfl⟩ ⟨Nat.zero_le _, Nat.zero_le _⟩ ?_
  rintro fs H locs rfl hP _ hS
  refine lv_aload_n hC.1 hC.2.1 dX8_init_8 rfl (lv_at hl 0 rfl) ?_
  refine lv_iload_n hC.1 hC.2.1 dX8_init_9 rfl (lv_at hl 1 rfl) ?_
  refine va_putF (ref := RX8) hC.1 hC.2.1 hC.2.2.2.2 in_X8 tyX8 tyX8_ok nmX8 hC.2.2.2.1 hK hP (hD _) hS 0 rfl rfl 6 (by decide) (hC.2.2.2.2 _ q530) (fun x h => h) rfl hin rfl (tyX8_ok 6 (by decide)) rfl rfl (by simp) dX8_init_10 (fun H locs hP _ hS => ?_)
  refine lv_aload_n hC.1 hC.2.1 dX8_init_13 rfl (lv_at hl 0 rfl) ?_
  refine lv_iload_n hC.1 hC.2.1 dX8_init_14 rfl (lv_at hl 2 rfl) ?_
  refine va_putF (ref := RX8) hC.1 hC.2.1 hC.2.2.2.2 in_X8 tyX8 tyX8_ok nmX8 hC.2.2.2.1 hK hP (hD _) hS 0 rfl rfl 7 (by decide) (hC.2.2.2.2 _ q532) (fun x h => h) rfl hin rfl (tyX8_ok 7 (by decide)) rfl rfl (by simp) dX8_init_15 (fun H locs hP _ hS => ?_)
  exact W.vret hC.1 hC.2.1 hr (fun t ht hW => ⟨⟨_, rfl, rfl, by rw [ht]; exact hP⟩, hS.F ht⟩) hS.2.2 dX8_init_18 hlk
