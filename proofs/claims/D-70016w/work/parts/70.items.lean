/-! ===== items, stands, hidden (by gen/w70.py) ===== -/
/-- a method that only reads -/
def gMR (l : Launch) (y : MethodName) (ws : List Cond) (rm : Room) (as : List Value) (N : Nat) (ad : Nat → Nat) (K : gK) (I : mG) (R : gR) (r : Int32) : Prop :=
  ∀ (D : va_G) (dA : Nat → ClassId) (sz : Nat), Met l y ws rm (va_Pc as (gPZ D dA N ad K I R sz)) (QcRead r) 0 0 (fun _ => False)
theorem gMR.of {l : Launch} {y : MethodName} {cc : ByteArray} {nl : Nat} {ret : Option FieldType} {rm : Room} {as : List Value} {N : Nat} {ad : Nat → Nat} {K : gK} {I : mG} {R : gR} {r : Int32} (hy : plainName y.cls = true) (hn : (lg_sl as).length ≤ nl)
    (body : ∀ (D : va_G) (dA : Nat → ClassId) (p : Program) (e : Env) (s : State) (m : MethodId) (args : Array Value) (below : List Frame) (meth : Method) (c : Code) (ls : Array Slot), CallFix p m c cc nl s args lw_all y.cls → meth.locks = false → meth.sig.returnType = ret → va_K D cCl (cTy dA) s → gX s → gZ s → (∀ (q : Nat) (cell : Cell), s.heap[q]? = some cell → cell.vm.isStatics = true → ¬ nA (List.range N) ad s.heap.size q) → lv_has ls nl (lv_args 0 as) → gw D dA (nA (List.range N) ad s.heap.size) s.heap (List.range N) ad K I R s.heap [] →
      W p l e rm s m args below meth c s.heap [] 0 0 (MQ below (QcRead r) args s 0 0 (fun _ => False)) (F0 m 0 ls [])) : gMR l y (ws_ y cc nl ret) rm as N ad K I R r := by
  intro D dA sz
  refine Met.ofW (cc := cc) (maxL := nl) (ret := ret) hy rfl ?_
  intro p e s m args below meth c s₁ B hml hv
  obtain ⟨rfl, ⟨hsz, hK, hX, hP, hD, hc⟩, hZ⟩ := hv
  subst hsz
  have hts := atoms_spec (ws := ws_ y cc nl ret) B.pre
  have hts : ∀ w ∈ lw_all, w.before as.toArray s = true := fun w h => hts w (List.mem_cons_of_mem _ h)
  have hown : s.vm.findClass y.cls = some m.cls := findClass_of_methodNamed B.named
  have hl := lv_entry as (n := nl) hn
  rw [lg_entry_eq]
  exact body D dA p e s m _ below meth c _ ⟨B.exec, B.bytes, hml, hown, hts⟩ B.notSynchronized B.returns hK hX hZ (gw.noStat hP) hl ⟨nw.start hP hD, hc⟩
section RR
variable {p : Program} {l : Launch} {e : Env} {Rm : Room} {s : State} {m : MethodId} {args : Array Value} {below : List Frame} {meth : Method} {c : Code} {H : Heap} {locs : List Loc} {cells slots : Nat} {Q : State → Prop}
variable {cc : ByteArray} {nl pc : Nat} {ls : Array Slot} {rest : List Value} {own : String} {D : va_G} {dA : Nat → ClassId} {A : Nat → Prop} {H0 : Heap} {N : Nat} {ad : Nat → Nat} {K : gK} {I : mG} {R : gR}
theorem R_run {st0 : List Value} {a : Array Value} {r : Int32} (hr : va_Run p l e Rm s m args below meth c H locs cells slots 0 0 (F0 m pc ls st0) rest (QcRead r a) (fun _ => False)) (kk : W p l e Rm s m args below meth c H locs cells slots Q (F0 m (pc + 3) ls (.int r :: rest))) : W p l e Rm s m args below meth c H locs cells slots Q (F0 m pc ls st0) := by
  intro T hT X
  obtain ⟨v, st₀, t, T', L, h0, X', hL, e1, e2, ⟨hv, hh⟩, st⟩ := hr T hT X
  cases hv
  obtain ⟨t2, a1, b1⟩ := kk T' (by rw [e1, hh, h0]) (Stand.forget X' (fun q h => (hL q h).elim))
  exact ⟨t2, st t2 a1, b1⟩
theorem R_VN (hC : CallFix p m c cc nl s args lw_all own) (hl : ls.size = nl) (hK : va_K D cCl (cTy dA) s) (hX : gX s) (hZ : gZ s) (hst : ∀ (q : Nat) (cell : Cell), s.heap[q]? = some cell → cell.vm.isStatics = true → ¬ A q) (hw : gw D dA A s.heap (List.range N) ad K I R H locs) {host : String} {C : String} {T : u_T} {n0 ci : Nat} (hn0 : n0 < N) (hk0 : (K n0).1 = ci) (hc20 : ci < 20) (hc : cCl[ci]? = some (C, T, gN ci)) {y : MethodName} {bytes : ByteArray} {maxL index n : Nat} {ret : Option FieldType} {rm : Room} {as : List Value} {r : Int32} (hM : gMR l y (ws_ y bytes maxL ret) rm (.ref (ad n0) :: as) N ad K I R r)
    (h1 : Cond.methodLinkNest own index y host ∈ lw_tbl) (h2 : Cond.instanceMethod y ∈ lw_all) (h2b : Cond.selects C y y ∈ lw_all) (h3 : Cond.initialized y.cls ∈ lw_all) (h4 : Cond.code y bytes maxL ret ∈ lw_all) (hd : y.cls ≠ "java/lang/invoke/MethodHandle" ∧ y.cls ≠ "java/lang/invoke/VarHandle" ∧ (parseMethodDescriptor y.desc).map (fun d => d.parameters.length) = some n) (hrc : rm.cells = 0) (hrs : rm.slots = 0) (hR : rm.frames + 1 ≤ Rm.frames ∧ 8 + (maxL + 11) + rm.locals ≤ Rm.locals)
    (hn : as.length = n) {st0 : List Value} (hst0 : st0 = as.reverse ++ .ref (ad n0) :: rest) (hW : (rest.map fun v => v.category).sum ≤ 8) (hdg : decode cc pc = .ok (.invokevirtual index, 3)) (hf : cells ≤ Rm.cells ∧ slots ≤ Rm.slots)
    (kk : W p l e Rm s m args below meth c H locs cells slots Q (F0 m (pc + 3) ls (.int r :: rest))) : W p l e Rm s m args below meth c H locs cells slots Q (F0 m pc ls st0) :=
  R_run (va_runVN (As := as) (rest := rest) hC (hM D dA H.size) (⟨va_cnB n hC.2.2.2.2 (lw_meth h4) rfl hrc hrs (hX _ h1 rfl) (hC.2.2.2.2 _ h3) hd hR, hC.2.2.2.2 _ h2, hC.2.2.2.2 _ h2b⟩) ⟨fun a U g mk q => ⟨q.1, q.2.moved (V := U.calling g mk a) rfl rfl⟩, g_recv hK hw (List.mem_range.mpr hn0) hk0 hc20 hc, fun U hU hWm => ⟨rfl, ⟨by rw [hU], hK.moved hWm.alike, hX.warm hWm, by rw [hU]; exact hw.1.1, hw.1.2.1.weaken (fun _ _ _ _ => trivial), hw.2⟩, hZ.keep hWm (fun q cell hq hs => by rw [hU, hw.1.2.2.1.2.1 q (Array.getElem?_eq_some_iff.mp hq).1 (hst q cell hq hs)]; exact hq)⟩⟩ rfl hn hl hst0 (lv_room hW) hdg hf) kk
end RR
/-- what 'new X(); throw' leans on -/
def own0Ok (own : String) (ic : Nat) (cls : String) (names : List String) : Prop := Bundle.fit cls = true ∧ (∀ n ∈ names, Bundle.fit n = true) ∧ (∃ ps : List Nat, Bundle.ownAtoms0 own ic cls names = ps.filterMap (fun i => lwz[i]?)) ∧ (Bundle.ownAtoms0 own ic cls names).all (fun w => armW w || decide (w = uStk) || decide (w = uSen)) = true ∧ names.length ≤ 3
theorem own_idx : own0Ok "WindCarver" 132 "java/lang/ArrayIndexOutOfBoundsException" ["java/lang/IndexOutOfBoundsException", "java/lang/RuntimeException", "java/lang/Exception"] := ⟨by decide +kernel, by decide +kernel, ⟨(Bundle.ownAtoms0 "WindCarver" 132 "java/lang/ArrayIndexOutOfBoundsException" ["java/lang/IndexOutOfBoundsException", "java/lang/RuntimeException", "java/lang/Exception"]).map (fun a => lwz.findIdx (fun b => decide (b = a))), by decide +kernel⟩, by decide +kernel, by decide⟩
section OT
variable {p : Program} {l : Launch} {e : Env} {Rm : Room} {s : State} {m : MethodId} {args : Array Value} {below : List Frame} {meth : Method} {c : Code} {rc rs : Nat}
variable {cc : ByteArray} {nl pc : Nat} {ls : Array Slot} {rest : List Value} {own : String} {D : va_G} {dA : Nat → ClassId} {N : Nat} {ad : Nat → Nat} {K : gK} {I : mG} {R : gR}
theorem T_own0 {cls : String} {names : List String} {inew ic : Nat} (ok : own0Ok own ic cls names) (hl0 : l.stackTraces = false) (hC : CallFix p m c cc nl s args lw_all own) (hlk : meth.locks = false) (htb : c.exceptionTable.toList = []) (hX : gX s) (hZ : gZ s) (hl : ls.size = nl) (hw : gw D dA (nA (List.range N) ad s.heap.size) s.heap (List.range N) ad K I R s.heap []) {post : Addr → gS → Prop} (hq : ∀ x, post x (N, ad, K, I, R)) (hr : 6 < Rm.frames ∧ (rest.map fun v => v.category).sum + 100 ≤ Rm.locals ∧ 1 ≤ Rm.cells ∧ 6 ≤ Rm.slots) (hk : 1 ≤ rc ∧ 6 ≤ rs)
    (hcl : Cond.classLink own inew cls ∈ lw_all) (hins : Cond.instantiable cls 6 ∈ lw_all) (hini : Cond.initialized cls ∈ lw_all) (d0 : decode cc pc = .ok (.new inew, 3)) (d3 : decode cc (pc + 3) = .ok (.dup, 1)) (d4 : decode cc (pc + 3 + 1) = .ok (.invokespecial ic, 3)) (d7 : decode cc (pc + 3 + 1 + 3) = .ok (.athrow, 1)) :
    W p l e Rm s m args below meth c s.heap [] 0 0 (MQT below (gQT D dA N ad K s.heap.size cls post) args s rc rs (nA (List.range N) ad s.heap.size)) (F0 m pc ls rest) := by
  refine W.newc hC.1 hC.2.1 hC.2.2.2.1 (hC.2.2.2.2 _ hcl) (hC.2.2.2.2 _ hins) (hC.2.2.2.2 _ hini) (g := F0 m pc ls rest) rfl d0 (by omega) (by omega) fun cC kC h1 h2 h3 h4 => ?_
  refine lv_dup (pc := pc + 3) hC.1 hC.2.1 d3 rfl ?_
  intro T hT X
  have htr : e.platform.stackTraces = false := by rw [Example.NoTraceControls.admits_follows X.admits]; exact hl0
  obtain ⟨k1, k2, ⟨ps, k5⟩, k6, k7⟩ := ok
  obtain ⟨U, a1, a2, a3, a4, a5, ce, a6, a7⟩ := X.ctorThrow0 hC.1 htr (own := own) (cls := cls) (names := names) (ic := ic) hC.2.2.2.1 k1 k2 (arm_ok hC.2.2.2.2 hX hZ ps k5 k6) (fun x hx => by cases hx) (a := s.heap.size) h1 h2 (by rw [hT, Array.getElem?_push_size]) (Nat.le_refl _) (g := F0 m (pc + 3 + 1) ls (.ref s.heap.size :: .ref s.heap.size :: rest)) rfl (hl.trans hC.2.2.1.symm) rfl rfl rfl (by rw [hC.2.1]; exact d4) (by rw [hC.2.1]; exact d7) (by rw [htb]; intro y hy; cases hy) (by omega) (by show 2 * 0 + (1 + (rest.map fun v => v.category).sum) + _ ≤ _; omega) hlk
  exact ⟨U, a1, T_end hw (hq _) a2 a3 a4 a5 (by omega) a6 a7.cls a7.vm⟩
end OT

set_option maxHeartbeats 800000 in
theorem tX1_many_q0 (l : Launch) (N : Nat) (ad : Nat → Nat) (K : gK) (I : mG) (R : gR) (u : Nat) (a : Nat) (n : Nat) (hu : u < N) (hk0 : (K u).1 = 1) (hR : R u 0 = some a) (ha : a < N) (hka : K a = (20 + 0, n)) (hn : n ≤ 40) : gMR l yX1_many (ws_ yX1_many cX1_many 1 (some FieldType.int)) ({ frames := 0, cells := 0, slots := 0, locals := 0 } : Room) [.ref (ad u)] N ad K I R (nI n) := by
  refine gMR.of (by decide) (Nat.le_of_ble_eq_true rfl) ?_
  intro D dA p e s m args below meth cd ls hC hlk hr hK hX hZ hst hl hw
  have hl : lv_has ls 1 [(0, .ref (ad u))] := hl
  have nc0_B := nc_ok (s := s) 254 (A := "[I") (B := "[B") (by decide +kernel) hZ
  have nc0_S := nc_ok (s := s) 281 (A := "[I") (B := "[S") (by decide +kernel) hZ
  refine lv_aload_n hC.1 hC.2.1 dX1_many_0 rfl (lv_at hl 0 rfl) ?_
  refine g_get (C := RX1) (T := TX1) (ref := RX1) hC hK hw (List.mem_range.mpr (by omega)) hk0 (by decide) rfl in_X1 0 (by decide) q109 (fun x h => h) (v := .ref (ad a)) (by show va_rf _ = _; rw [hR]; rfl) dX1_many_1 ?_
  refine g_isN (t := 0) hC hK hw (List.mem_range.mpr (by omega)) hka (by decide) q403 nc0_B dX1_many_4 ?_
  refine k_zeq (tgt := 19) hC (by decide) dX1_many_7 (by decide) (fun c7 => ?_) (fun h => absurd h (by decide))
  refine lv_aload_n hC.1 hC.2.1 dX1_many_19 rfl (lv_at hl 0 rfl) ?_
  refine g_get (C := RX1) (T := TX1) (ref := RX1) hC hK hw (List.mem_range.mpr (by omega)) hk0 (by decide) rfl in_X1 0 (by decide) q109 (fun x h => h) (v := .ref (ad a)) (by show va_rf _ = _; rw [hR]; rfl) dX1_many_20 ?_
  refine g_isN (t := 0) hC hK hw (List.mem_range.mpr (by omega)) hka (by decide) q404 nc0_S dX1_many_23 ?_
  refine k_zeq (tgt := 38) hC (by decide) dX1_many_26 (by decide) (fun c26 => ?_) (fun h => absurd h (by decide))
  refine lv_aload_n hC.1 hC.2.1 dX1_many_38 rfl (lv_at hl 0 rfl) ?_
  refine g_get (C := RX1) (T := TX1) (ref := RX1) hC hK hw (List.mem_range.mpr (by omega)) hk0 (by decide) rfl in_X1 0 (by decide) q109 (fun x h => h) (v := .ref (ad a)) (by show va_rf _ = _; rw [hR]; rfl) dX1_many_39 ?_
  refine g_cast (t := 0) hC hK hw (List.mem_range.mpr (by omega)) hka (by decide) q405 dX1_many_42 ?_
  refine g_len (t := 0) hC hK hw (List.mem_range.mpr (by omega)) hka (by decide) dX1_many_45 ?_
  exact pS_ret hC hlk hr rfl rfl dX1_many_46

set_option maxHeartbeats 800000 in
theorem tX1_many_q1 (l : Launch) (N : Nat) (ad : Nat → Nat) (K : gK) (I : mG) (R : gR) (u : Nat) (a : Nat) (n : Nat) (hu : u < N) (hk0 : (K u).1 = 1) (hR : R u 0 = some a) (ha : a < N) (hka : K a = (20 + 1, n)) (hn : n ≤ 40) : gMR l yX1_many (ws_ yX1_many cX1_many 1 (some FieldType.int)) ({ frames := 0, cells := 0, slots := 0, locals := 0 } : Room) [.ref (ad u)] N ad K I R (nI n) := by
  refine gMR.of (by decide) (Nat.le_of_ble_eq_true rfl) ?_
  intro D dA p e s m args below meth cd ls hC hlk hr hK hX hZ hst hl hw
  have hl : lv_has ls 1 [(0, .ref (ad u))] := hl
  refine lv_aload_n hC.1 hC.2.1 dX1_many_0 rfl (lv_at hl 0 rfl) ?_
  refine g_get (C := RX1) (T := TX1) (ref := RX1) hC hK hw (List.mem_range.mpr (by omega)) hk0 (by decide) rfl in_X1 0 (by decide) q109 (fun x h => h) (v := .ref (ad a)) (by show va_rf _ = _; rw [hR]; rfl) dX1_many_1 ?_
  refine g_isY (t := 1) hC hK hw (List.mem_range.mpr (by omega)) hka (by decide) q403 dX1_many_4 ?_
  refine k_zeq (tgt := 19) hC (by decide) dX1_many_7 (by decide) (fun h => absurd h (by decide)) (fun c7 => ?_)
  refine lv_aload_n hC.1 hC.2.1 dX1_many_10 rfl (lv_at hl 0 rfl) ?_
  refine g_get (C := RX1) (T := TX1) (ref := RX1) hC hK hw (List.mem_range.mpr (by omega)) hk0 (by decide) rfl in_X1 0 (by decide) q109 (fun x h => h) (v := .ref (ad a)) (by show va_rf _ = _; rw [hR]; rfl) dX1_many_11 ?_
  refine g_cast (t := 1) hC hK hw (List.mem_range.mpr (by omega)) hka (by decide) q403 dX1_many_14 ?_
  refine g_len (t := 1) hC hK hw (List.mem_range.mpr (by omega)) hka (by decide) dX1_many_17 ?_
  exact pS_ret hC hlk hr rfl rfl dX1_many_18

set_option maxHeartbeats 800000 in
theorem tX1_many_q2 (l : Launch) (N : Nat) (ad : Nat → Nat) (K : gK) (I : mG) (R : gR) (u : Nat) (a : Nat) (n : Nat) (hu : u < N) (hk0 : (K u).1 = 1) (hR : R u 0 = some a) (ha : a < N) (hka : K a = (20 + 2, n)) (hn : n ≤ 40) : gMR l yX1_many (ws_ yX1_many cX1_many 1 (some FieldType.int)) ({ frames := 0, cells := 0, slots := 0, locals := 0 } : Room) [.ref (ad u)] N ad K I R (nI n) := by
  refine gMR.of (by decide) (Nat.le_of_ble_eq_true rfl) ?_
  intro D dA p e s m args below meth cd ls hC hlk hr hK hX hZ hst hl hw
  have hl : lv_has ls 1 [(0, .ref (ad u))] := hl
  have nc2_B := nc_ok (s := s) 256 (A := "[S") (B := "[B") (by decide +kernel) hZ
  refine lv_aload_n hC.1 hC.2.1 dX1_many_0 rfl (lv_at hl 0 rfl) ?_
  refine g_get (C := RX1) (T := TX1) (ref := RX1) hC hK hw (List.mem_range.mpr (by omega)) hk0 (by decide) rfl in_X1 0 (by decide) q109 (fun x h => h) (v := .ref (ad a)) (by show va_rf _ = _; rw [hR]; rfl) dX1_many_1 ?_
  refine g_isN (t := 2) hC hK hw (List.mem_range.mpr (by omega)) hka (by decide) q403 nc2_B dX1_many_4 ?_
  refine k_zeq (tgt := 19) hC (by decide) dX1_many_7 (by decide) (fun c7 => ?_) (fun h => absurd h (by decide))
  refine lv_aload_n hC.1 hC.2.1 dX1_many_19 rfl (lv_at hl 0 rfl) ?_
  refine g_get (C := RX1) (T := TX1) (ref := RX1) hC hK hw (List.mem_range.mpr (by omega)) hk0 (by decide) rfl in_X1 0 (by decide) q109 (fun x h => h) (v := .ref (ad a)) (by show va_rf _ = _; rw [hR]; rfl) dX1_many_20 ?_
  refine g_isY (t := 2) hC hK hw (List.mem_range.mpr (by omega)) hka (by decide) q404 dX1_many_23 ?_
  refine k_zeq (tgt := 38) hC (by decide) dX1_many_26 (by decide) (fun h => absurd h (by decide)) (fun c26 => ?_)
  refine lv_aload_n hC.1 hC.2.1 dX1_many_29 rfl (lv_at hl 0 rfl) ?_
  refine g_get (C := RX1) (T := TX1) (ref := RX1) hC hK hw (List.mem_range.mpr (by omega)) hk0 (by decide) rfl in_X1 0 (by decide) q109 (fun x h => h) (v := .ref (ad a)) (by show va_rf _ = _; rw [hR]; rfl) dX1_many_30 ?_
  refine g_cast (t := 2) hC hK hw (List.mem_range.mpr (by omega)) hka (by decide) q404 dX1_many_33 ?_
  refine g_len (t := 2) hC hK hw (List.mem_range.mpr (by omega)) hka (by decide) dX1_many_36 ?_
  exact pS_ret hC hlk hr rfl rfl dX1_many_37

def itI (I : mG) (N a i j : Nat) : mG := va_up I N (fun x => if x < j then I a (i + x) else nI 0)
theorem itI_0 (I : mG) (N a i : Nat) : va_up I N (fun _ => nI 0) = itI I N a i 0 := by
  unfold itI
  congr 1
theorem itI_s {I : mG} {N a i j : Nat} : g2 (itI I N a i j) N j (I a (i + j)) = itI I N a i (j + 1) := by
  funext n x
  rw [g2_ap]
  unfold itI
  by_cases h : n = N
  · subst h
    rw [va_up_self, va_up_self]
    by_cases hx : x = j
    · subst hx; rw [if_pos ⟨rfl, rfl⟩, if_pos (by omega)]
    · rw [if_neg (fun z => hx z.2)]
      by_cases h2 : x < j
      · rw [if_pos h2, if_pos (by omega)]
      · rw [if_neg h2, if_neg (by omega)]
  · rw [if_neg (fun z => h z.1), va_up_ne _ _ h, va_up_ne _ _ h]
theorem itI_o {I : mG} {N a i j : Nat} {n : Nat} (h : n ≠ N) : itI I N a i j n = I n := va_up_ne _ _ h
theorem itI_n {I : mG} {N a i j x : Nat} (h : x < j) : itI I N a i j N x = I a (i + x) := by
  unfold itI
  rw [va_up_self, if_pos h]
theorem it_le {i c n : Nat} (hn : n ≤ 40) (h : i + c ≤ n) : lg_cmp ((nI i).toInt64 + (nI c).toInt64) (nI n).toInt64 ≤ 0 := by
  rw [lg_cmp_le, nI_l (by omega), nI_l (by omega), nI_l (by omega), Int64.le_iff_toInt_le, Int64.toInt_add, lN_toInt (by omega), lN_toInt (by omega), lN_toInt (by omega), Int.bmod_eq_of_le (by omega) (by omega)]
  omega
theorem it_out {i : Int32} {c n : Nat} (hn : n ≤ 40) (hc : c ≤ 40) (hi : ¬ i < 0) (h : lg_cmp (i.toInt64 + (nI c).toInt64) (nI n).toInt64 ≤ 0) : inB i 0 (nI n - nI c) = true := by
  obtain ⟨j, hj, rfl⟩ := nI_of hi
  rw [lg_cmp_le, nI_l hj, nI_l (by omega), nI_l (by omega), Int64.le_iff_toInt_le, Int64.toInt_add, lN_toInt hj, lN_toInt (by omega), lN_toInt (by omega), Int.bmod_eq_of_le (by omega) (by omega)] at h
  rw [pk_sub (by omega)]
  exact inB_of (by omega) (by omega)
theorem inB_szn {i : Int32} {c n : Nat} (hn : n ≤ 40) (hc : c ≤ 40) (h : inB i 0 (nI n - nI c) = true) : ∃ j, j + c ≤ n ∧ i = nI j := by
  rcases Nat.lt_or_ge n c with hlt | hge
  · exfalso
    simp only [inB, Bool.and_eq_true, decide_eq_true_eq] at h
    have h2 := Int32.le_trans h.1 h.2
    rw [Int32.le_iff_toInt_le, Int32.toInt_sub, nI_toInt (by omega), nI_toInt (by omega), Int.bmod_eq_of_le (by omega) (by omega)] at h2
    have : (0 : Int32).toInt = 0 := rfl
    omega
  · rw [pk_sub hge] at h
    obtain ⟨j, hj, rfl⟩ := inB_nat (by omega) h
    exact ⟨j, by omega, rfl⟩

set_option maxHeartbeats 800000 in
theorem tX0_items_r0 (l : Launch) (N : Nat) (ad : Nat → Nat) (K : gK) (I : mG) (R : gR) (k : Nat) (i : Nat) (c : Nat) (G : mG) (b : Bool) (a : Nat) (n : Nat) (h0 : wcR N K I R G b) (hk : k < 8) (hR : R (2 + k) 0 = some a) (ha : a < N) (hka : K a = (20 + 0, n)) (hn : n ≤ 40) (hic : i + c ≤ n) : gMZ l yX0_items (ws_ yX0_items cX0_items 7 (some (FieldType.array FieldType.int))) ({ frames := 1, cells := 1, slots := 40, locals := 21 } : Room) [.ref (ad 0), .int (nI k), .int (nI i), .int (nI c)] N ad K I R (fun v S => ∃ ad' : Nat → Nat, v = some (.ref (ad' N)) ∧ S = (N + 1, ad', va_up K N (20, c), itI I N a i c, va_up R N (fun _ => none))) := by
  refine gMZ.of (by decide) (Nat.le_of_ble_eq_true rfl) ?_
  intro D dA p e s m args below meth cd ls hC hlk hr hK hX hZ hst hl hw
  have hl : lv_has ls 7 [(0, .ref (ad 0)), (1, .int (nI k)), (2, .int (nI i)), (3, .int (nI c))] := hl
  have hge := h0.ge
  have hks : (K (2 + k)).1 = 1 := (h0.1.2.2.2.2.2.2 k hk).2
  refine lv_aload_n hC.1 hC.2.1 dX0_items_0 rfl (lv_at hl 0 rfl) ?_
  refine x_ga hC hK hw (by omega) h0.k0 0 1 h0.r0 (by decide) rfl q202 rfl dX0_items_1 ?_
  refine lv_iload_n hC.1 hC.2.1 dX0_items_4 rfl (lv_at hl 1 rfl) ?_
  refine g_ldr (t := 0) (v := .ref (ad (2 + k))) hC hK hw (List.mem_range.mpr (by omega)) h0.1.2.2.2.2.1.1 rfl (by omega) (by omega) (by rw [(h0.1.2.2.2.2.2.2 k hk).1]; rfl) dX0_items_5 ?_
  refine R_VN (n := 0) (C := RX1) (T := TX1) hC hl.1 hK hX hZ hst hw (show 2 + k < N by omega) hks (by decide) rfl (tX1_many_q0 l N ad K I R (2 + k) a n (by omega) (hks) (hR) (ha) (hka) (hn)) q436 q438 qs6 q61 q439 (by decide +kernel) rfl rfl ⟨by decide, by decide⟩ rfl rfl (Nat.le_of_ble_eq_true rfl) dX0_items_6 ⟨Nat.zero_le _, Nat.zero_le _⟩ ?_
  refine lv_istore (lv' := [(4, .int (nI n)), (0, .ref (ad 0)), (1, .int (nI k)), (2, .int (nI i)), (3, .int (nI c))]) hC.1 hC.2.1 dX0_items_9 hl (by decide) rfl (fun ls hl => ?_)
  refine lv_iload_n hC.1 hC.2.1 dX0_items_11 rfl (lv_at hl 3 rfl) ?_
  refine lv_if_lt (tgt := 27) hC.1 hC.2.1 dX0_items_12 (by decide) (fun c12 => ?_) (fun c12 => ?_)
  · exact absurd c12 (nI_pos (by omega))
  · refine lv_iload_n hC.1 hC.2.1 dX0_items_15 rfl (lv_at hl 3 rfl) ?_
    refine lv_i2l hC.1 hC.2.1 dX0_items_16 rfl ?_
    refine lv_iload_n hC.1 hC.2.1 dX0_items_17 rfl (lv_at hl 4 rfl) ?_
    refine lv_i2l hC.1 hC.2.1 dX0_items_18 rfl ?_
    refine lv_ladd hC.1 hC.2.1 dX0_items_19 ?_
    refine lv_iload hC.1 hC.2.1 dX0_items_20 (lv_at hl 0 rfl) ?_
    refine lv_i2l hC.1 hC.2.1 dX0_items_22 rfl ?_
    refine W.lcmp hC.1 hC.2.1 dX0_items_23 ?_
    refine lv_if_le (tgt := 35) hC.1 hC.2.1 dX0_items_24 (by decide) (fun c24 => ?_) (fun c24 => ?_)
    · refine lv_iload_n hC.1 hC.2.1 dX0_items_35 rfl (lv_at hl 4 rfl) ?_
      refine M_newa (atype := .int) (ty := .int) (N' := c) hC hK hw rfl q165 0 (by decide) rfl (fun c h => h) rfl (by omega) (by simp only [componentBytes]; omega) (by simp only [gN]; omega) (by simp only [gN]; omega) dX0_items_36 (fun ad36_1 H h36_1 hw => ?_)
      have e36_1 : ad 0 = ad36_1 0 := (h36_1 0 (by omega)).symm
      rw [e36_1] at hl
      have g36_1 : gGo N ad K (N + 1, ad36_1, va_up K N (20, c), va_up I N (fun _ => nI 0), va_up R N (fun _ => none)) := gGo_new (I1 := I) (R1 := R) gGo.rf h36_1
      have kr0 : va_up R N (fun _ => none) 0 0 = some 1 := by rw [va_up_ne _ _ (by omega)]; exact h0.r0
      have kr1 : va_up R N (fun _ => none) 1 k = some (2 + k) := by rw [va_up_ne _ _ (by omega)]; exact (h0.1.2.2.2.2.2.2 k hk).1
      have kk0 : (va_up K N (20, c) 0).1 = 0 := by rw [va_up_ne _ _ (by omega)]; exact h0.k0
      have kk1 : va_up K N (20, c) 1 = (30, 8) := by rw [va_up_ne _ _ (by omega)]; exact h0.k1
      have kkN : va_up K N (20, c) N = (20, c) := va_up_self _ _ _
      refine lv_astore (lv' := [(5, .ref (ad36_1 N)), (4, .int (nI n)), (0, .ref (ad36_1 0)), (1, .int (nI k)), (2, .int (nI i)), (3, .int (nI c))]) hC.1 hC.2.1 dX0_items_38 hl (by decide) rfl (fun ls hl => ?_)
      refine lv_iconst (v := (nI 0)) hC.1 hC.2.1 dX0_items_40 (by decide) ?_
      refine lv_istore (lv' := [(6, .int (nI 0)), (5, .ref (ad36_1 N)), (4, .int (nI n)), (0, .ref (ad36_1 0)), (1, .int (nI k)), (2, .int (nI i)), (3, .int (nI c))]) hC.1 hC.2.1 dX0_items_41 hl (by decide) rfl (fun ls hl => ?_)
      refine W.loop (fun ls j H locs => lv_has ls 7 [(0, .ref (ad36_1 0)), (1, .int (nI k)), (2, .int (nI i)), (3, .int (nI c)), (4, .int (nI n)), (5, .ref (ad36_1 N)), (6, .int (nI j))] ∧ gw D dA (nA (List.range N) ad s.heap.size) s.heap (List.range (N + 1)) ad36_1 (va_up K N (20, c)) (itI I N a i j) (va_up R N (fun _ => none)) H locs ∧ (j ≤ c)) 43 (fun _ => []) (fun j => c - j) ?_ 0 ⟨hl.sub' [3, 4, 5, 6, 2, 1, 0] (by rfl), hw.eq (itI_0 I N a i) rfl, by omega⟩
      rintro ls j H locs ⟨hl, hw, hj⟩ ih43
      refine lv_iload hC.1 hC.2.1 dX0_items_43 (lv_at hl 6 rfl) ?_
      refine lv_iload_n hC.1 hC.2.1 dX0_items_45 rfl (lv_at hl 3 rfl) ?_
      refine k_ge (tgt := 73) hC (by omega) (by omega) dX0_items_46 (by decide) (fun c46 => ?_) (fun c46 => ?_)
      · have eN : c = j := by omega
        subst eN
        refine lv_aload hC.1 hC.2.1 dX0_items_73 (lv_at hl 5 rfl) ?_
        exact M_aret hC hlk hw g36_1.to ⟨by simp only [gN]; omega, by simp only [gN]; omega⟩ hr (Or.inr ⟨_, rfl⟩) (Or.inr ⟨_, rfl⟩) (⟨_, rfl, rfl⟩) dX0_items_75
      · refine lv_aload hC.1 hC.2.1 dX0_items_49 (lv_at hl 5 rfl) ?_
        refine lv_iload hC.1 hC.2.1 dX0_items_51 (lv_at hl 6 rfl) ?_
        refine lv_aload_n hC.1 hC.2.1 dX0_items_53 rfl (lv_at hl 0 rfl) ?_
        refine x_ga hC hK hw (by omega) kk0 0 1 kr0 (by decide) rfl q202 rfl dX0_items_54 ?_
        refine lv_iload_n hC.1 hC.2.1 dX0_items_57 rfl (lv_at hl 1 rfl) ?_
        refine g_ldr (t := 0) (v := .ref (ad36_1 (2 + k))) hC hK hw (List.mem_range.mpr (by omega)) kk1 rfl (by omega) (by omega) (by rw [kr1]; rfl) dX0_items_58 ?_
        refine lv_iload_n hC.1 hC.2.1 dX0_items_59 rfl (lv_at hl 2 rfl) ?_
        refine lv_iload hC.1 hC.2.1 dX0_items_60 (lv_at hl 6 rfl) ?_
        refine k_add hC dX0_items_62 ?_
        refine Z_VN (n := 1) (C := RX1) (T := TX1) hC hl.1 hK hX hZ hst hw (show 2 + k < N + 1 by omega) (show (va_up K N (20, c) (2 + k)).1 = 1 by rw [va_up_ne _ _ (by omega)]; exact hks) (by decide) rfl (tX1_at_r0 l (N + 1) ad36_1 (va_up K N (20, c)) (itI I N a i j) (va_up R N (fun _ => none)) (2 + k) a n (i + j) (by omega) (by rw [va_up_ne _ _ (by omega)]; exact hks) (by rw [va_up_ne _ _ (by omega)]; exact hR) (by omega) (by rw [va_up_ne _ _ (by omega)]; exact hka) (hn) (by omega)) q893 q408 qs5 q61 q409 (by decide +kernel) ⟨by decide, by decide⟩ rfl rfl (Nat.le_of_ble_eq_true rfl) dX0_items_63 ⟨by simp only [gN]; omega, by simp only [gN]; omega⟩ ?_
        rintro _ N2 ad2 K2 I2 R2 H locs ⟨rfl, e2⟩ hg hw
        cases e2
        rw [itI_o (show a ≠ N by omega)]
        refine g_sti hC hK hw (List.mem_range.mpr (by omega)) kkN (by omega) (by omega) dX0_items_66 (fun H locs hw => ?_)
        refine k_iinc (k := 6) (d := 1) (lv' := [(6, .int (nI (j + 1))), (0, .ref (ad36_1 0)), (1, .int (nI k)), (2, .int (nI i)), (3, .int (nI c)), (4, .int (nI n)), (5, .ref (ad36_1 N))]) hC dX0_items_67 hl rfl (by decide) (by decide) rfl (fun ls hl => ?_)
        refine lv_goto (tgt := 43) hC.1 hC.2.1 dX0_items_70 (by decide) ?_
        exact ih43 ls (j + 1) H locs ⟨hl.sub' [1, 2, 3, 4, 5, 6, 0] (by rfl), hw.eq itI_s rfl, by omega⟩ (by omega)
    · exact absurd (it_le hn hic) c24

set_option maxHeartbeats 800000 in
theorem tX0_items_o0 (l : Launch) (hl0 : l.stackTraces = false) (N : Nat) (ad : Nat → Nat) (K : gK) (I : mG) (R : gR) (k : Nat) (i : Int32) (c : Nat) (G : mG) (b : Bool) (a : Nat) (n : Nat) (h0 : wcR N K I R G b) (hk : k < 8) (hR : R (2 + k) 0 = some a) (ha : a < N) (hka : K a = (20 + 0, n)) (hn : n ≤ 40) (hc : c ≤ 40) (ho : ¬ inB i 0 (nI n - nI c) = true) : gMT l yX0_items (ws_ yX0_items cX0_items 7 (some (FieldType.array FieldType.int))) ({ frames := 8, cells := 1, slots := 6, locals := 10240 } : Room) [.ref (ad 0), .int (nI k), .int i, .int (nI c)] N ad K I R "java/lang/ArrayIndexOutOfBoundsException" (fun x S => S = (N, ad, K, I, R)) := by
  refine gMT.of (by decide) (Nat.le_of_ble_eq_true rfl) ?_
  intro D dA p e s m args below meth cd ls hC hlk htb hK hX hZ hst hl hw
  have hl : lv_has ls 7 [(0, .ref (ad 0)), (1, .int (nI k)), (2, .int i), (3, .int (nI c))] := hl
  have hge := h0.ge
  have hks : (K (2 + k)).1 = 1 := (h0.1.2.2.2.2.2.2 k hk).2
  refine lv_aload_n hC.1 hC.2.1 dX0_items_0 rfl (lv_at hl 0 rfl) ?_
  refine x_ga hC hK hw (by omega) h0.k0 0 1 h0.r0 (by decide) rfl q202 rfl dX0_items_1 ?_
  refine lv_iload_n hC.1 hC.2.1 dX0_items_4 rfl (lv_at hl 1 rfl) ?_
  refine g_ldr (t := 0) (v := .ref (ad (2 + k))) hC hK hw (List.mem_range.mpr (by omega)) h0.1.2.2.2.2.1.1 rfl (by omega) (by omega) (by rw [(h0.1.2.2.2.2.2.2 k hk).1]; rfl) dX0_items_5 ?_
  refine R_VN (n := 0) (C := RX1) (T := TX1) hC hl.1 hK hX hZ hst hw (show 2 + k < N by omega) hks (by decide) rfl (tX1_many_q0 l N ad K I R (2 + k) a n (by omega) (hks) (hR) (ha) (hka) (hn)) q436 q438 qs6 q61 q439 (by decide +kernel) rfl rfl ⟨by decide, by decide⟩ rfl rfl (Nat.le_of_ble_eq_true rfl) dX0_items_6 ⟨Nat.zero_le _, Nat.zero_le _⟩ ?_
  refine lv_istore (lv' := [(4, .int (nI n)), (0, .ref (ad 0)), (1, .int (nI k)), (2, .int i), (3, .int (nI c))]) hC.1 hC.2.1 dX0_items_9 hl (by decide) rfl (fun ls hl => ?_)
  refine lv_iload_n hC.1 hC.2.1 dX0_items_11 rfl (lv_at hl 3 rfl) ?_
  refine lv_if_lt (tgt := 27) hC.1 hC.2.1 dX0_items_12 (by decide) (fun c12 => ?_) (fun c12 => ?_)
  · exact T_own0 own_idx hl0 hC hlk htb hX hZ hl.1 hw (fun _ => rfl) (by decide) (by decide) q380 q381 q74 dX0_items_27 dX0_items_30 dX0_items_31 dX0_items_34
  · refine lv_iload_n hC.1 hC.2.1 dX0_items_15 rfl (lv_at hl 3 rfl) ?_
    refine lv_i2l hC.1 hC.2.1 dX0_items_16 rfl ?_
    refine lv_iload_n hC.1 hC.2.1 dX0_items_17 rfl (lv_at hl 4 rfl) ?_
    refine lv_i2l hC.1 hC.2.1 dX0_items_18 rfl ?_
    refine lv_ladd hC.1 hC.2.1 dX0_items_19 ?_
    refine lv_iload hC.1 hC.2.1 dX0_items_20 (lv_at hl 0 rfl) ?_
    refine lv_i2l hC.1 hC.2.1 dX0_items_22 rfl ?_
    refine W.lcmp hC.1 hC.2.1 dX0_items_23 ?_
    refine lv_if_le (tgt := 35) hC.1 hC.2.1 dX0_items_24 (by decide) (fun c24 => ?_) (fun c24 => ?_)
    · exact absurd (it_out hn hc c12 c24) ho
    · exact T_own0 own_idx hl0 hC hlk htb hX hZ hl.1 hw (fun _ => rfl) (by decide) (by decide) q380 q381 q74 dX0_items_27 dX0_items_30 dX0_items_31 dX0_items_34

set_option maxHeartbeats 800000 in
theorem tX0_items_r1 (l : Launch) (N : Nat) (ad : Nat → Nat) (K : gK) (I : mG) (R : gR) (k : Nat) (i : Nat) (c : Nat) (G : mG) (b : Bool) (a : Nat) (n : Nat) (h0 : wcR N K I R G b) (hk : k < 8) (hR : R (2 + k) 0 = some a) (ha : a < N) (hka : K a = (20 + 1, n)) (hn : n ≤ 40) (hic : i + c ≤ n) : gMZ l yX0_items (ws_ yX0_items cX0_items 7 (some (FieldType.array FieldType.int))) ({ frames := 1, cells := 1, slots := 40, locals := 21 } : Room) [.ref (ad 0), .int (nI k), .int (nI i), .int (nI c)] N ad K I R (fun v S => ∃ ad' : Nat → Nat, v = some (.ref (ad' N)) ∧ S = (N + 1, ad', va_up K N (20, c), itI I N a i c, va_up R N (fun _ => none))) := by
  refine gMZ.of (by decide) (Nat.le_of_ble_eq_true rfl) ?_
  intro D dA p e s m args below meth cd ls hC hlk hr hK hX hZ hst hl hw
  have hl : lv_has ls 7 [(0, .ref (ad 0)), (1, .int (nI k)), (2, .int (nI i)), (3, .int (nI c))] := hl
  have hge := h0.ge
  have hks : (K (2 + k)).1 = 1 := (h0.1.2.2.2.2.2.2 k hk).2
  refine lv_aload_n hC.1 hC.2.1 dX0_items_0 rfl (lv_at hl 0 rfl) ?_
  refine x_ga hC hK hw (by omega) h0.k0 0 1 h0.r0 (by decide) rfl q202 rfl dX0_items_1 ?_
  refine lv_iload_n hC.1 hC.2.1 dX0_items_4 rfl (lv_at hl 1 rfl) ?_
  refine g_ldr (t := 0) (v := .ref (ad (2 + k))) hC hK hw (List.mem_range.mpr (by omega)) h0.1.2.2.2.2.1.1 rfl (by omega) (by omega) (by rw [(h0.1.2.2.2.2.2.2 k hk).1]; rfl) dX0_items_5 ?_
  refine R_VN (n := 0) (C := RX1) (T := TX1) hC hl.1 hK hX hZ hst hw (show 2 + k < N by omega) hks (by decide) rfl (tX1_many_q1 l N ad K I R (2 + k) a n (by omega) (hks) (hR) (ha) (hka) (hn)) q436 q438 qs6 q61 q439 (by decide +kernel) rfl rfl ⟨by decide, by decide⟩ rfl rfl (Nat.le_of_ble_eq_true rfl) dX0_items_6 ⟨Nat.zero_le _, Nat.zero_le _⟩ ?_
  refine lv_istore (lv' := [(4, .int (nI n)), (0, .ref (ad 0)), (1, .int (nI k)), (2, .int (nI i)), (3, .int (nI c))]) hC.1 hC.2.1 dX0_items_9 hl (by decide) rfl (fun ls hl => ?_)
  refine lv_iload_n hC.1 hC.2.1 dX0_items_11 rfl (lv_at hl 3 rfl) ?_
  refine lv_if_lt (tgt := 27) hC.1 hC.2.1 dX0_items_12 (by decide) (fun c12 => ?_) (fun c12 => ?_)
  · exact absurd c12 (nI_pos (by omega))
  · refine lv_iload_n hC.1 hC.2.1 dX0_items_15 rfl (lv_at hl 3 rfl) ?_
    refine lv_i2l hC.1 hC.2.1 dX0_items_16 rfl ?_
    refine lv_iload_n hC.1 hC.2.1 dX0_items_17 rfl (lv_at hl 4 rfl) ?_
    refine lv_i2l hC.1 hC.2.1 dX0_items_18 rfl ?_
    refine lv_ladd hC.1 hC.2.1 dX0_items_19 ?_
    refine lv_iload hC.1 hC.2.1 dX0_items_20 (lv_at hl 0 rfl) ?_
    refine lv_i2l hC.1 hC.2.1 dX0_items_22 rfl ?_
    refine W.lcmp hC.1 hC.2.1 dX0_items_23 ?_
    refine lv_if_le (tgt := 35) hC.1 hC.2.1 dX0_items_24 (by decide) (fun c24 => ?_) (fun c24 => ?_)
    · refine lv_iload_n hC.1 hC.2.1 dX0_items_35 rfl (lv_at hl 4 rfl) ?_
      refine M_newa (atype := .int) (ty := .int) (N' := c) hC hK hw rfl q165 0 (by decide) rfl (fun c h => h) rfl (by omega) (by simp only [componentBytes]; omega) (by simp only [gN]; omega) (by simp only [gN]; omega) dX0_items_36 (fun ad36_1 H h36_1 hw => ?_)
      have e36_1 : ad 0 = ad36_1 0 := (h36_1 0 (by omega)).symm
      rw [e36_1] at hl
      have g36_1 : gGo N ad K (N + 1, ad36_1, va_up K N (20, c), va_up I N (fun _ => nI 0), va_up R N (fun _ => none)) := gGo_new (I1 := I) (R1 := R) gGo.rf h36_1
      have kr0 : va_up R N (fun _ => none) 0 0 = some 1 := by rw [va_up_ne _ _ (by omega)]; exact h0.r0
      have kr1 : va_up R N (fun _ => none) 1 k = some (2 + k) := by rw [va_up_ne _ _ (by omega)]; exact (h0.1.2.2.2.2.2.2 k hk).1
      have kk0 : (va_up K N (20, c) 0).1 = 0 := by rw [va_up_ne _ _ (by omega)]; exact h0.k0
      have kk1 : va_up K N (20, c) 1 = (30, 8) := by rw [va_up_ne _ _ (by omega)]; exact h0.k1
      have kkN : va_up K N (20, c) N = (20, c) := va_up_self _ _ _
      refine lv_astore (lv' := [(5, .ref (ad36_1 N)), (4, .int (nI n)), (0, .ref (ad36_1 0)), (1, .int (nI k)), (2, .int (nI i)), (3, .int (nI c))]) hC.1 hC.2.1 dX0_items_38 hl (by decide) rfl (fun ls hl => ?_)
      refine lv_iconst (v := (nI 0)) hC.1 hC.2.1 dX0_items_40 (by decide) ?_
      refine lv_istore (lv' := [(6, .int (nI 0)), (5, .ref (ad36_1 N)), (4, .int (nI n)), (0, .ref (ad36_1 0)), (1, .int (nI k)), (2, .int (nI i)), (3, .int (nI c))]) hC.1 hC.2.1 dX0_items_41 hl (by decide) rfl (fun ls hl => ?_)
      refine W.loop (fun ls j H locs => lv_has ls 7 [(0, .ref (ad36_1 0)), (1, .int (nI k)), (2, .int (nI i)), (3, .int (nI c)), (4, .int (nI n)), (5, .ref (ad36_1 N)), (6, .int (nI j))] ∧ gw D dA (nA (List.range N) ad s.heap.size) s.heap (List.range (N + 1)) ad36_1 (va_up K N (20, c)) (itI I N a i j) (va_up R N (fun _ => none)) H locs ∧ (j ≤ c)) 43 (fun _ => []) (fun j => c - j) ?_ 0 ⟨hl.sub' [3, 4, 5, 6, 2, 1, 0] (by rfl), hw.eq (itI_0 I N a i) rfl, by omega⟩
      rintro ls j H locs ⟨hl, hw, hj⟩ ih43
      refine lv_iload hC.1 hC.2.1 dX0_items_43 (lv_at hl 6 rfl) ?_
      refine lv_iload_n hC.1 hC.2.1 dX0_items_45 rfl (lv_at hl 3 rfl) ?_
      refine k_ge (tgt := 73) hC (by omega) (by omega) dX0_items_46 (by decide) (fun c46 => ?_) (fun c46 => ?_)
      · have eN : c = j := by omega
        subst eN
        refine lv_aload hC.1 hC.2.1 dX0_items_73 (lv_at hl 5 rfl) ?_
        exact M_aret hC hlk hw g36_1.to ⟨by simp only [gN]; omega, by simp only [gN]; omega⟩ hr (Or.inr ⟨_, rfl⟩) (Or.inr ⟨_, rfl⟩) (⟨_, rfl, rfl⟩) dX0_items_75
      · refine lv_aload hC.1 hC.2.1 dX0_items_49 (lv_at hl 5 rfl) ?_
        refine lv_iload hC.1 hC.2.1 dX0_items_51 (lv_at hl 6 rfl) ?_
        refine lv_aload_n hC.1 hC.2.1 dX0_items_53 rfl (lv_at hl 0 rfl) ?_
        refine x_ga hC hK hw (by omega) kk0 0 1 kr0 (by decide) rfl q202 rfl dX0_items_54 ?_
        refine lv_iload_n hC.1 hC.2.1 dX0_items_57 rfl (lv_at hl 1 rfl) ?_
        refine g_ldr (t := 0) (v := .ref (ad36_1 (2 + k))) hC hK hw (List.mem_range.mpr (by omega)) kk1 rfl (by omega) (by omega) (by rw [kr1]; rfl) dX0_items_58 ?_
        refine lv_iload_n hC.1 hC.2.1 dX0_items_59 rfl (lv_at hl 2 rfl) ?_
        refine lv_iload hC.1 hC.2.1 dX0_items_60 (lv_at hl 6 rfl) ?_
        refine k_add hC dX0_items_62 ?_
        refine Z_VN (n := 1) (C := RX1) (T := TX1) hC hl.1 hK hX hZ hst hw (show 2 + k < N + 1 by omega) (show (va_up K N (20, c) (2 + k)).1 = 1 by rw [va_up_ne _ _ (by omega)]; exact hks) (by decide) rfl (tX1_at_r1 l (N + 1) ad36_1 (va_up K N (20, c)) (itI I N a i j) (va_up R N (fun _ => none)) (2 + k) a n (i + j) (by omega) (by rw [va_up_ne _ _ (by omega)]; exact hks) (by rw [va_up_ne _ _ (by omega)]; exact hR) (by omega) (by rw [va_up_ne _ _ (by omega)]; exact hka) (hn) (by omega)) q893 q408 qs5 q61 q409 (by decide +kernel) ⟨by decide, by decide⟩ rfl rfl (Nat.le_of_ble_eq_true rfl) dX0_items_63 ⟨by simp only [gN]; omega, by simp only [gN]; omega⟩ ?_
        rintro _ N2 ad2 K2 I2 R2 H locs ⟨rfl, e2⟩ hg hw
        cases e2
        rw [itI_o (show a ≠ N by omega)]
        refine g_sti hC hK hw (List.mem_range.mpr (by omega)) kkN (by omega) (by omega) dX0_items_66 (fun H locs hw => ?_)
        refine k_iinc (k := 6) (d := 1) (lv' := [(6, .int (nI (j + 1))), (0, .ref (ad36_1 0)), (1, .int (nI k)), (2, .int (nI i)), (3, .int (nI c)), (4, .int (nI n)), (5, .ref (ad36_1 N))]) hC dX0_items_67 hl rfl (by decide) (by decide) rfl (fun ls hl => ?_)
        refine lv_goto (tgt := 43) hC.1 hC.2.1 dX0_items_70 (by decide) ?_
        exact ih43 ls (j + 1) H locs ⟨hl.sub' [1, 2, 3, 4, 5, 6, 0] (by rfl), hw.eq itI_s rfl, by omega⟩ (by omega)
    · exact absurd (it_le hn hic) c24

set_option maxHeartbeats 800000 in
theorem tX0_items_o1 (l : Launch) (hl0 : l.stackTraces = false) (N : Nat) (ad : Nat → Nat) (K : gK) (I : mG) (R : gR) (k : Nat) (i : Int32) (c : Nat) (G : mG) (b : Bool) (a : Nat) (n : Nat) (h0 : wcR N K I R G b) (hk : k < 8) (hR : R (2 + k) 0 = some a) (ha : a < N) (hka : K a = (20 + 1, n)) (hn : n ≤ 40) (hc : c ≤ 40) (ho : ¬ inB i 0 (nI n - nI c) = true) : gMT l yX0_items (ws_ yX0_items cX0_items 7 (some (FieldType.array FieldType.int))) ({ frames := 8, cells := 1, slots := 6, locals := 10240 } : Room) [.ref (ad 0), .int (nI k), .int i, .int (nI c)] N ad K I R "java/lang/ArrayIndexOutOfBoundsException" (fun x S => S = (N, ad, K, I, R)) := by
  refine gMT.of (by decide) (Nat.le_of_ble_eq_true rfl) ?_
  intro D dA p e s m args below meth cd ls hC hlk htb hK hX hZ hst hl hw
  have hl : lv_has ls 7 [(0, .ref (ad 0)), (1, .int (nI k)), (2, .int i), (3, .int (nI c))] := hl
  have hge := h0.ge
  have hks : (K (2 + k)).1 = 1 := (h0.1.2.2.2.2.2.2 k hk).2
  refine lv_aload_n hC.1 hC.2.1 dX0_items_0 rfl (lv_at hl 0 rfl) ?_
  refine x_ga hC hK hw (by omega) h0.k0 0 1 h0.r0 (by decide) rfl q202 rfl dX0_items_1 ?_
  refine lv_iload_n hC.1 hC.2.1 dX0_items_4 rfl (lv_at hl 1 rfl) ?_
  refine g_ldr (t := 0) (v := .ref (ad (2 + k))) hC hK hw (List.mem_range.mpr (by omega)) h0.1.2.2.2.2.1.1 rfl (by omega) (by omega) (by rw [(h0.1.2.2.2.2.2.2 k hk).1]; rfl) dX0_items_5 ?_
  refine R_VN (n := 0) (C := RX1) (T := TX1) hC hl.1 hK hX hZ hst hw (show 2 + k < N by omega) hks (by decide) rfl (tX1_many_q1 l N ad K I R (2 + k) a n (by omega) (hks) (hR) (ha) (hka) (hn)) q436 q438 qs6 q61 q439 (by decide +kernel) rfl rfl ⟨by decide, by decide⟩ rfl rfl (Nat.le_of_ble_eq_true rfl) dX0_items_6 ⟨Nat.zero_le _, Nat.zero_le _⟩ ?_
  refine lv_istore (lv' := [(4, .int (nI n)), (0, .ref (ad 0)), (1, .int (nI k)), (2, .int i), (3, .int (nI c))]) hC.1 hC.2.1 dX0_items_9 hl (by decide) rfl (fun ls hl => ?_)
  refine lv_iload_n hC.1 hC.2.1 dX0_items_11 rfl (lv_at hl 3 rfl) ?_
  refine lv_if_lt (tgt := 27) hC.1 hC.2.1 dX0_items_12 (by decide) (fun c12 => ?_) (fun c12 => ?_)
  · exact T_own0 own_idx hl0 hC hlk htb hX hZ hl.1 hw (fun _ => rfl) (by decide) (by decide) q380 q381 q74 dX0_items_27 dX0_items_30 dX0_items_31 dX0_items_34
  · refine lv_iload_n hC.1 hC.2.1 dX0_items_15 rfl (lv_at hl 3 rfl) ?_
    refine lv_i2l hC.1 hC.2.1 dX0_items_16 rfl ?_
    refine lv_iload_n hC.1 hC.2.1 dX0_items_17 rfl (lv_at hl 4 rfl) ?_
    refine lv_i2l hC.1 hC.2.1 dX0_items_18 rfl ?_
    refine lv_ladd hC.1 hC.2.1 dX0_items_19 ?_
    refine lv_iload hC.1 hC.2.1 dX0_items_20 (lv_at hl 0 rfl) ?_
    refine lv_i2l hC.1 hC.2.1 dX0_items_22 rfl ?_
    refine W.lcmp hC.1 hC.2.1 dX0_items_23 ?_
    refine lv_if_le (tgt := 35) hC.1 hC.2.1 dX0_items_24 (by decide) (fun c24 => ?_) (fun c24 => ?_)
    · exact absurd (it_out hn hc c12 c24) ho
    · exact T_own0 own_idx hl0 hC hlk htb hX hZ hl.1 hw (fun _ => rfl) (by decide) (by decide) q380 q381 q74 dX0_items_27 dX0_items_30 dX0_items_31 dX0_items_34

set_option maxHeartbeats 800000 in
theorem tX0_items_r2 (l : Launch) (N : Nat) (ad : Nat → Nat) (K : gK) (I : mG) (R : gR) (k : Nat) (i : Nat) (c : Nat) (G : mG) (b : Bool) (a : Nat) (n : Nat) (h0 : wcR N K I R G b) (hk : k < 8) (hR : R (2 + k) 0 = some a) (ha : a < N) (hka : K a = (20 + 2, n)) (hn : n ≤ 40) (hic : i + c ≤ n) : gMZ l yX0_items (ws_ yX0_items cX0_items 7 (some (FieldType.array FieldType.int))) ({ frames := 1, cells := 1, slots := 40, locals := 21 } : Room) [.ref (ad 0), .int (nI k), .int (nI i), .int (nI c)] N ad K I R (fun v S => ∃ ad' : Nat → Nat, v = some (.ref (ad' N)) ∧ S = (N + 1, ad', va_up K N (20, c), itI I N a i c, va_up R N (fun _ => none))) := by
  refine gMZ.of (by decide) (Nat.le_of_ble_eq_true rfl) ?_
  intro D dA p e s m args below meth cd ls hC hlk hr hK hX hZ hst hl hw
  have hl : lv_has ls 7 [(0, .ref (ad 0)), (1, .int (nI k)), (2, .int (nI i)), (3, .int (nI c))] := hl
  have hge := h0.ge
  have hks : (K (2 + k)).1 = 1 := (h0.1.2.2.2.2.2.2 k hk).2
  refine lv_aload_n hC.1 hC.2.1 dX0_items_0 rfl (lv_at hl 0 rfl) ?_
  refine x_ga hC hK hw (by omega) h0.k0 0 1 h0.r0 (by decide) rfl q202 rfl dX0_items_1 ?_
  refine lv_iload_n hC.1 hC.2.1 dX0_items_4 rfl (lv_at hl 1 rfl) ?_
  refine g_ldr (t := 0) (v := .ref (ad (2 + k))) hC hK hw (List.mem_range.mpr (by omega)) h0.1.2.2.2.2.1.1 rfl (by omega) (by omega) (by rw [(h0.1.2.2.2.2.2.2 k hk).1]; rfl) dX0_items_5 ?_
  refine R_VN (n := 0) (C := RX1) (T := TX1) hC hl.1 hK hX hZ hst hw (show 2 + k < N by omega) hks (by decide) rfl (tX1_many_q2 l N ad K I R (2 + k) a n (by omega) (hks) (hR) (ha) (hka) (hn)) q436 q438 qs6 q61 q439 (by decide +kernel) rfl rfl ⟨by decide, by decide⟩ rfl rfl (Nat.le_of_ble_eq_true rfl) dX0_items_6 ⟨Nat.zero_le _, Nat.zero_le _⟩ ?_
  refine lv_istore (lv' := [(4, .int (nI n)), (0, .ref (ad 0)), (1, .int (nI k)), (2, .int (nI i)), (3, .int (nI c))]) hC.1 hC.2.1 dX0_items_9 hl (by decide) rfl (fun ls hl => ?_)
  refine lv_iload_n hC.1 hC.2.1 dX0_items_11 rfl (lv_at hl 3 rfl) ?_
  refine lv_if_lt (tgt := 27) hC.1 hC.2.1 dX0_items_12 (by decide) (fun c12 => ?_) (fun c12 => ?_)
  · exact absurd c12 (nI_pos (by omega))
  · refine lv_iload_n hC.1 hC.2.1 dX0_items_15 rfl (lv_at hl 3 rfl) ?_
    refine lv_i2l hC.1 hC.2.1 dX0_items_16 rfl ?_
    refine lv_iload_n hC.1 hC.2.1 dX0_items_17 rfl (lv_at hl 4 rfl) ?_
    refine lv_i2l hC.1 hC.2.1 dX0_items_18 rfl ?_
    refine lv_ladd hC.1 hC.2.1 dX0_items_19 ?_
    refine lv_iload hC.1 hC.2.1 dX0_items_20 (lv_at hl 0 rfl) ?_
    refine lv_i2l hC.1 hC.2.1 dX0_items_22 rfl ?_
    refine W.lcmp hC.1 hC.2.1 dX0_items_23 ?_
    refine lv_if_le (tgt := 35) hC.1 hC.2.1 dX0_items_24 (by decide) (fun c24 => ?_) (fun c24 => ?_)
    · refine lv_iload_n hC.1 hC.2.1 dX0_items_35 rfl (lv_at hl 4 rfl) ?_
      refine M_newa (atype := .int) (ty := .int) (N' := c) hC hK hw rfl q165 0 (by decide) rfl (fun c h => h) rfl (by omega) (by simp only [componentBytes]; omega) (by simp only [gN]; omega) (by simp only [gN]; omega) dX0_items_36 (fun ad36_1 H h36_1 hw => ?_)
      have e36_1 : ad 0 = ad36_1 0 := (h36_1 0 (by omega)).symm
      rw [e36_1] at hl
      have g36_1 : gGo N ad K (N + 1, ad36_1, va_up K N (20, c), va_up I N (fun _ => nI 0), va_up R N (fun _ => none)) := gGo_new (I1 := I) (R1 := R) gGo.rf h36_1
      have kr0 : va_up R N (fun _ => none) 0 0 = some 1 := by rw [va_up_ne _ _ (by omega)]; exact h0.r0
      have kr1 : va_up R N (fun _ => none) 1 k = some (2 + k) := by rw [va_up_ne _ _ (by omega)]; exact (h0.1.2.2.2.2.2.2 k hk).1
      have kk0 : (va_up K N (20, c) 0).1 = 0 := by rw [va_up_ne _ _ (by omega)]; exact h0.k0
      have kk1 : va_up K N (20, c) 1 = (30, 8) := by rw [va_up_ne _ _ (by omega)]; exact h0.k1
      have kkN : va_up K N (20, c) N = (20, c) := va_up_self _ _ _
      refine lv_astore (lv' := [(5, .ref (ad36_1 N)), (4, .int (nI n)), (0, .ref (ad36_1 0)), (1, .int (nI k)), (2, .int (nI i)), (3, .int (nI c))]) hC.1 hC.2.1 dX0_items_38 hl (by decide) rfl (fun ls hl => ?_)
      refine lv_iconst (v := (nI 0)) hC.1 hC.2.1 dX0_items_40 (by decide) ?_
      refine lv_istore (lv' := [(6, .int (nI 0)), (5, .ref (ad36_1 N)), (4, .int (nI n)), (0, .ref (ad36_1 0)), (1, .int (nI k)), (2, .int (nI i)), (3, .int (nI c))]) hC.1 hC.2.1 dX0_items_41 hl (by decide) rfl (fun ls hl => ?_)
      refine W.loop (fun ls j H locs => lv_has ls 7 [(0, .ref (ad36_1 0)), (1, .int (nI k)), (2, .int (nI i)), (3, .int (nI c)), (4, .int (nI n)), (5, .ref (ad36_1 N)), (6, .int (nI j))] ∧ gw D dA (nA (List.range N) ad s.heap.size) s.heap (List.range (N + 1)) ad36_1 (va_up K N (20, c)) (itI I N a i j) (va_up R N (fun _ => none)) H locs ∧ (j ≤ c)) 43 (fun _ => []) (fun j => c - j) ?_ 0 ⟨hl.sub' [3, 4, 5, 6, 2, 1, 0] (by rfl), hw.eq (itI_0 I N a i) rfl, by omega⟩
      rintro ls j H locs ⟨hl, hw, hj⟩ ih43
      refine lv_iload hC.1 hC.2.1 dX0_items_43 (lv_at hl 6 rfl) ?_
      refine lv_iload_n hC.1 hC.2.1 dX0_items_45 rfl (lv_at hl 3 rfl) ?_
      refine k_ge (tgt := 73) hC (by omega) (by omega) dX0_items_46 (by decide) (fun c46 => ?_) (fun c46 => ?_)
      · have eN : c = j := by omega
        subst eN
        refine lv_aload hC.1 hC.2.1 dX0_items_73 (lv_at hl 5 rfl) ?_
        exact M_aret hC hlk hw g36_1.to ⟨by simp only [gN]; omega, by simp only [gN]; omega⟩ hr (Or.inr ⟨_, rfl⟩) (Or.inr ⟨_, rfl⟩) (⟨_, rfl, rfl⟩) dX0_items_75
      · refine lv_aload hC.1 hC.2.1 dX0_items_49 (lv_at hl 5 rfl) ?_
        refine lv_iload hC.1 hC.2.1 dX0_items_51 (lv_at hl 6 rfl) ?_
        refine lv_aload_n hC.1 hC.2.1 dX0_items_53 rfl (lv_at hl 0 rfl) ?_
        refine x_ga hC hK hw (by omega) kk0 0 1 kr0 (by decide) rfl q202 rfl dX0_items_54 ?_
        refine lv_iload_n hC.1 hC.2.1 dX0_items_57 rfl (lv_at hl 1 rfl) ?_
        refine g_ldr (t := 0) (v := .ref (ad36_1 (2 + k))) hC hK hw (List.mem_range.mpr (by omega)) kk1 rfl (by omega) (by omega) (by rw [kr1]; rfl) dX0_items_58 ?_
        refine lv_iload_n hC.1 hC.2.1 dX0_items_59 rfl (lv_at hl 2 rfl) ?_
        refine lv_iload hC.1 hC.2.1 dX0_items_60 (lv_at hl 6 rfl) ?_
        refine k_add hC dX0_items_62 ?_
        refine Z_VN (n := 1) (C := RX1) (T := TX1) hC hl.1 hK hX hZ hst hw (show 2 + k < N + 1 by omega) (show (va_up K N (20, c) (2 + k)).1 = 1 by rw [va_up_ne _ _ (by omega)]; exact hks) (by decide) rfl (tX1_at_r2 l (N + 1) ad36_1 (va_up K N (20, c)) (itI I N a i j) (va_up R N (fun _ => none)) (2 + k) a n (i + j) (by omega) (by rw [va_up_ne _ _ (by omega)]; exact hks) (by rw [va_up_ne _ _ (by omega)]; exact hR) (by omega) (by rw [va_up_ne _ _ (by omega)]; exact hka) (hn) (by omega)) q893 q408 qs5 q61 q409 (by decide +kernel) ⟨by decide, by decide⟩ rfl rfl (Nat.le_of_ble_eq_true rfl) dX0_items_63 ⟨by simp only [gN]; omega, by simp only [gN]; omega⟩ ?_
        rintro _ N2 ad2 K2 I2 R2 H locs ⟨rfl, e2⟩ hg hw
        cases e2
        rw [itI_o (show a ≠ N by omega)]
        refine g_sti hC hK hw (List.mem_range.mpr (by omega)) kkN (by omega) (by omega) dX0_items_66 (fun H locs hw => ?_)
        refine k_iinc (k := 6) (d := 1) (lv' := [(6, .int (nI (j + 1))), (0, .ref (ad36_1 0)), (1, .int (nI k)), (2, .int (nI i)), (3, .int (nI c)), (4, .int (nI n)), (5, .ref (ad36_1 N))]) hC dX0_items_67 hl rfl (by decide) (by decide) rfl (fun ls hl => ?_)
        refine lv_goto (tgt := 43) hC.1 hC.2.1 dX0_items_70 (by decide) ?_
        exact ih43 ls (j + 1) H locs ⟨hl.sub' [1, 2, 3, 4, 5, 6, 0] (by rfl), hw.eq itI_s rfl, by omega⟩ (by omega)
    · exact absurd (it_le hn hic) c24

set_option maxHeartbeats 800000 in
theorem tX0_items_o2 (l : Launch) (hl0 : l.stackTraces = false) (N : Nat) (ad : Nat → Nat) (K : gK) (I : mG) (R : gR) (k : Nat) (i : Int32) (c : Nat) (G : mG) (b : Bool) (a : Nat) (n : Nat) (h0 : wcR N K I R G b) (hk : k < 8) (hR : R (2 + k) 0 = some a) (ha : a < N) (hka : K a = (20 + 2, n)) (hn : n ≤ 40) (hc : c ≤ 40) (ho : ¬ inB i 0 (nI n - nI c) = true) : gMT l yX0_items (ws_ yX0_items cX0_items 7 (some (FieldType.array FieldType.int))) ({ frames := 8, cells := 1, slots := 6, locals := 10240 } : Room) [.ref (ad 0), .int (nI k), .int i, .int (nI c)] N ad K I R "java/lang/ArrayIndexOutOfBoundsException" (fun x S => S = (N, ad, K, I, R)) := by
  refine gMT.of (by decide) (Nat.le_of_ble_eq_true rfl) ?_
  intro D dA p e s m args below meth cd ls hC hlk htb hK hX hZ hst hl hw
  have hl : lv_has ls 7 [(0, .ref (ad 0)), (1, .int (nI k)), (2, .int i), (3, .int (nI c))] := hl
  have hge := h0.ge
  have hks : (K (2 + k)).1 = 1 := (h0.1.2.2.2.2.2.2 k hk).2
  refine lv_aload_n hC.1 hC.2.1 dX0_items_0 rfl (lv_at hl 0 rfl) ?_
  refine x_ga hC hK hw (by omega) h0.k0 0 1 h0.r0 (by decide) rfl q202 rfl dX0_items_1 ?_
  refine lv_iload_n hC.1 hC.2.1 dX0_items_4 rfl (lv_at hl 1 rfl) ?_
  refine g_ldr (t := 0) (v := .ref (ad (2 + k))) hC hK hw (List.mem_range.mpr (by omega)) h0.1.2.2.2.2.1.1 rfl (by omega) (by omega) (by rw [(h0.1.2.2.2.2.2.2 k hk).1]; rfl) dX0_items_5 ?_
  refine R_VN (n := 0) (C := RX1) (T := TX1) hC hl.1 hK hX hZ hst hw (show 2 + k < N by omega) hks (by decide) rfl (tX1_many_q2 l N ad K I R (2 + k) a n (by omega) (hks) (hR) (ha) (hka) (hn)) q436 q438 qs6 q61 q439 (by decide +kernel) rfl rfl ⟨by decide, by decide⟩ rfl rfl (Nat.le_of_ble_eq_true rfl) dX0_items_6 ⟨Nat.zero_le _, Nat.zero_le _⟩ ?_
  refine lv_istore (lv' := [(4, .int (nI n)), (0, .ref (ad 0)), (1, .int (nI k)), (2, .int i), (3, .int (nI c))]) hC.1 hC.2.1 dX0_items_9 hl (by decide) rfl (fun ls hl => ?_)
  refine lv_iload_n hC.1 hC.2.1 dX0_items_11 rfl (lv_at hl 3 rfl) ?_
  refine lv_if_lt (tgt := 27) hC.1 hC.2.1 dX0_items_12 (by decide) (fun c12 => ?_) (fun c12 => ?_)
  · exact T_own0 own_idx hl0 hC hlk htb hX hZ hl.1 hw (fun _ => rfl) (by decide) (by decide) q380 q381 q74 dX0_items_27 dX0_items_30 dX0_items_31 dX0_items_34
  · refine lv_iload_n hC.1 hC.2.1 dX0_items_15 rfl (lv_at hl 3 rfl) ?_
    refine lv_i2l hC.1 hC.2.1 dX0_items_16 rfl ?_
    refine lv_iload_n hC.1 hC.2.1 dX0_items_17 rfl (lv_at hl 4 rfl) ?_
    refine lv_i2l hC.1 hC.2.1 dX0_items_18 rfl ?_
    refine lv_ladd hC.1 hC.2.1 dX0_items_19 ?_
    refine lv_iload hC.1 hC.2.1 dX0_items_20 (lv_at hl 0 rfl) ?_
    refine lv_i2l hC.1 hC.2.1 dX0_items_22 rfl ?_
    refine W.lcmp hC.1 hC.2.1 dX0_items_23 ?_
    refine lv_if_le (tgt := 35) hC.1 hC.2.1 dX0_items_24 (by decide) (fun c24 => ?_) (fun c24 => ?_)
    · exact absurd (it_out hn hc c12 c24) ho
    · exact T_own0 own_idx hl0 hC hlk htb hX hZ hl.1 hw (fun _ => rfl) (by decide) (by decide) q380 q381 q74 dX0_items_27 dX0_items_30 dX0_items_31 dX0_items_34

set_option maxHeartbeats 800000 in
theorem tX0_items_n (l : Launch) (hl0 : l.stackTraces = false) (N : Nat) (ad : Nat → Nat) (K : gK) (I : mG) (R : gR) (k : Nat) (i : Int32) (c : Nat) (G : mG) (b : Bool) (h0 : wcR N K I R G b) (hk : k < 8) (hR : R (2 + k) 0 = none) : gMT l yX0_items (ws_ yX0_items cX0_items 7 (some (FieldType.array FieldType.int))) ({ frames := 9, cells := 1, slots := 8, locals := 10260 } : Room) [.ref (ad 0), .int (nI k), .int i, .int (nI c)] N ad K I R "java/lang/NullPointerException" (fun x S => S = (N, ad, K, I, R)) := by
  refine gMT.of (by decide) (Nat.le_of_ble_eq_true rfl) ?_
  intro D dA p e s m args below meth cd ls hC hlk htb hK hX hZ hst hl hw
  have hl : lv_has ls 7 [(0, .ref (ad 0)), (1, .int (nI k)), (2, .int i), (3, .int (nI c))] := hl
  have hge := h0.ge
  have hks : (K (2 + k)).1 = 1 := (h0.1.2.2.2.2.2.2 k hk).2
  refine lv_aload_n hC.1 hC.2.1 dX0_items_0 rfl (lv_at hl 0 rfl) ?_
  refine x_ga hC hK hw (by omega) h0.k0 0 1 h0.r0 (by decide) rfl q202 rfl dX0_items_1 ?_
  refine lv_iload_n hC.1 hC.2.1 dX0_items_4 rfl (lv_at hl 1 rfl) ?_
  refine g_ldr (t := 0) (v := .ref (ad (2 + k))) hC hK hw (List.mem_range.mpr (by omega)) h0.1.2.2.2.2.1.1 rfl (by omega) (by omega) (by rw [(h0.1.2.2.2.2.2.2 k hk).1]; rfl) dX0_items_5 ?_
  refine T_VN (n := 0) (C := RX1) (T := TX1) hC hl.1 hK hX hZ hst hw (show 2 + k < N by omega) hks (by decide) rfl (tX1_many_n l hl0 N ad K I R (2 + k) (by omega) (hks) (hR)) q436 q438 qs6 q61 q439 (by decide +kernel) ⟨by decide, by decide⟩ rfl rfl (Nat.le_of_ble_eq_true rfl) dX0_items_6 ⟨by simp only [gN]; omega, by simp only [gN]; omega⟩ (fun x0 N2 ad2 K2 I2 R2 H locs e2 hg hw => ?_)
  cases e2
  exact T_out hlk htb hw hg ⟨by simp only [gN]; omega, by simp only [gN]; omega⟩ (rfl)

theorem lk_0 : (0 : Int32) ≤ nI 0 := by decide
theorem lk_1 : ¬ (0 : Int32) ≤ (-1000010 : Int32) - nI 1 := by decide
theorem lk_2 : ¬ (0 : Int32) ≤ (-1000010 : Int32) - nI 2 := by decide

set_option maxHeartbeats 800000 in
theorem tX0_stands (l : Launch) (hl0 : l.stackTraces = false) (N : Nat) (ad : Nat → Nat) (K : gK) (I : mG) (R : gR) (row : Int32) (i : Int32) (G : mG) (b : Bool) (h0 : wcR N K I R G b) : gMZ l yX0_stands (wsW_ yX0_stands cX0_stands 4 (some FieldType.int) [(23, 39, 40, 114), (23, 39, 47, 116)]) ({ frames := 10, cells := 3, slots := 222, locals := 10286 } : Room) [.ref (ad 0), .int row, .int i] N ad K I R (fun v S => v = some (.int (mX6_stands G row i).1) ∧ wcR S.1 S.2.2.1 S.2.2.2.1 S.2.2.2.2 (mX6_stands G row i).2 b) := by
  refine gMZ.ofH (by decide) (Nat.le_of_ble_eq_true rfl) ?_
  intro D dA p e s m args below meth cd ls hC hlk hr htb hK hX hZ hst hl hw
  have hl : lv_has ls 4 [(0, .ref (ad 0)), (1, .int row), (2, .int i)] := hl
  have hge := h0.ge
  refine lv_aload_n hC.1 hC.2.1 dX0_stands_0 rfl (lv_at hl 0 rfl) ?_
  refine x_ga hC hK hw (by omega) h0.k0 4 11 h0.r4 (by decide) rfl q206 rfl dX0_stands_1 ?_
  refine p_gi hC hK hw h0.ps.1 0 (by decide) rfl q124 rfl (v := (bI b)) (h0.told) dX0_stands_4 ?_
  refine k_bne (tgt := 13) hC dX0_stands_7 (by decide) (fun c7 => ?_) (fun c7 => ?_)
  · subst c7
    refine lv_iload_n hC.1 hC.2.1 dX0_stands_13 rfl (lv_at hl 1 rfl) ?_
    refine pS_call (n := 1) hC hl.1 (tX0_isRow l row ) (lw_S q329 q330 q60 q331) rfl rfl (by decide +kernel) ⟨by decide, by decide⟩ rfl rfl (Nat.le_of_ble_eq_true rfl) dX0_stands_14 ⟨Nat.zero_le _, Nat.zero_le _⟩ ?_
    refine k_bne (tgt := 23) hC dX0_stands_17 (by decide) (fun c17 => ?_) (fun c17 => ?_)
    · obtain ⟨k, hk, rfl⟩ := inB_nat (n := 7) (by decide) c17
      have hks : (K (2 + k)).1 = 1 := (h0.1.2.2.2.2.2.2 k (by omega)).2
      rcases h0.2.2.2.2.2.1.1 k (by omega) with ⟨z1, z2⟩ | ⟨a, n, t, z1, z3, z4, z5, z6, z7, z8, z9, z10, z11⟩
      · refine lv_aload_n hC.1 hC.2.1 dX0_stands_23 rfl (lv_at hl 0 rfl) ?_
        refine lv_aload_n hC.1 hC.2.1 dX0_stands_24 rfl (lv_at hl 0 rfl) ?_
        refine lv_aload_n hC.1 hC.2.1 dX0_stands_25 rfl (lv_at hl 0 rfl) ?_
        refine lv_iload_n hC.1 hC.2.1 dX0_stands_26 rfl (lv_at hl 1 rfl) ?_
        refine lv_iload_n hC.1 hC.2.1 dX0_stands_27 rfl (lv_at hl 2 rfl) ?_
        refine lv_bipush (v := (nI 16)) hC.1 hC.2.1 dX0_stands_28 (by decide) ?_
        refine T_V (n := 3) (C := RX0) (T := TX0) hC hl.1 hK hX hZ hst hw (by omega) h0.k0 (by decide) rfl (tX0_items_n l hl0 N ad K I R k i 16 G true (h0) (by omega) (z1)) (lw_V q882 q884 qs21 q60 q885) (by decide +kernel) ⟨by decide, by decide⟩ rfl rfl (Nat.le_of_ble_eq_true rfl) dX0_stands_30 ⟨by simp only [gN]; omega, by simp only [gN]; omega⟩ (fun x0 N2 ad2 K2 I2 R2 H locs e2 hg hw => ?_)
        cases e2
        refine T_catch (pc := 30) htb (h := 40) (fun pl cX hpl hE => rt_hit (pc := 30) (x := ⟨23, 39, 40, 114⟩) hpl hC.2.2.2.1 hE (hC.2.2.2.2 _ q355) (hX _ q377 rfl) (by decide) (by decide)) ?_
        refine lv_astore_n (lv' := [(3, .ref x0), (0, .ref (ad 0)), (1, .int (nI k)), (2, .int i)]) hC.1 hC.2.1 dX0_stands_40 rfl hl (by decide) rfl (fun ls hl => ?_)
        refine lv_aload_n hC.1 hC.2.1 dX0_stands_41 rfl (lv_at hl 1 rfl) ?_
        refine lv_iconst (v := (nI 1)) hC.1 hC.2.1 dX0_stands_42 (by decide) ?_
        refine M_V (n := 1) (C := RX0) (T := TX0) hC hl.1 hK hX hw (by omega) h0.k0 (by decide) rfl (tX0_found l N ad K I R (nI 1) G true (h0)) (lw_V q345 q347 qs3 q60 q348) (by decide +kernel) ⟨by decide, by decide⟩ rfl rfl (Nat.le_of_ble_eq_true rfl) dX0_stands_43 ⟨by simp only [gN]; omega, by simp only [gN]; omega⟩ ?_
        rintro _ N2 ad2 K2 I43 R43 H locs ⟨I3, R3, e3, rfl, h43⟩ hg hw
        cases e3
        dsimp only at h43
        exact M_iret hC hlk hw gGo.rf ⟨by simp only [gN]; omega, by simp only [gN]; omega⟩ hr rfl (by have eq : mX6_stands G (nI k) i = (((-1000010 : Int32) - (nI 1)), g2 G 0 3 (nI 1)) := (by simp [mX6_stands, h0.g4, bI_t0, bI_f0, inc01, inc11, inc03, inc13, inc23, inc10, inc20, inc21, c17, ix_nI (show k < 2147483648 by omega), mX6_lacks, z2, m1_neg, lk_1]); rw [eq]; exact ⟨rfl, h43⟩) dX0_stands_46
      · refine lv_aload_n hC.1 hC.2.1 dX0_stands_23 rfl (lv_at hl 0 rfl) ?_
        refine lv_aload_n hC.1 hC.2.1 dX0_stands_24 rfl (lv_at hl 0 rfl) ?_
        refine lv_aload_n hC.1 hC.2.1 dX0_stands_25 rfl (lv_at hl 0 rfl) ?_
        refine lv_iload_n hC.1 hC.2.1 dX0_stands_26 rfl (lv_at hl 1 rfl) ?_
        refine lv_iload_n hC.1 hC.2.1 dX0_stands_27 rfl (lv_at hl 2 rfl) ?_
        have t3 : t = 0 ∨ t = 1 ∨ t = 2 := by omega
        rcases t3 with rfl | rfl | rfl
        · have hka : K a = (20 + 1, n) := z7
          refine lv_bipush (v := (nI 16)) hC.1 hC.2.1 dX0_stands_28 (by decide) ?_
          by_cases hin : inB i 0 (nI n - nI 16) = true
          · obtain ⟨j, hj, rfl⟩ := inB_szn (c := 16) z6 (by decide) hin
            refine Z_V (n := 3) (C := RX0) (T := TX0) hC hl.1 hK hX hZ hst hw (by omega) h0.k0 (by decide) rfl (tX0_items_r1 l N ad K I R k j 16 G true a n (h0) (by omega) (z1) (z4) (hka) (z6) (hj)) (lw_V q882 q884 qs21 q60 q885) (by decide +kernel) ⟨by decide, by decide⟩ rfl rfl (Nat.le_of_ble_eq_true rfl) dX0_stands_30 ⟨by simp only [gN]; omega, by simp only [gN]; omega⟩ ?_
            rintro _ N2 ad2 K2 I2 R2 H locs ⟨adl, rfl, e2⟩ hgl hw
            cases e2
            have e_ad2 : ad 0 = ad2 0 := (hgl.2 0 (by omega)).1.symm
            rw [e_ad2] at hl
            rw [e_ad2]
            have h2 := h0.more (N' := N + 1) (K' := va_up K N (20, 16)) (I' := itI I N a j 16) (R' := va_up R N (fun _ => none)) (by omega) (fun m hm => ⟨va_up_ne _ _ (by omega), itI_o (by omega), va_up_ne _ _ (by omega)⟩)
            have ht : ∀ c, c < 16 → itI I N a j 16 N c = G 3 (40 * k + j + c) := fun c hc => by rw [itI_n hc, (z10 (j + c) (by omega)).1, Nat.add_assoc]
            refine M_V (n := 1) (C := RX0) (T := TX0) hC hl.1 hK hX hw (by omega) h2.k0 (by decide) rfl (tX0_standsBy l (N + 1) ad2 (va_up K N (20, 16)) (itI I N a j 16) (va_up R N (fun _ => none)) N (G 6) true (G 3) (40 * k + j) (h2.wb) (by omega) (va_up_self _ _ _) (Or.inr (by omega)) (ht)) (lw_V q894 q896 qs22 q60 q897) (by decide +kernel) ⟨by decide, by decide⟩ rfl rfl (Nat.le_of_ble_eq_true rfl) dX0_stands_33 ⟨by simp only [gN]; omega, by simp only [gN]; omega⟩ ?_
            rintro _ N2 ad3 K2 I33 R33 H locs ⟨I3, R3, e3, rfl, o33⟩ hg hw
            cases e3
            dsimp only at o33
            have h33 := h2.ask0 o33
            refine M_V (n := 1) (C := RX0) (T := TX0) hC hl.1 hK hX hw (by omega) h33.k0 (by decide) rfl (tX0_well l (N + 1) ad2 (va_up K N (20, 16)) I33 R33 (nI (sdV (G 3) (G 6) (40 * k + j))) G true (h33)) (lw_V q341 q343 qs2 q60 q344) (by decide +kernel) ⟨by decide, by decide⟩ rfl rfl (Nat.le_of_ble_eq_true rfl) dX0_stands_36 ⟨by simp only [gN]; omega, by simp only [gN]; omega⟩ ?_
            rintro _ N2 ad2 K2 I36 R36 H locs ⟨I3, R3, e3, rfl, h36⟩ hg hw
            cases e3
            dsimp only at h36
            exact M_iret hC hlk hw hgl.to ⟨by simp only [gN]; omega, by simp only [gN]; omega⟩ hr rfl (by have eq : mX6_stands G (nI k) (nI j) = ((nI (sdV (G 3) (G 6) (40 * k + j))), g2 G 0 3 (nI 0)) := (by simp [mX6_stands, h0.g4, bI_t0, bI_f0, inc01, inc11, inc03, inc13, inc23, inc10, inc20, inc21, c17, ix_nI (show k < 2147483648 by omega), ix_nI (show j < 2147483648 by omega), mX6_lacks, z8, sz_ge z6, hin, lk_0]); rw [eq]; exact ⟨rfl, h36⟩) dX0_stands_39
          · refine T_V (n := 3) (C := RX0) (T := TX0) hC hl.1 hK hX hZ hst hw (by omega) h0.k0 (by decide) rfl (tX0_items_o1 l hl0 N ad K I R k i 16 G true a n (h0) (by omega) (z1) (z4) (hka) (z6) (by decide) (hin)) (lw_V q882 q884 qs21 q60 q885) (by decide +kernel) ⟨by decide, by decide⟩ rfl rfl (Nat.le_of_ble_eq_true rfl) dX0_stands_30 ⟨by simp only [gN]; omega, by simp only [gN]; omega⟩ (fun x0 N2 ad2 K2 I2 R2 H locs e2 hg hw => ?_)
            cases e2
            refine T_catch (pc := 30) htb (h := 47) (fun pl cX hpl hE => rt_miss (pc := 30) (x := ⟨23, 39, 40, 114⟩) hpl hC.2.2.2.1 hE (hC.2.2.2.2 _ q355) (nc_ok 42 (by decide +kernel) hZ) (by decide) (by decide) (rt_hit (pc := 30) (x := ⟨23, 39, 47, 116⟩) hpl hC.2.2.2.1 hE (hC.2.2.2.2 _ q380) (hX _ q395 rfl) (by decide) (by decide))) ?_
            refine lv_astore_n (lv' := [(3, .ref x0), (0, .ref (ad 0)), (1, .int (nI k)), (2, .int i)]) hC.1 hC.2.1 dX0_stands_47 rfl hl (by decide) rfl (fun ls hl => ?_)
            refine lv_aload_n hC.1 hC.2.1 dX0_stands_48 rfl (lv_at hl 1 rfl) ?_
            refine lv_iconst (v := (nI 2)) hC.1 hC.2.1 dX0_stands_49 (by decide) ?_
            refine M_V (n := 1) (C := RX0) (T := TX0) hC hl.1 hK hX hw (by omega) h0.k0 (by decide) rfl (tX0_found l N ad K I R (nI 2) G true (h0)) (lw_V q345 q347 qs3 q60 q348) (by decide +kernel) ⟨by decide, by decide⟩ rfl rfl (Nat.le_of_ble_eq_true rfl) dX0_stands_50 ⟨by simp only [gN]; omega, by simp only [gN]; omega⟩ ?_
            rintro _ N2 ad2 K2 I50 R50 H locs ⟨I3, R3, e3, rfl, h50⟩ hg hw
            cases e3
            dsimp only at h50
            exact M_iret hC hlk hw gGo.rf ⟨by simp only [gN]; omega, by simp only [gN]; omega⟩ hr rfl (by have eq : mX6_stands G (nI k) i = (((-1000010 : Int32) - (nI 2)), g2 G 0 3 (nI 2)) := (by simp [mX6_stands, h0.g4, bI_t0, bI_f0, inc01, inc11, inc03, inc13, inc23, inc10, inc20, inc21, c17, ix_nI (show k < 2147483648 by omega), mX6_lacks, z8, sz_ge z6, hin, lk_2]); rw [eq]; exact ⟨rfl, h50⟩) dX0_stands_53
        · have hka : K a = (20 + 2, n) := z7
          refine lv_bipush (v := (nI 16)) hC.1 hC.2.1 dX0_stands_28 (by decide) ?_
          by_cases hin : inB i 0 (nI n - nI 16) = true
          · obtain ⟨j, hj, rfl⟩ := inB_szn (c := 16) z6 (by decide) hin
            refine Z_V (n := 3) (C := RX0) (T := TX0) hC hl.1 hK hX hZ hst hw (by omega) h0.k0 (by decide) rfl (tX0_items_r2 l N ad K I R k j 16 G true a n (h0) (by omega) (z1) (z4) (hka) (z6) (hj)) (lw_V q882 q884 qs21 q60 q885) (by decide +kernel) ⟨by decide, by decide⟩ rfl rfl (Nat.le_of_ble_eq_true rfl) dX0_stands_30 ⟨by simp only [gN]; omega, by simp only [gN]; omega⟩ ?_
            rintro _ N2 ad2 K2 I2 R2 H locs ⟨adl, rfl, e2⟩ hgl hw
            cases e2
            have e_ad2 : ad 0 = ad2 0 := (hgl.2 0 (by omega)).1.symm
            rw [e_ad2] at hl
            rw [e_ad2]
            have h2 := h0.more (N' := N + 1) (K' := va_up K N (20, 16)) (I' := itI I N a j 16) (R' := va_up R N (fun _ => none)) (by omega) (fun m hm => ⟨va_up_ne _ _ (by omega), itI_o (by omega), va_up_ne _ _ (by omega)⟩)
            have ht : ∀ c, c < 16 → itI I N a j 16 N c = G 3 (40 * k + j + c) := fun c hc => by rw [itI_n hc, (z10 (j + c) (by omega)).1, Nat.add_assoc]
            refine M_V (n := 1) (C := RX0) (T := TX0) hC hl.1 hK hX hw (by omega) h2.k0 (by decide) rfl (tX0_standsBy l (N + 1) ad2 (va_up K N (20, 16)) (itI I N a j 16) (va_up R N (fun _ => none)) N (G 6) true (G 3) (40 * k + j) (h2.wb) (by omega) (va_up_self _ _ _) (Or.inr (by omega)) (ht)) (lw_V q894 q896 qs22 q60 q897) (by decide +kernel) ⟨by decide, by decide⟩ rfl rfl (Nat.le_of_ble_eq_true rfl) dX0_stands_33 ⟨by simp only [gN]; omega, by simp only [gN]; omega⟩ ?_
            rintro _ N2 ad3 K2 I33 R33 H locs ⟨I3, R3, e3, rfl, o33⟩ hg hw
            cases e3
            dsimp only at o33
            have h33 := h2.ask0 o33
            refine M_V (n := 1) (C := RX0) (T := TX0) hC hl.1 hK hX hw (by omega) h33.k0 (by decide) rfl (tX0_well l (N + 1) ad2 (va_up K N (20, 16)) I33 R33 (nI (sdV (G 3) (G 6) (40 * k + j))) G true (h33)) (lw_V q341 q343 qs2 q60 q344) (by decide +kernel) ⟨by decide, by decide⟩ rfl rfl (Nat.le_of_ble_eq_true rfl) dX0_stands_36 ⟨by simp only [gN]; omega, by simp only [gN]; omega⟩ ?_
            rintro _ N2 ad2 K2 I36 R36 H locs ⟨I3, R3, e3, rfl, h36⟩ hg hw
            cases e3
            dsimp only at h36
            exact M_iret hC hlk hw hgl.to ⟨by simp only [gN]; omega, by simp only [gN]; omega⟩ hr rfl (by have eq : mX6_stands G (nI k) (nI j) = ((nI (sdV (G 3) (G 6) (40 * k + j))), g2 G 0 3 (nI 0)) := (by simp [mX6_stands, h0.g4, bI_t0, bI_f0, inc01, inc11, inc03, inc13, inc23, inc10, inc20, inc21, c17, ix_nI (show k < 2147483648 by omega), ix_nI (show j < 2147483648 by omega), mX6_lacks, z8, sz_ge z6, hin, lk_0]); rw [eq]; exact ⟨rfl, h36⟩) dX0_stands_39
          · refine T_V (n := 3) (C := RX0) (T := TX0) hC hl.1 hK hX hZ hst hw (by omega) h0.k0 (by decide) rfl (tX0_items_o2 l hl0 N ad K I R k i 16 G true a n (h0) (by omega) (z1) (z4) (hka) (z6) (by decide) (hin)) (lw_V q882 q884 qs21 q60 q885) (by decide +kernel) ⟨by decide, by decide⟩ rfl rfl (Nat.le_of_ble_eq_true rfl) dX0_stands_30 ⟨by simp only [gN]; omega, by simp only [gN]; omega⟩ (fun x0 N2 ad2 K2 I2 R2 H locs e2 hg hw => ?_)
            cases e2
            refine T_catch (pc := 30) htb (h := 47) (fun pl cX hpl hE => rt_miss (pc := 30) (x := ⟨23, 39, 40, 114⟩) hpl hC.2.2.2.1 hE (hC.2.2.2.2 _ q355) (nc_ok 42 (by decide +kernel) hZ) (by decide) (by decide) (rt_hit (pc := 30) (x := ⟨23, 39, 47, 116⟩) hpl hC.2.2.2.1 hE (hC.2.2.2.2 _ q380) (hX _ q395 rfl) (by decide) (by decide))) ?_
            refine lv_astore_n (lv' := [(3, .ref x0), (0, .ref (ad 0)), (1, .int (nI k)), (2, .int i)]) hC.1 hC.2.1 dX0_stands_47 rfl hl (by decide) rfl (fun ls hl => ?_)
            refine lv_aload_n hC.1 hC.2.1 dX0_stands_48 rfl (lv_at hl 1 rfl) ?_
            refine lv_iconst (v := (nI 2)) hC.1 hC.2.1 dX0_stands_49 (by decide) ?_
            refine M_V (n := 1) (C := RX0) (T := TX0) hC hl.1 hK hX hw (by omega) h0.k0 (by decide) rfl (tX0_found l N ad K I R (nI 2) G true (h0)) (lw_V q345 q347 qs3 q60 q348) (by decide +kernel) ⟨by decide, by decide⟩ rfl rfl (Nat.le_of_ble_eq_true rfl) dX0_stands_50 ⟨by simp only [gN]; omega, by simp only [gN]; omega⟩ ?_
            rintro _ N2 ad2 K2 I50 R50 H locs ⟨I3, R3, e3, rfl, h50⟩ hg hw
            cases e3
            dsimp only at h50
            exact M_iret hC hlk hw gGo.rf ⟨by simp only [gN]; omega, by simp only [gN]; omega⟩ hr rfl (by have eq : mX6_stands G (nI k) i = (((-1000010 : Int32) - (nI 2)), g2 G 0 3 (nI 2)) := (by simp [mX6_stands, h0.g4, bI_t0, bI_f0, inc01, inc11, inc03, inc13, inc23, inc10, inc20, inc21, c17, ix_nI (show k < 2147483648 by omega), mX6_lacks, z8, sz_ge z6, hin, lk_2]); rw [eq]; exact ⟨rfl, h50⟩) dX0_stands_53
        · have hka : K a = (20 + 0, n) := z7
          refine lv_bipush (v := (nI 16)) hC.1 hC.2.1 dX0_stands_28 (by decide) ?_
          by_cases hin : inB i 0 (nI n - nI 16) = true
          · obtain ⟨j, hj, rfl⟩ := inB_szn (c := 16) z6 (by decide) hin
            refine Z_V (n := 3) (C := RX0) (T := TX0) hC hl.1 hK hX hZ hst hw (by omega) h0.k0 (by decide) rfl (tX0_items_r0 l N ad K I R k j 16 G true a n (h0) (by omega) (z1) (z4) (hka) (z6) (hj)) (lw_V q882 q884 qs21 q60 q885) (by decide +kernel) ⟨by decide, by decide⟩ rfl rfl (Nat.le_of_ble_eq_true rfl) dX0_stands_30 ⟨by simp only [gN]; omega, by simp only [gN]; omega⟩ ?_
            rintro _ N2 ad2 K2 I2 R2 H locs ⟨adl, rfl, e2⟩ hgl hw
            cases e2
            have e_ad2 : ad 0 = ad2 0 := (hgl.2 0 (by omega)).1.symm
            rw [e_ad2] at hl
            rw [e_ad2]
            have h2 := h0.more (N' := N + 1) (K' := va_up K N (20, 16)) (I' := itI I N a j 16) (R' := va_up R N (fun _ => none)) (by omega) (fun m hm => ⟨va_up_ne _ _ (by omega), itI_o (by omega), va_up_ne _ _ (by omega)⟩)
            have ht : ∀ c, c < 16 → itI I N a j 16 N c = G 3 (40 * k + j + c) := fun c hc => by rw [itI_n hc, (z10 (j + c) (by omega)).1, Nat.add_assoc]
            refine M_V (n := 1) (C := RX0) (T := TX0) hC hl.1 hK hX hw (by omega) h2.k0 (by decide) rfl (tX0_standsBy l (N + 1) ad2 (va_up K N (20, 16)) (itI I N a j 16) (va_up R N (fun _ => none)) N (G 6) true (G 3) (40 * k + j) (h2.wb) (by omega) (va_up_self _ _ _) (Or.inr (by omega)) (ht)) (lw_V q894 q896 qs22 q60 q897) (by decide +kernel) ⟨by decide, by decide⟩ rfl rfl (Nat.le_of_ble_eq_true rfl) dX0_stands_33 ⟨by simp only [gN]; omega, by simp only [gN]; omega⟩ ?_
            rintro _ N2 ad3 K2 I33 R33 H locs ⟨I3, R3, e3, rfl, o33⟩ hg hw
            cases e3
            dsimp only at o33
            have h33 := h2.ask0 o33
            refine M_V (n := 1) (C := RX0) (T := TX0) hC hl.1 hK hX hw (by omega) h33.k0 (by decide) rfl (tX0_well l (N + 1) ad2 (va_up K N (20, 16)) I33 R33 (nI (sdV (G 3) (G 6) (40 * k + j))) G true (h33)) (lw_V q341 q343 qs2 q60 q344) (by decide +kernel) ⟨by decide, by decide⟩ rfl rfl (Nat.le_of_ble_eq_true rfl) dX0_stands_36 ⟨by simp only [gN]; omega, by simp only [gN]; omega⟩ ?_
            rintro _ N2 ad2 K2 I36 R36 H locs ⟨I3, R3, e3, rfl, h36⟩ hg hw
            cases e3
            dsimp only at h36
            exact M_iret hC hlk hw hgl.to ⟨by simp only [gN]; omega, by simp only [gN]; omega⟩ hr rfl (by have eq : mX6_stands G (nI k) (nI j) = ((nI (sdV (G 3) (G 6) (40 * k + j))), g2 G 0 3 (nI 0)) := (by simp [mX6_stands, h0.g4, bI_t0, bI_f0, inc01, inc11, inc03, inc13, inc23, inc10, inc20, inc21, c17, ix_nI (show k < 2147483648 by omega), ix_nI (show j < 2147483648 by omega), mX6_lacks, z8, sz_ge z6, hin, lk_0]); rw [eq]; exact ⟨rfl, h36⟩) dX0_stands_39
          · refine T_V (n := 3) (C := RX0) (T := TX0) hC hl.1 hK hX hZ hst hw (by omega) h0.k0 (by decide) rfl (tX0_items_o0 l hl0 N ad K I R k i 16 G true a n (h0) (by omega) (z1) (z4) (hka) (z6) (by decide) (hin)) (lw_V q882 q884 qs21 q60 q885) (by decide +kernel) ⟨by decide, by decide⟩ rfl rfl (Nat.le_of_ble_eq_true rfl) dX0_stands_30 ⟨by simp only [gN]; omega, by simp only [gN]; omega⟩ (fun x0 N2 ad2 K2 I2 R2 H locs e2 hg hw => ?_)
            cases e2
            refine T_catch (pc := 30) htb (h := 47) (fun pl cX hpl hE => rt_miss (pc := 30) (x := ⟨23, 39, 40, 114⟩) hpl hC.2.2.2.1 hE (hC.2.2.2.2 _ q355) (nc_ok 42 (by decide +kernel) hZ) (by decide) (by decide) (rt_hit (pc := 30) (x := ⟨23, 39, 47, 116⟩) hpl hC.2.2.2.1 hE (hC.2.2.2.2 _ q380) (hX _ q395 rfl) (by decide) (by decide))) ?_
            refine lv_astore_n (lv' := [(3, .ref x0), (0, .ref (ad 0)), (1, .int (nI k)), (2, .int i)]) hC.1 hC.2.1 dX0_stands_47 rfl hl (by decide) rfl (fun ls hl => ?_)
            refine lv_aload_n hC.1 hC.2.1 dX0_stands_48 rfl (lv_at hl 1 rfl) ?_
            refine lv_iconst (v := (nI 2)) hC.1 hC.2.1 dX0_stands_49 (by decide) ?_
            refine M_V (n := 1) (C := RX0) (T := TX0) hC hl.1 hK hX hw (by omega) h0.k0 (by decide) rfl (tX0_found l N ad K I R (nI 2) G true (h0)) (lw_V q345 q347 qs3 q60 q348) (by decide +kernel) ⟨by decide, by decide⟩ rfl rfl (Nat.le_of_ble_eq_true rfl) dX0_stands_50 ⟨by simp only [gN]; omega, by simp only [gN]; omega⟩ ?_
            rintro _ N2 ad2 K2 I50 R50 H locs ⟨I3, R3, e3, rfl, h50⟩ hg hw
            cases e3
            dsimp only at h50
            exact M_iret hC hlk hw gGo.rf ⟨by simp only [gN]; omega, by simp only [gN]; omega⟩ hr rfl (by have eq : mX6_stands G (nI k) i = (((-1000010 : Int32) - (nI 2)), g2 G 0 3 (nI 2)) := (by simp [mX6_stands, h0.g4, bI_t0, bI_f0, inc01, inc11, inc03, inc13, inc23, inc10, inc20, inc21, c17, ix_nI (show k < 2147483648 by omega), mX6_lacks, z8, sz_ge z6, hin, lk_2]); rw [eq]; exact ⟨rfl, h50⟩) dX0_stands_53
    · refine lv_ldc hC.1 hC.2.1 hC.2.2.2.1 (hC.2.2.2.2 _ q337) dX0_stands_20 ?_
      exact M_iret hC hlk hw gGo.rf ⟨by simp only [gN]; omega, by simp only [gN]; omega⟩ hr rfl (by have eq : mX6_stands G row i = ((-1000001 : Int32), G) := (by simp [mX6_stands, h0.g4, bI_t0, bI_f0, inc01, inc11, inc03, inc13, inc23, inc10, inc20, inc21, c17]); rw [eq]; exact ⟨rfl, h0⟩) dX0_stands_22
  · refine lv_ldc hC.1 hC.2.1 hC.2.2.2.1 (hC.2.2.2.2 _ q703) dX0_stands_10 ?_
    exact M_iret hC hlk hw gGo.rf ⟨by simp only [gN]; omega, by simp only [gN]; omega⟩ hr rfl (by have eq : mX6_stands G row i = ((-1000002 : Int32), G) := (by simp [mX6_stands, h0.g4, bI_t0, bI_f0, inc01, inc11, inc03, inc13, inc23, inc10, inc20, inc21, c7]); rw [eq]; exact ⟨rfl, h0⟩) dX0_stands_12

set_option maxHeartbeats 800000 in
theorem tX0_hidden (l : Launch) (hl0 : l.stackTraces = false) (N : Nat) (ad : Nat → Nat) (K : gK) (I : mG) (R : gR) (kind : Int32) (y : Int32) (row : Int32) (i : Int32) (G : mG) (b : Bool) (h0 : wcR N K I R G b) : gMZ l yX0_hidden (wsW_ yX0_hidden cX0_hidden 6 (some FieldType.int) [(37, 55, 56, 114), (37, 55, 64, 116)]) ({ frames := 10, cells := 17, slots := 254, locals := 10286 } : Room) [.ref (ad 0), .int kind, .int y, .int row, .int i] N ad K I R (fun v S => v = some (.int (mX6_hidden G kind y row i).1) ∧ wcR S.1 S.2.2.1 S.2.2.2.1 S.2.2.2.2 (mX6_hidden G kind y row i).2 b) := by
  refine gMZ.ofH (by decide) (Nat.le_of_ble_eq_true rfl) ?_
  intro D dA p e s m args below meth cd ls hC hlk hr htb hK hX hZ hst hl hw
  have hl : lv_has ls 6 [(0, .ref (ad 0)), (1, .int kind), (2, .int y), (3, .int row), (4, .int i)] := hl
  have hge := h0.ge
  refine lv_aload_n hC.1 hC.2.1 dX0_hidden_0 rfl (lv_at hl 0 rfl) ?_
  refine x_ga hC hK hw (by omega) h0.k0 4 11 h0.r4 (by decide) rfl q206 rfl dX0_hidden_1 ?_
  refine p_gi hC hK hw h0.ps.1 0 (by decide) rfl q124 rfl (v := (bI b)) (h0.told) dX0_hidden_4 ?_
  refine k_bne (tgt := 13) hC dX0_hidden_7 (by decide) (fun c7 => ?_) (fun c7 => ?_)
  · subst c7
    refine lv_iload_n hC.1 hC.2.1 dX0_hidden_13 rfl (lv_at hl 1 rfl) ?_
    refine pS_call (n := 1) hC hl.1 (tX0_isKind l kind ) (lw_S q708 q709 q60 q710) rfl rfl (by decide +kernel) ⟨by decide, by decide⟩ rfl rfl (Nat.le_of_ble_eq_true rfl) dX0_hidden_14 ⟨Nat.zero_le _, Nat.zero_le _⟩ ?_
    refine k_beq (tgt := 34) hC dX0_hidden_17 (by decide) (fun c17 => ?_) (fun c17 => ?_)
    · refine lv_ldc hC.1 hC.2.1 hC.2.2.2.1 (hC.2.2.2.2 _ q337) dX0_hidden_34 ?_
      exact M_iret hC hlk hw gGo.rf ⟨by simp only [gN]; omega, by simp only [gN]; omega⟩ hr rfl (by have eq : mX6_hidden G kind y row i = ((-1000001 : Int32), G) := (by simp [mX6_hidden, h0.g4, bI_t0, bI_f0, inc01, inc11, inc03, inc13, inc23, inc10, inc20, inc21, c17]); rw [eq]; exact ⟨rfl, h0⟩) dX0_hidden_36
    · obtain ⟨z, hz0, hz, rfl⟩ := inB_nat1 (a := 1) (n := 5) (by decide) (by decide) c17
      refine lv_iload_n hC.1 hC.2.1 dX0_hidden_20 rfl (lv_at hl 2 rfl) ?_
      refine pS_call (n := 1) hC hl.1 (tX0_isSide l y ) (lw_S q753 q754 q60 q755) rfl rfl (by decide +kernel) ⟨by decide, by decide⟩ rfl rfl (Nat.le_of_ble_eq_true rfl) dX0_hidden_21 ⟨Nat.zero_le _, Nat.zero_le _⟩ ?_
      refine k_beq (tgt := 34) hC dX0_hidden_24 (by decide) (fun c24 => ?_) (fun c24 => ?_)
      · refine lv_ldc hC.1 hC.2.1 hC.2.2.2.1 (hC.2.2.2.2 _ q337) dX0_hidden_34 ?_
        exact M_iret hC hlk hw gGo.rf ⟨by simp only [gN]; omega, by simp only [gN]; omega⟩ hr rfl (by have eq : mX6_hidden G (nI z) y row i = ((-1000001 : Int32), G) := (by simp [mX6_hidden, h0.g4, bI_t0, bI_f0, inc01, inc11, inc03, inc13, inc23, inc10, inc20, inc21, c17, c24, ix_nI (show z < 2147483648 by omega)]); rw [eq]; exact ⟨rfl, h0⟩) dX0_hidden_36
      · obtain ⟨t_, ht_, rfl⟩ := inB_nat (n := 3) (by decide) c24
        refine lv_iload_n hC.1 hC.2.1 dX0_hidden_27 rfl (lv_at hl 3 rfl) ?_
        refine pS_call (n := 1) hC hl.1 (tX0_isRow l row ) (lw_S q329 q330 q60 q331) rfl rfl (by decide +kernel) ⟨by decide, by decide⟩ rfl rfl (Nat.le_of_ble_eq_true rfl) dX0_hidden_28 ⟨Nat.zero_le _, Nat.zero_le _⟩ ?_
        refine k_bne (tgt := 37) hC dX0_hidden_31 (by decide) (fun c31 => ?_) (fun c31 => ?_)
        · obtain ⟨k, hk, rfl⟩ := inB_nat (n := 7) (by decide) c31
          have hks : (K (2 + k)).1 = 1 := (h0.1.2.2.2.2.2.2 k (by omega)).2
          rcases h0.2.2.2.2.2.1.1 k (by omega) with ⟨z1, z2⟩ | ⟨a, n, t, z1, z3, z4, z5, z6, z7, z8, z9, z10, z11⟩
          · refine lv_aload_n hC.1 hC.2.1 dX0_hidden_37 rfl (lv_at hl 0 rfl) ?_
            refine lv_aload_n hC.1 hC.2.1 dX0_hidden_38 rfl (lv_at hl 0 rfl) ?_
            refine lv_iload_n hC.1 hC.2.1 dX0_hidden_39 rfl (lv_at hl 1 rfl) ?_
            refine lv_iload_n hC.1 hC.2.1 dX0_hidden_40 rfl (lv_at hl 2 rfl) ?_
            refine lv_aload_n hC.1 hC.2.1 dX0_hidden_41 rfl (lv_at hl 0 rfl) ?_
            refine lv_iload_n hC.1 hC.2.1 dX0_hidden_42 rfl (lv_at hl 3 rfl) ?_
            refine lv_iload hC.1 hC.2.1 dX0_hidden_43 (lv_at hl 4 rfl) ?_
            refine lv_iconst (v := (nI 4)) hC.1 hC.2.1 dX0_hidden_45 (by decide) ?_
            refine T_V (n := 3) (C := RX0) (T := TX0) hC hl.1 hK hX hZ hst hw (by omega) h0.k0 (by decide) rfl (tX0_items_n l hl0 N ad K I R k i 4 G true (h0) (by omega) (z1)) (lw_V q882 q884 qs21 q60 q885) (by decide +kernel) ⟨by decide, by decide⟩ rfl rfl (Nat.le_of_ble_eq_true rfl) dX0_hidden_46 ⟨by simp only [gN]; omega, by simp only [gN]; omega⟩ (fun x0 N2 ad2 K2 I2 R2 H locs e2 hg hw => ?_)
            cases e2
            refine T_catch (pc := 46) htb (h := 56) (fun pl cX hpl hE => rt_hit (pc := 46) (x := ⟨37, 55, 56, 114⟩) hpl hC.2.2.2.1 hE (hC.2.2.2.2 _ q355) (hX _ q377 rfl) (by decide) (by decide)) ?_
            refine lv_astore (lv' := [(5, .ref x0), (0, .ref (ad 0)), (1, .int (nI z)), (2, .int (nI t_)), (3, .int (nI k)), (4, .int i)]) hC.1 hC.2.1 dX0_hidden_56 hl (by decide) rfl (fun ls hl => ?_)
            refine lv_aload_n hC.1 hC.2.1 dX0_hidden_58 rfl (lv_at hl 1 rfl) ?_
            refine lv_iconst (v := (nI 1)) hC.1 hC.2.1 dX0_hidden_59 (by decide) ?_
            refine M_V (n := 1) (C := RX0) (T := TX0) hC hl.1 hK hX hw (by omega) h0.k0 (by decide) rfl (tX0_found l N ad K I R (nI 1) G true (h0)) (lw_V q345 q347 qs3 q60 q348) (by decide +kernel) ⟨by decide, by decide⟩ rfl rfl (Nat.le_of_ble_eq_true rfl) dX0_hidden_60 ⟨by simp only [gN]; omega, by simp only [gN]; omega⟩ ?_
            rintro _ N2 ad2 K2 I60 R60 H locs ⟨I3, R3, e3, rfl, h60⟩ hg hw
            cases e3
            dsimp only at h60
            exact M_iret hC hlk hw gGo.rf ⟨by simp only [gN]; omega, by simp only [gN]; omega⟩ hr rfl (by have eq : mX6_hidden G (nI z) (nI t_) (nI k) i = (((-1000010 : Int32) - (nI 1)), g2 G 0 3 (nI 1)) := (by simp [mX6_hidden, h0.g4, bI_t0, bI_f0, inc01, inc11, inc03, inc13, inc23, inc10, inc20, inc21, c17, c24, c31, ix_nI (show z < 2147483648 by omega), ix_nI (show t_ < 2147483648 by omega), ix_nI (show k < 2147483648 by omega), mX6_lacks, z2, m1_neg, lk_1]); rw [eq]; exact ⟨rfl, h60⟩) dX0_hidden_63
          · refine lv_aload_n hC.1 hC.2.1 dX0_hidden_37 rfl (lv_at hl 0 rfl) ?_
            refine lv_aload_n hC.1 hC.2.1 dX0_hidden_38 rfl (lv_at hl 0 rfl) ?_
            refine lv_iload_n hC.1 hC.2.1 dX0_hidden_39 rfl (lv_at hl 1 rfl) ?_
            refine lv_iload_n hC.1 hC.2.1 dX0_hidden_40 rfl (lv_at hl 2 rfl) ?_
            refine lv_aload_n hC.1 hC.2.1 dX0_hidden_41 rfl (lv_at hl 0 rfl) ?_
            refine lv_iload_n hC.1 hC.2.1 dX0_hidden_42 rfl (lv_at hl 3 rfl) ?_
            refine lv_iload hC.1 hC.2.1 dX0_hidden_43 (lv_at hl 4 rfl) ?_
            have t3 : t = 0 ∨ t = 1 ∨ t = 2 := by omega
            rcases t3 with rfl | rfl | rfl
            · have hka : K a = (20 + 1, n) := z7
              refine lv_iconst (v := (nI 4)) hC.1 hC.2.1 dX0_hidden_45 (by decide) ?_
              by_cases hin : inB i 0 (nI n - nI 4) = true
              · obtain ⟨j, hj, rfl⟩ := inB_szn (c := 4) z6 (by decide) hin
                refine Z_V (n := 3) (C := RX0) (T := TX0) hC hl.1 hK hX hZ hst hw (by omega) h0.k0 (by decide) rfl (tX0_items_r1 l N ad K I R k j 4 G true a n (h0) (by omega) (z1) (z4) (hka) (z6) (hj)) (lw_V q882 q884 qs21 q60 q885) (by decide +kernel) ⟨by decide, by decide⟩ rfl rfl (Nat.le_of_ble_eq_true rfl) dX0_hidden_46 ⟨by simp only [gN]; omega, by simp only [gN]; omega⟩ ?_
                rintro _ N2 ad2 K2 I2 R2 H locs ⟨adl, rfl, e2⟩ hgl hw
                cases e2
                have e_ad2 : ad 0 = ad2 0 := (hgl.2 0 (by omega)).1.symm
                rw [e_ad2] at hl
                rw [e_ad2]
                have h2 := h0.more (N' := N + 1) (K' := va_up K N (20, 4)) (I' := itI I N a j 4) (R' := va_up R N (fun _ => none)) (by omega) (fun m hm => ⟨va_up_ne _ _ (by omega), itI_o (by omega), va_up_ne _ _ (by omega)⟩)
                have ht : ∀ c, c < 4 → itI I N a j 4 N c = G 3 (40 * k + j + c) := fun c hc => by rw [itI_n hc, (z10 (j + c) (by omega)).1, Nat.add_assoc]
                refine M_V (n := 3) (C := RX0) (T := TX0) hC hl.1 hK hX hw (by omega) h2.k0 (by decide) rfl (tX0_hiddenBy l (N + 1) ad2 (va_up K N (20, 4)) (itI I N a j 4) (va_up R N (fun _ => none)) z t_ N G true (G 3) (40 * k + j) (h2) (⟨hz0, hz⟩) (by omega) (by omega) (va_up_self _ _ _) (Or.inr (by omega)) (ht)) (lw_V q915 q917 qs25 q60 q918) (by decide +kernel) ⟨by decide, by decide⟩ rfl rfl (Nat.le_of_ble_eq_true rfl) dX0_hidden_49 ⟨by simp only [gN]; omega, by simp only [gN]; omega⟩ ?_
                rintro _ N3 ad3 K3 I3 R3 H locs ⟨rfl, h3⟩ hg3 hw
                dsimp only at h3
                have ge3 := h3.ge
                have e_ad3 : ad2 0 = ad3 0 := (hg3.2 0 (by omega)).1.symm
                rw [e_ad3] at hl
                rw [e_ad3]
                have g3 := gGo.tr hgl hg3
                refine M_V (n := 1) (C := RX0) (T := TX0) hC hl.1 hK hX hw (by omega) h3.k0 (by decide) rfl (tX0_well l N3 ad3 K3 I3 R3 (hdF (G 3) (G 6) (nI z) (40 * k + j) t_ 16) G true (h3)) (lw_V q341 q343 qs2 q60 q344) (by decide +kernel) ⟨by decide, by decide⟩ rfl rfl (Nat.le_of_ble_eq_true rfl) dX0_hidden_52 ⟨by simp only [gN]; omega, by simp only [gN]; omega⟩ ?_
                rintro _ N2 ad2 K2 I52 R52 H locs ⟨I3, R3, e3, rfl, h52⟩ hg hw
                cases e3
                dsimp only at h52
                exact M_iret hC hlk hw g3.to ⟨by simp only [gN]; omega, by simp only [gN]; omega⟩ hr rfl (by have eq : mX6_hidden G (nI z) (nI t_) (nI k) (nI j) = ((hdF (G 3) (G 6) (nI z) (40 * k + j) t_ 16), g2 G 0 3 (nI 0)) := (by simp [mX6_hidden, h0.g4, bI_t0, bI_f0, inc01, inc11, inc03, inc13, inc23, inc10, inc20, inc21, c17, c24, c31, ix_nI (show z < 2147483648 by omega), ix_nI (show t_ < 2147483648 by omega), ix_nI (show k < 2147483648 by omega), ix_nI (show j < 2147483648 by omega), mX6_lacks, z8, sz_ge z6, hin, lk_0]); rw [eq]; exact ⟨rfl, h52⟩) dX0_hidden_55
              · refine T_V (n := 3) (C := RX0) (T := TX0) hC hl.1 hK hX hZ hst hw (by omega) h0.k0 (by decide) rfl (tX0_items_o1 l hl0 N ad K I R k i 4 G true a n (h0) (by omega) (z1) (z4) (hka) (z6) (by decide) (hin)) (lw_V q882 q884 qs21 q60 q885) (by decide +kernel) ⟨by decide, by decide⟩ rfl rfl (Nat.le_of_ble_eq_true rfl) dX0_hidden_46 ⟨by simp only [gN]; omega, by simp only [gN]; omega⟩ (fun x0 N2 ad2 K2 I2 R2 H locs e2 hg hw => ?_)
                cases e2
                refine T_catch (pc := 46) htb (h := 64) (fun pl cX hpl hE => rt_miss (pc := 46) (x := ⟨37, 55, 56, 114⟩) hpl hC.2.2.2.1 hE (hC.2.2.2.2 _ q355) (nc_ok 42 (by decide +kernel) hZ) (by decide) (by decide) (rt_hit (pc := 46) (x := ⟨37, 55, 64, 116⟩) hpl hC.2.2.2.1 hE (hC.2.2.2.2 _ q380) (hX _ q395 rfl) (by decide) (by decide))) ?_
                refine lv_astore (lv' := [(5, .ref x0), (0, .ref (ad 0)), (1, .int (nI z)), (2, .int (nI t_)), (3, .int (nI k)), (4, .int i)]) hC.1 hC.2.1 dX0_hidden_64 hl (by decide) rfl (fun ls hl => ?_)
                refine lv_aload_n hC.1 hC.2.1 dX0_hidden_66 rfl (lv_at hl 1 rfl) ?_
                refine lv_iconst (v := (nI 2)) hC.1 hC.2.1 dX0_hidden_67 (by decide) ?_
                refine M_V (n := 1) (C := RX0) (T := TX0) hC hl.1 hK hX hw (by omega) h0.k0 (by decide) rfl (tX0_found l N ad K I R (nI 2) G true (h0)) (lw_V q345 q347 qs3 q60 q348) (by decide +kernel) ⟨by decide, by decide⟩ rfl rfl (Nat.le_of_ble_eq_true rfl) dX0_hidden_68 ⟨by simp only [gN]; omega, by simp only [gN]; omega⟩ ?_
                rintro _ N2 ad2 K2 I68 R68 H locs ⟨I3, R3, e3, rfl, h68⟩ hg hw
                cases e3
                dsimp only at h68
                exact M_iret hC hlk hw gGo.rf ⟨by simp only [gN]; omega, by simp only [gN]; omega⟩ hr rfl (by have eq : mX6_hidden G (nI z) (nI t_) (nI k) i = (((-1000010 : Int32) - (nI 2)), g2 G 0 3 (nI 2)) := (by simp [mX6_hidden, h0.g4, bI_t0, bI_f0, inc01, inc11, inc03, inc13, inc23, inc10, inc20, inc21, c17, c24, c31, ix_nI (show z < 2147483648 by omega), ix_nI (show t_ < 2147483648 by omega), ix_nI (show k < 2147483648 by omega), mX6_lacks, z8, sz_ge z6, hin, lk_2]); rw [eq]; exact ⟨rfl, h68⟩) dX0_hidden_71
            · have hka : K a = (20 + 2, n) := z7
              refine lv_iconst (v := (nI 4)) hC.1 hC.2.1 dX0_hidden_45 (by decide) ?_
              by_cases hin : inB i 0 (nI n - nI 4) = true
              · obtain ⟨j, hj, rfl⟩ := inB_szn (c := 4) z6 (by decide) hin
                refine Z_V (n := 3) (C := RX0) (T := TX0) hC hl.1 hK hX hZ hst hw (by omega) h0.k0 (by decide) rfl (tX0_items_r2 l N ad K I R k j 4 G true a n (h0) (by omega) (z1) (z4) (hka) (z6) (hj)) (lw_V q882 q884 qs21 q60 q885) (by decide +kernel) ⟨by decide, by decide⟩ rfl rfl (Nat.le_of_ble_eq_true rfl) dX0_hidden_46 ⟨by simp only [gN]; omega, by simp only [gN]; omega⟩ ?_
                rintro _ N2 ad2 K2 I2 R2 H locs ⟨adl, rfl, e2⟩ hgl hw
                cases e2
                have e_ad2 : ad 0 = ad2 0 := (hgl.2 0 (by omega)).1.symm
                rw [e_ad2] at hl
                rw [e_ad2]
                have h2 := h0.more (N' := N + 1) (K' := va_up K N (20, 4)) (I' := itI I N a j 4) (R' := va_up R N (fun _ => none)) (by omega) (fun m hm => ⟨va_up_ne _ _ (by omega), itI_o (by omega), va_up_ne _ _ (by omega)⟩)
                have ht : ∀ c, c < 4 → itI I N a j 4 N c = G 3 (40 * k + j + c) := fun c hc => by rw [itI_n hc, (z10 (j + c) (by omega)).1, Nat.add_assoc]
                refine M_V (n := 3) (C := RX0) (T := TX0) hC hl.1 hK hX hw (by omega) h2.k0 (by decide) rfl (tX0_hiddenBy l (N + 1) ad2 (va_up K N (20, 4)) (itI I N a j 4) (va_up R N (fun _ => none)) z t_ N G true (G 3) (40 * k + j) (h2) (⟨hz0, hz⟩) (by omega) (by omega) (va_up_self _ _ _) (Or.inr (by omega)) (ht)) (lw_V q915 q917 qs25 q60 q918) (by decide +kernel) ⟨by decide, by decide⟩ rfl rfl (Nat.le_of_ble_eq_true rfl) dX0_hidden_49 ⟨by simp only [gN]; omega, by simp only [gN]; omega⟩ ?_
                rintro _ N3 ad3 K3 I3 R3 H locs ⟨rfl, h3⟩ hg3 hw
                dsimp only at h3
                have ge3 := h3.ge
                have e_ad3 : ad2 0 = ad3 0 := (hg3.2 0 (by omega)).1.symm
                rw [e_ad3] at hl
                rw [e_ad3]
                have g3 := gGo.tr hgl hg3
                refine M_V (n := 1) (C := RX0) (T := TX0) hC hl.1 hK hX hw (by omega) h3.k0 (by decide) rfl (tX0_well l N3 ad3 K3 I3 R3 (hdF (G 3) (G 6) (nI z) (40 * k + j) t_ 16) G true (h3)) (lw_V q341 q343 qs2 q60 q344) (by decide +kernel) ⟨by decide, by decide⟩ rfl rfl (Nat.le_of_ble_eq_true rfl) dX0_hidden_52 ⟨by simp only [gN]; omega, by simp only [gN]; omega⟩ ?_
                rintro _ N2 ad2 K2 I52 R52 H locs ⟨I3, R3, e3, rfl, h52⟩ hg hw
                cases e3
                dsimp only at h52
                exact M_iret hC hlk hw g3.to ⟨by simp only [gN]; omega, by simp only [gN]; omega⟩ hr rfl (by have eq : mX6_hidden G (nI z) (nI t_) (nI k) (nI j) = ((hdF (G 3) (G 6) (nI z) (40 * k + j) t_ 16), g2 G 0 3 (nI 0)) := (by simp [mX6_hidden, h0.g4, bI_t0, bI_f0, inc01, inc11, inc03, inc13, inc23, inc10, inc20, inc21, c17, c24, c31, ix_nI (show z < 2147483648 by omega), ix_nI (show t_ < 2147483648 by omega), ix_nI (show k < 2147483648 by omega), ix_nI (show j < 2147483648 by omega), mX6_lacks, z8, sz_ge z6, hin, lk_0]); rw [eq]; exact ⟨rfl, h52⟩) dX0_hidden_55
              · refine T_V (n := 3) (C := RX0) (T := TX0) hC hl.1 hK hX hZ hst hw (by omega) h0.k0 (by decide) rfl (tX0_items_o2 l hl0 N ad K I R k i 4 G true a n (h0) (by omega) (z1) (z4) (hka) (z6) (by decide) (hin)) (lw_V q882 q884 qs21 q60 q885) (by decide +kernel) ⟨by decide, by decide⟩ rfl rfl (Nat.le_of_ble_eq_true rfl) dX0_hidden_46 ⟨by simp only [gN]; omega, by simp only [gN]; omega⟩ (fun x0 N2 ad2 K2 I2 R2 H locs e2 hg hw => ?_)
                cases e2
                refine T_catch (pc := 46) htb (h := 64) (fun pl cX hpl hE => rt_miss (pc := 46) (x := ⟨37, 55, 56, 114⟩) hpl hC.2.2.2.1 hE (hC.2.2.2.2 _ q355) (nc_ok 42 (by decide +kernel) hZ) (by decide) (by decide) (rt_hit (pc := 46) (x := ⟨37, 55, 64, 116⟩) hpl hC.2.2.2.1 hE (hC.2.2.2.2 _ q380) (hX _ q395 rfl) (by decide) (by decide))) ?_
                refine lv_astore (lv' := [(5, .ref x0), (0, .ref (ad 0)), (1, .int (nI z)), (2, .int (nI t_)), (3, .int (nI k)), (4, .int i)]) hC.1 hC.2.1 dX0_hidden_64 hl (by decide) rfl (fun ls hl => ?_)
                refine lv_aload_n hC.1 hC.2.1 dX0_hidden_66 rfl (lv_at hl 1 rfl) ?_
                refine lv_iconst (v := (nI 2)) hC.1 hC.2.1 dX0_hidden_67 (by decide) ?_
                refine M_V (n := 1) (C := RX0) (T := TX0) hC hl.1 hK hX hw (by omega) h0.k0 (by decide) rfl (tX0_found l N ad K I R (nI 2) G true (h0)) (lw_V q345 q347 qs3 q60 q348) (by decide +kernel) ⟨by decide, by decide⟩ rfl rfl (Nat.le_of_ble_eq_true rfl) dX0_hidden_68 ⟨by simp only [gN]; omega, by simp only [gN]; omega⟩ ?_
                rintro _ N2 ad2 K2 I68 R68 H locs ⟨I3, R3, e3, rfl, h68⟩ hg hw
                cases e3
                dsimp only at h68
                exact M_iret hC hlk hw gGo.rf ⟨by simp only [gN]; omega, by simp only [gN]; omega⟩ hr rfl (by have eq : mX6_hidden G (nI z) (nI t_) (nI k) i = (((-1000010 : Int32) - (nI 2)), g2 G 0 3 (nI 2)) := (by simp [mX6_hidden, h0.g4, bI_t0, bI_f0, inc01, inc11, inc03, inc13, inc23, inc10, inc20, inc21, c17, c24, c31, ix_nI (show z < 2147483648 by omega), ix_nI (show t_ < 2147483648 by omega), ix_nI (show k < 2147483648 by omega), mX6_lacks, z8, sz_ge z6, hin, lk_2]); rw [eq]; exact ⟨rfl, h68⟩) dX0_hidden_71
            · have hka : K a = (20 + 0, n) := z7
              refine lv_iconst (v := (nI 4)) hC.1 hC.2.1 dX0_hidden_45 (by decide) ?_
              by_cases hin : inB i 0 (nI n - nI 4) = true
              · obtain ⟨j, hj, rfl⟩ := inB_szn (c := 4) z6 (by decide) hin
                refine Z_V (n := 3) (C := RX0) (T := TX0) hC hl.1 hK hX hZ hst hw (by omega) h0.k0 (by decide) rfl (tX0_items_r0 l N ad K I R k j 4 G true a n (h0) (by omega) (z1) (z4) (hka) (z6) (hj)) (lw_V q882 q884 qs21 q60 q885) (by decide +kernel) ⟨by decide, by decide⟩ rfl rfl (Nat.le_of_ble_eq_true rfl) dX0_hidden_46 ⟨by simp only [gN]; omega, by simp only [gN]; omega⟩ ?_
                rintro _ N2 ad2 K2 I2 R2 H locs ⟨adl, rfl, e2⟩ hgl hw
                cases e2
                have e_ad2 : ad 0 = ad2 0 := (hgl.2 0 (by omega)).1.symm
                rw [e_ad2] at hl
                rw [e_ad2]
                have h2 := h0.more (N' := N + 1) (K' := va_up K N (20, 4)) (I' := itI I N a j 4) (R' := va_up R N (fun _ => none)) (by omega) (fun m hm => ⟨va_up_ne _ _ (by omega), itI_o (by omega), va_up_ne _ _ (by omega)⟩)
                have ht : ∀ c, c < 4 → itI I N a j 4 N c = G 3 (40 * k + j + c) := fun c hc => by rw [itI_n hc, (z10 (j + c) (by omega)).1, Nat.add_assoc]
                refine M_V (n := 3) (C := RX0) (T := TX0) hC hl.1 hK hX hw (by omega) h2.k0 (by decide) rfl (tX0_hiddenBy l (N + 1) ad2 (va_up K N (20, 4)) (itI I N a j 4) (va_up R N (fun _ => none)) z t_ N G true (G 3) (40 * k + j) (h2) (⟨hz0, hz⟩) (by omega) (by omega) (va_up_self _ _ _) (Or.inr (by omega)) (ht)) (lw_V q915 q917 qs25 q60 q918) (by decide +kernel) ⟨by decide, by decide⟩ rfl rfl (Nat.le_of_ble_eq_true rfl) dX0_hidden_49 ⟨by simp only [gN]; omega, by simp only [gN]; omega⟩ ?_
                rintro _ N3 ad3 K3 I3 R3 H locs ⟨rfl, h3⟩ hg3 hw
                dsimp only at h3
                have ge3 := h3.ge
                have e_ad3 : ad2 0 = ad3 0 := (hg3.2 0 (by omega)).1.symm
                rw [e_ad3] at hl
                rw [e_ad3]
                have g3 := gGo.tr hgl hg3
                refine M_V (n := 1) (C := RX0) (T := TX0) hC hl.1 hK hX hw (by omega) h3.k0 (by decide) rfl (tX0_well l N3 ad3 K3 I3 R3 (hdF (G 3) (G 6) (nI z) (40 * k + j) t_ 16) G true (h3)) (lw_V q341 q343 qs2 q60 q344) (by decide +kernel) ⟨by decide, by decide⟩ rfl rfl (Nat.le_of_ble_eq_true rfl) dX0_hidden_52 ⟨by simp only [gN]; omega, by simp only [gN]; omega⟩ ?_
                rintro _ N2 ad2 K2 I52 R52 H locs ⟨I3, R3, e3, rfl, h52⟩ hg hw
                cases e3
                dsimp only at h52
                exact M_iret hC hlk hw g3.to ⟨by simp only [gN]; omega, by simp only [gN]; omega⟩ hr rfl (by have eq : mX6_hidden G (nI z) (nI t_) (nI k) (nI j) = ((hdF (G 3) (G 6) (nI z) (40 * k + j) t_ 16), g2 G 0 3 (nI 0)) := (by simp [mX6_hidden, h0.g4, bI_t0, bI_f0, inc01, inc11, inc03, inc13, inc23, inc10, inc20, inc21, c17, c24, c31, ix_nI (show z < 2147483648 by omega), ix_nI (show t_ < 2147483648 by omega), ix_nI (show k < 2147483648 by omega), ix_nI (show j < 2147483648 by omega), mX6_lacks, z8, sz_ge z6, hin, lk_0]); rw [eq]; exact ⟨rfl, h52⟩) dX0_hidden_55
              · refine T_V (n := 3) (C := RX0) (T := TX0) hC hl.1 hK hX hZ hst hw (by omega) h0.k0 (by decide) rfl (tX0_items_o0 l hl0 N ad K I R k i 4 G true a n (h0) (by omega) (z1) (z4) (hka) (z6) (by decide) (hin)) (lw_V q882 q884 qs21 q60 q885) (by decide +kernel) ⟨by decide, by decide⟩ rfl rfl (Nat.le_of_ble_eq_true rfl) dX0_hidden_46 ⟨by simp only [gN]; omega, by simp only [gN]; omega⟩ (fun x0 N2 ad2 K2 I2 R2 H locs e2 hg hw => ?_)
                cases e2
                refine T_catch (pc := 46) htb (h := 64) (fun pl cX hpl hE => rt_miss (pc := 46) (x := ⟨37, 55, 56, 114⟩) hpl hC.2.2.2.1 hE (hC.2.2.2.2 _ q355) (nc_ok 42 (by decide +kernel) hZ) (by decide) (by decide) (rt_hit (pc := 46) (x := ⟨37, 55, 64, 116⟩) hpl hC.2.2.2.1 hE (hC.2.2.2.2 _ q380) (hX _ q395 rfl) (by decide) (by decide))) ?_
                refine lv_astore (lv' := [(5, .ref x0), (0, .ref (ad 0)), (1, .int (nI z)), (2, .int (nI t_)), (3, .int (nI k)), (4, .int i)]) hC.1 hC.2.1 dX0_hidden_64 hl (by decide) rfl (fun ls hl => ?_)
                refine lv_aload_n hC.1 hC.2.1 dX0_hidden_66 rfl (lv_at hl 1 rfl) ?_
                refine lv_iconst (v := (nI 2)) hC.1 hC.2.1 dX0_hidden_67 (by decide) ?_
                refine M_V (n := 1) (C := RX0) (T := TX0) hC hl.1 hK hX hw (by omega) h0.k0 (by decide) rfl (tX0_found l N ad K I R (nI 2) G true (h0)) (lw_V q345 q347 qs3 q60 q348) (by decide +kernel) ⟨by decide, by decide⟩ rfl rfl (Nat.le_of_ble_eq_true rfl) dX0_hidden_68 ⟨by simp only [gN]; omega, by simp only [gN]; omega⟩ ?_
                rintro _ N2 ad2 K2 I68 R68 H locs ⟨I3, R3, e3, rfl, h68⟩ hg hw
                cases e3
                dsimp only at h68
                exact M_iret hC hlk hw gGo.rf ⟨by simp only [gN]; omega, by simp only [gN]; omega⟩ hr rfl (by have eq : mX6_hidden G (nI z) (nI t_) (nI k) i = (((-1000010 : Int32) - (nI 2)), g2 G 0 3 (nI 2)) := (by simp [mX6_hidden, h0.g4, bI_t0, bI_f0, inc01, inc11, inc03, inc13, inc23, inc10, inc20, inc21, c17, c24, c31, ix_nI (show z < 2147483648 by omega), ix_nI (show t_ < 2147483648 by omega), ix_nI (show k < 2147483648 by omega), mX6_lacks, z8, sz_ge z6, hin, lk_2]); rw [eq]; exact ⟨rfl, h68⟩) dX0_hidden_71
        · refine lv_ldc hC.1 hC.2.1 hC.2.2.2.1 (hC.2.2.2.2 _ q337) dX0_hidden_34 ?_
          exact M_iret hC hlk hw gGo.rf ⟨by simp only [gN]; omega, by simp only [gN]; omega⟩ hr rfl (by have eq : mX6_hidden G (nI z) (nI t_) row i = ((-1000001 : Int32), G) := (by simp [mX6_hidden, h0.g4, bI_t0, bI_f0, inc01, inc11, inc03, inc13, inc23, inc10, inc20, inc21, c17, c24, c31, ix_nI (show z < 2147483648 by omega), ix_nI (show t_ < 2147483648 by omega)]); rw [eq]; exact ⟨rfl, h0⟩) dX0_hidden_36
  · refine lv_ldc hC.1 hC.2.1 hC.2.2.2.1 (hC.2.2.2.2 _ q703) dX0_hidden_10 ?_
    exact M_iret hC hlk hw gGo.rf ⟨by simp only [gN]; omega, by simp only [gN]; omega⟩ hr rfl (by have eq : mX6_hidden G kind y row i = ((-1000002 : Int32), G) := (by simp [mX6_hidden, h0.g4, bI_t0, bI_f0, inc01, inc11, inc03, inc13, inc23, inc10, inc20, inc21, c7]); rw [eq]; exact ⟨rfl, h0⟩) dX0_hidden_12
