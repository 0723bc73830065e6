/-! ===== asking: Trail, Has, size, mark, ask (by gen/w73.py) ===== -/
section VSN
variable {p : Program} {l : Launch} {e : Env} {R : Room} {s : State} {m : MethodId} {args : Array Value} {below : List Frame} {meth : Method} {c : Code}
variable {H : Heap} {locs : List Loc} {cells slots : Nat}
abbrev va_CSD (R : Room) (s : State) (args : Array Value) (own : String) (index : Nat) (n0 : String) (bytes : ByteArray) (maxL : Nat) (ret : Option FieldType) (ws : List Cond) (rm : Room) (mc ms n : Nat) : Prop :=
  (rm.cells = mc ∧ rm.slots = ms ∧ rm.frames + 1 ≤ R.frames ∧ 8 + (maxL + 11) + rm.locals ≤ R.locals ∧ (∀ w ∈ ws, ∀ (a' : Array Value) (U : State), s.WarmedH U.vm → w.before a' U = true) ∧ Cond.code ⟨RX14, n0, dSM⟩ bytes maxL ret ∈ ws) ∧ n0 ≠ "<init>" ∧
  (Cond.methodLink own index ⟨RX4, n0, dSM⟩).before args s = true ∧ (Cond.sameMethod RX4 RX14 n0 dSM).before args s = true ∧ (Cond.superclass own RX4).before args s = true ∧ gDl n0 s ∧ (Cond.instanceMethod ⟨RX14, n0, dSM⟩).before args s = true ∧ (Cond.code ⟨RX14, n0, dSM⟩ bytes maxL ret).before args s = true ∧ (∀ sig, parseMethodDescriptor dSM = some sig → n = sig.parameters.length)
theorem va_runSUD {n0 : String} {bytes cc : ByteArray} {maxL nL mc ms n index : Nat} {ret : Option FieldType} {ws : List Cond} {rm : Room} {Pc : Array Value → State → Prop} {Qc : Array Value → State → Outcome → State → Prop} {free : Addr → Prop} {Ts : List Cond} {own C : String} {cC : ClassId} {b : Addr} {As rest : List Value} {g : JFrame}
    (hat : ClassAt s C cC) (S : CallFix p m c cc nL s args Ts own) (hM : MetN l ⟨RX14, n0, dSM⟩ bytes maxL ret ws rm Pc Qc mc ms free) (cw : va_CSD R s args own index n0 bytes maxL ret ws rm mc ms n) (hp : PreV s H C b Pc As)
    (hg : g.method = m) (hn : As.length = n) (hsize : g.locals.size = nL) (hstack : g.stack = As.reverse ++ .ref b :: rest) (hW : 2 * g.monitorRoom + (rest.map fun v => v.category).sum ≤ 8) (hdg : decode cc g.pc = .ok (.invokespecial index, 3)) (hf : cells + mc ≤ R.cells ∧ slots + ms ≤ R.slots) :
    va_Run p l e R s m args below meth c H locs cells slots mc ms g rest (Qc (Value.ref b :: As).toArray) (free) := by
  obtain ⟨⟨hrc, hrs, hfr, hlo, hws, hcw⟩, hno, hl1, hl2, hl3, hl3b, hl4, hcode, hlen⟩ := cw
  have hK : Back l R p e below s args ⟨RX14, n0, dSM⟩ 3 8 (PreOf R mc ms Pc) (PostOf Qc mc ms free) := back_N hM (by decide +kernel : plainName RX14 = true) hp.1 hrc hrs hfr hlo hws hcw
  obtain ⟨hx, hb, hml, ho, -⟩ := S
  obtain ⟨-, ⟨cellB, hcB, hoB, hclB⟩, hPc⟩ := hp
  obtain ⟨hfc, kB, hkB, -⟩ := hat
  cases hfc.symm.trans hclB
  intro T hT X
  obtain ⟨v, vm₁, ⟨U', l2, c2, s2⟩, hW₁, X', ⟨g', mk, t, L, e1, e2, hq, h1, hL, h2, h3⟩, st⟩ := va_callSUD X hx (bytes := bytes) (maxL := maxL) (ret := ret) hno ho hl1 hl2 hl3 hl3b hl4 hcode hK (by rw [hT]; exact hcB) hoB hkB hg (hsize.trans hml.symm) (argsL := As) (rest := rest) (fun sig h => hn.trans (hlen sig h)) hstack hW (by rw [hb]; exact hdg)
    (fun vm₁ hW₁ => ⟨hf.1, hf.2, hPc (T.setVm vm₁) hT hW₁⟩)
  dsimp only [Pt.U, Pt.locs, Pt.cells, Pt.slots] at X' e1 e2 h1 h2 h3 st
  subst h1; subst h2; subst h3
  exact ⟨v, (T.setVm vm₁).calling g' mk (Value.ref b :: As).toArray, t, U', L, hT, X', hL, e1, e2, hq, st⟩
end VSN

def gMN (l : Launch) (y : MethodName) (cc : ByteArray) (nl : Nat) (ret : Option FieldType) (ws : List Cond) (rm : Room) (as : List Value) (N : Nat) (ad : Nat → Nat) (K : gK) (I : mG) (R : gR) (post : Option Value → gS → Prop) : Prop :=
  ∀ (D : va_G) (dA : Nat → ClassId) (sz : Nat), MetN l y cc nl ret ws rm (va_Pc as (gPZ D dA N ad K I R sz)) (gQ D dA N ad K sz post) rm.cells rm.slots (nA (List.range N) ad sz)
theorem gMN.of {l : Launch} {y : MethodName} {cc : ByteArray} {nl : Nat} {ret : Option FieldType} {rm : Room} {as : List Value} {N : Nat} {ad : Nat → Nat} {K : gK} {I : mG} {R : gR} {post : Option Value → gS → Prop} (hn : (lg_sl as).length ≤ nl)
    (body : ∀ (D : va_G) (dA : Nat → ClassId) (p : Program) (e : Env) (s : State) (m : MethodId) (args : Array Value) (below : List Frame) (meth : Method) (c : Code) (ls : Array Slot), CallFix p m c cc nl s args lw_all y.cls → meth.locks = false → meth.sig.returnType = ret → va_K D cCl (cTy dA) s → gX s → gZ s → (∀ (q : Nat) (cell : Cell), s.heap[q]? = some cell → cell.vm.isStatics = true → ¬ nA (List.range N) ad s.heap.size q) → lv_has ls nl (lv_args 0 as) → gw D dA (nA (List.range N) ad s.heap.size) s.heap (List.range N) ad K I R s.heap [] →
      W p l e rm s m args below meth c s.heap [] 0 0 (MQ below (gQ D dA N ad K s.heap.size post) args s rm.cells rm.slots (nA (List.range N) ad s.heap.size)) (F0 m 0 ls [])) : gMN l y cc nl ret (ws_ y cc nl ret) rm as N ad K I R post := by
  intro D dA sz p e s m args below meth c hx hb hml hnm hr hlk hts hv
  obtain ⟨rfl, ⟨hsz, hK, hX, hP, hD, hc⟩, hZ⟩ := hv
  subst hsz
  have hts : ∀ w ∈ lw_all, w.before as.toArray s = true := fun w h => hts w (List.mem_cons_of_mem _ h)
  have hown : s.vm.findClass y.cls = some m.cls := findClass_of_methodNamed hnm
  have hl := lv_entry as (n := nl) hn
  rw [lg_entry_eq]
  exact body D dA p e s m _ below meth c _ ⟨hx, hb, hml, hown, hts⟩ hlk hr hK hX hZ (gw.noStat hP) hl ⟨nw.start hP hD, hc⟩
theorem lw_F {own : String} {idx : Nat} {C : String} {x y : MethodName} {b : ByteArray} {L : Nat} {r : Option FieldType} (h1 : Cond.methodLink own idx x ∈ lw_all) (h3 : Cond.selects C x y ∈ lw_all) (h4 : Cond.instanceMethod y ∈ lw_all) (h5 : Cond.initialized y.cls ∈ lw_all) (h6 : Cond.code y b L r ∈ lw_all) : GoodIn lw_all (va_wsF own idx C x y (ws_ y b L r)) := by
  refine lw_app ?_ (lw_meth h6)
  intro w hw
  simp only [List.mem_cons, List.not_mem_nil, or_false] at hw
  rcases hw with e | e | e | e
  · rw [e]; exact h1
  · rw [e]; exact h3
  · rw [e]; exact h4
  · rw [e]; exact h5
theorem lw_O {own : String} {idx : Nat} {C owner : String} {x y : MethodName} {b : ByteArray} {L : Nat} {r : Option FieldType} (h1 : Cond.methodLink own idx x ∈ lw_all) (h2 : Cond.sameMethod x.cls owner x.name x.desc ∈ lw_all) (h0 : Cond.instanceMethod ⟨owner, x.name, x.desc⟩ ∈ lw_all) (h3 : Cond.selects C x y ∈ lw_all) (h4 : Cond.instanceMethod y ∈ lw_all) (h5 : Cond.initialized y.cls ∈ lw_all) (h6 : Cond.code y b L r ∈ lw_all) : GoodIn lw_all (va_wsO own idx C owner x y (ws_ y b L r)) := by
  refine lw_app ?_ (lw_meth h6)
  intro w hw
  simp only [List.mem_cons, List.not_mem_nil, or_false] at hw
  rcases hw with e | e | e | e | e | e
  · rw [e]; exact h1
  · rw [e]; exact h2
  · rw [e]; exact h0
  · rw [e]; exact h3
  · rw [e]; exact h4
  · rw [e]; exact h5

section RN
variable {p : Program} {l : Launch} {e : Env} {Rm : Room} {s : State} {m : MethodId} {args : Array Value} {below : List Frame} {meth : Method} {c : Code} {H : Heap} {locs : List Loc} {cells slots : Nat} {Q : State → Prop}
variable {cc : ByteArray} {nl pc : Nat} {ls : Array Slot} {rest : List Value} {own : String} {D : va_G} {dA : Nat → ClassId} {A : Nat → Prop} {H0 : Heap} {N : Nat} {ad : Nat → Nat} {K : gK} {I : mG} {R : gR}
theorem Z_SUD (hC : CallFix p m c cc nl s args lw_all own) (hl : ls.size = nl) (hK : va_K D cCl (cTy dA) s) (hX : gX s) (hZ : gZ s) (hst : ∀ (q : Nat) (cell : Cell), s.heap[q]? = some cell → cell.vm.isStatics = true → ¬ A q) (hw : gw D dA A s.heap (List.range N) ad K I R H locs) {C : String} {T : u_T} {n0 ci : Nat} (hn0 : n0 < N) (hk0 : (K n0).1 = ci) (hc20 : ci < 20) (hc : cCl[ci]? = some (C, T, gN ci)) {nm : String} {bytes : ByteArray} {maxL index : Nat} {ret : Option FieldType} {rm : Room} {as : List Value} {post : Option Value → gS → Prop} (hM : gMN l ⟨RX14, nm, dSM⟩ bytes maxL ret (ws_ ⟨RX14, nm, dSM⟩ bytes maxL ret) rm (.ref (ad n0) :: as) N ad K I R post) (hno : nm ≠ "<init>") (h1 : Cond.methodLink own index ⟨RX4, nm, dSM⟩ ∈ defaultWords_1) (h2 : Cond.sameMethod RX4 RX14 nm dSM ∈ defaultWords_1) (h3 : Cond.superclass own RX4 ∈ lw_all) (hdl : gDl nm s) (h4 : Cond.instanceMethod ⟨RX14, nm, dSM⟩ ∈ lw_all) (h6 : Cond.code ⟨RX14, nm, dSM⟩ bytes maxL ret ∈ lw_all) (hR : rm.frames + 1 ≤ Rm.frames ∧ 8 + (maxL + 11) + rm.locals ≤ Rm.locals)
    (hn : as.length = 2) {st0 : List Value} (hst0 : st0 = as.reverse ++ .ref (ad n0) :: rest) (hW : (rest.map fun v => v.category).sum ≤ 8) (hdg : decode cc pc = .ok (.invokespecial index, 3)) (hf : cells + rm.cells ≤ Rm.cells ∧ slots + rm.slots ≤ Rm.slots)
    (kk : ∀ (v : Option Value) (N' : Nat) (ad' : Nat → Nat) (K' : gK) (I' : mG) (R' : gR) (H' : Heap) (locs' : List Loc), post v (N', ad', K', I', R') → gGo N ad K (N', ad', K', I', R') → gw D dA A s.heap (List.range N') ad' K' I' R' H' locs' → W p l e Rm s m args below meth c H' locs' (cells + rm.cells) (slots + rm.slots) Q (F0 m (pc + 3) ls (v.toList ++ rest))) : W p l e Rm s m args below meth c H locs cells slots Q (F0 m pc ls st0) :=
  M_run (va_runSUD (As := as) (rest := rest) (n := 2) (hK.1 ci _ hc).2 hC (hM D dA H.size) ⟨⟨rfl, rfl, hR.1, hR.2, pay_in hC.2.2.2.2 (lw_meth h6), List.mem_cons_self⟩, hno, va_Nw.use rfl (hZ.2.2.2.2.2.1 _ h1), va_Nw.use rfl (hZ.2.2.2.2.2.1 _ h2), hC.2.2.2.2 _ h3, hdl, hC.2.2.2.2 _ h4, hC.2.2.2.2 _ h6, dSM_len⟩ ⟨fun a U g mk q => ⟨q.1, q.2.moved (V := U.calling g mk a) rfl rfl⟩, g_recv hK hw (List.mem_range.mpr hn0) hk0 hc20 hc, fun U hU hWm => ⟨rfl, ⟨by rw [hU], hK.moved hWm.alike, hX.warm hWm, by rw [hU]; exact hw.1.1, hw.1.2.1.weaken (fun _ _ _ _ => trivial), hw.2⟩, hZ.keep hWm (fun q cell hq hs => by rw [hU, hw.1.2.2.1.2.1 q (Array.getElem?_eq_some_iff.mp hq).1 (hst q cell hq hs)]; exact hq)⟩⟩ rfl hn hl hst0 (lv_room hW) hdg hf) hw kk
theorem F_holds (hC : CallFix p m c cc nl s args lw_all RX14) (hl : ls.size = nl) (hK : va_K D cCl (cTy dA) s) (hX : gX s) (hZ : gZ s) (hw : gw D dA A H0 (List.range N) ad K I R H locs) {w k cnt : Nat} (hn0 : w < N) (hk0 : (K w).1 = 3 + k) (hk1 : 1 ≤ k ∧ k ≤ 5) (hR : 1 ≤ Rm.frames ∧ 20 ≤ Rm.locals) (hW : (rest.map fun v => v.category).sum ≤ 8) (hdg : decode cc pc = .ok (.invokeinterface 7 cnt, 5)) (hf : cells ≤ Rm.cells ∧ slots ≤ Rm.slots)
    (kk : ∀ (H' : Heap) (locs' : List Loc), gw D dA A H0 (List.range N) ad K I R H' locs' → W p l e Rm s m args below meth c H' locs' cells slots Q (F0 m (pc + 5) ls (.int (I w 1) :: rest))) : W p l e Rm s m args below meth c H locs cells slots Q (F0 m pc ls (.ref (ad w) :: rest)) := by
  have hk : k = 1 ∨ k = 2 ∨ k = 3 ∨ k = 4 ∨ k = 5 := by omega
  rcases hk with rfl | rfl | rfl | rfl | rfl
  · refine F_M (n := 0) (x := ⟨RX14, "holds", "()I"⟩) (C := RX5) (T := TX5) hC hl hK hX hw hn0 hk0 (by decide) rfl (gM.ofI (tX4_holds l (List.range N) ad K I R w (List.mem_range.mpr hn0) 1 hk0 hk1) rfl rfl) (lw_F q1009 q1026 q815 q64 q822) (hZ.2.2.2.2.2.2.2.2.1 RX5 (by decide)).1 (by decide +kernel) ⟨by simp only; omega, by simp only; omega⟩ rfl rfl hW hdg (by simpa using hf) ?_
    rintro _ N2 ad2 K2 I2 R2 H2 locs2 ⟨r, I3, R3, rfl, e3, e4, e5⟩ hg hw2
    cases e3; cases e5
    rw [e4]
    exact kk H2 locs2 hw2
  · refine F_M (n := 0) (x := ⟨RX14, "holds", "()I"⟩) (C := RX9) (T := TX9) hC hl hK hX hw hn0 hk0 (by decide) rfl (gM.ofI (tX4_holds l (List.range N) ad K I R w (List.mem_range.mpr hn0) 2 hk0 hk1) rfl rfl) (lw_F q1009 q1017 q815 q64 q822) (hZ.2.2.2.2.2.2.2.2.1 RX9 (by decide)).1 (by decide +kernel) ⟨by simp only; omega, by simp only; omega⟩ rfl rfl hW hdg (by simpa using hf) ?_
    rintro _ N2 ad2 K2 I2 R2 H2 locs2 ⟨r, I3, R3, rfl, e3, e4, e5⟩ hg hw2
    cases e3; cases e5
    rw [e4]
    exact kk H2 locs2 hw2
  · refine F_M (n := 0) (x := ⟨RX14, "holds", "()I"⟩) (C := RX10) (T := TX10) hC hl hK hX hw hn0 hk0 (by decide) rfl (gM.ofI (tX4_holds l (List.range N) ad K I R w (List.mem_range.mpr hn0) 3 hk0 hk1) rfl rfl) (lw_F q1009 q1020 q815 q64 q822) (hZ.2.2.2.2.2.2.2.2.1 RX10 (by decide)).1 (by decide +kernel) ⟨by simp only; omega, by simp only; omega⟩ rfl rfl hW hdg (by simpa using hf) ?_
    rintro _ N2 ad2 K2 I2 R2 H2 locs2 ⟨r, I3, R3, rfl, e3, e4, e5⟩ hg hw2
    cases e3; cases e5
    rw [e4]
    exact kk H2 locs2 hw2
  · refine F_M (n := 0) (x := ⟨RX14, "holds", "()I"⟩) (C := RX11) (T := TX11) hC hl hK hX hw hn0 hk0 (by decide) rfl (gM.ofI (tX4_holds l (List.range N) ad K I R w (List.mem_range.mpr hn0) 4 hk0 hk1) rfl rfl) (lw_F q1009 q1013 q815 q64 q822) (hZ.2.2.2.2.2.2.2.2.1 RX11 (by decide)).1 (by decide +kernel) ⟨by simp only; omega, by simp only; omega⟩ rfl rfl hW hdg (by simpa using hf) ?_
    rintro _ N2 ad2 K2 I2 R2 H2 locs2 ⟨r, I3, R3, rfl, e3, e4, e5⟩ hg hw2
    cases e3; cases e5
    rw [e4]
    exact kk H2 locs2 hw2
  · refine F_M (n := 0) (x := ⟨RX14, "holds", "()I"⟩) (C := RX12) (T := TX12) hC hl hK hX hw hn0 hk0 (by decide) rfl (gM.ofI (tX4_holds l (List.range N) ad K I R w (List.mem_range.mpr hn0) 5 hk0 hk1) rfl rfl) (lw_F q1009 q1023 q815 q64 q822) (hZ.2.2.2.2.2.2.2.2.1 RX12 (by decide)).1 (by decide +kernel) ⟨by simp only; omega, by simp only; omega⟩ rfl rfl hW hdg (by simpa using hf) ?_
    rintro _ N2 ad2 K2 I2 R2 H2 locs2 ⟨r, I3, R3, rfl, e3, e4, e5⟩ hg hw2
    cases e3; cases e5
    rw [e4]
    exact kk H2 locs2 hw2
theorem F_cell (hC : CallFix p m c cc nl s args lw_all RX14) (hl : ls.size = nl) (hK : va_K D cCl (cTy dA) s) (hX : gX s) (hZ : gZ s) (hw : gw D dA A H0 (List.range N) ad K I R H locs) {w k cnt : Nat} (hn0 : w < N) (hk0 : (K w).1 = 3 + k) (hk1 : 1 ≤ k ∧ k ≤ 5) (hR : 1 ≤ Rm.frames ∧ 20 ≤ Rm.locals) (hW : (rest.map fun v => v.category).sum ≤ 8) (hdg : decode cc pc = .ok (.invokeinterface 13 cnt, 5)) (hf : cells ≤ Rm.cells ∧ slots ≤ Rm.slots)
    (kk : ∀ (H' : Heap) (locs' : List Loc), gw D dA A H0 (List.range N) ad K I R H' locs' → W p l e Rm s m args below meth c H' locs' cells slots Q (F0 m (pc + 5) ls (.int (I w 0) :: rest))) : W p l e Rm s m args below meth c H locs cells slots Q (F0 m pc ls (.ref (ad w) :: rest)) := by
  have hk : k = 1 ∨ k = 2 ∨ k = 3 ∨ k = 4 ∨ k = 5 := by omega
  rcases hk with rfl | rfl | rfl | rfl | rfl
  · refine F_M (n := 0) (x := ⟨RX14, "cell", "()I"⟩) (C := RX5) (T := TX5) hC hl hK hX hw hn0 hk0 (by decide) rfl (gM.ofI (tX4_cell l (List.range N) ad K I R w (List.mem_range.mpr hn0) 1 hk0 hk1) rfl rfl) (lw_F q1054 q1066 q971 q64 q978) (hZ.2.2.2.2.2.2.2.2.1 RX5 (by decide)).2 (by decide +kernel) ⟨by simp only; omega, by simp only; omega⟩ rfl rfl hW hdg (by simpa using hf) ?_
    rintro _ N2 ad2 K2 I2 R2 H2 locs2 ⟨r, I3, R3, rfl, e3, e4, e5⟩ hg hw2
    cases e3; cases e5
    rw [e4]
    exact kk H2 locs2 hw2
  · refine F_M (n := 0) (x := ⟨RX14, "cell", "()I"⟩) (C := RX9) (T := TX9) hC hl hK hX hw hn0 hk0 (by decide) rfl (gM.ofI (tX4_cell l (List.range N) ad K I R w (List.mem_range.mpr hn0) 2 hk0 hk1) rfl rfl) (lw_F q1054 q1060 q971 q64 q978) (hZ.2.2.2.2.2.2.2.2.1 RX9 (by decide)).2 (by decide +kernel) ⟨by simp only; omega, by simp only; omega⟩ rfl rfl hW hdg (by simpa using hf) ?_
    rintro _ N2 ad2 K2 I2 R2 H2 locs2 ⟨r, I3, R3, rfl, e3, e4, e5⟩ hg hw2
    cases e3; cases e5
    rw [e4]
    exact kk H2 locs2 hw2
  · refine F_M (n := 0) (x := ⟨RX14, "cell", "()I"⟩) (C := RX10) (T := TX10) hC hl hK hX hw hn0 hk0 (by decide) rfl (gM.ofI (tX4_cell l (List.range N) ad K I R w (List.mem_range.mpr hn0) 3 hk0 hk1) rfl rfl) (lw_F q1054 q1062 q971 q64 q978) (hZ.2.2.2.2.2.2.2.2.1 RX10 (by decide)).2 (by decide +kernel) ⟨by simp only; omega, by simp only; omega⟩ rfl rfl hW hdg (by simpa using hf) ?_
    rintro _ N2 ad2 K2 I2 R2 H2 locs2 ⟨r, I3, R3, rfl, e3, e4, e5⟩ hg hw2
    cases e3; cases e5
    rw [e4]
    exact kk H2 locs2 hw2
  · refine F_M (n := 0) (x := ⟨RX14, "cell", "()I"⟩) (C := RX11) (T := TX11) hC hl hK hX hw hn0 hk0 (by decide) rfl (gM.ofI (tX4_cell l (List.range N) ad K I R w (List.mem_range.mpr hn0) 4 hk0 hk1) rfl rfl) (lw_F q1054 q1057 q971 q64 q978) (hZ.2.2.2.2.2.2.2.2.1 RX11 (by decide)).2 (by decide +kernel) ⟨by simp only; omega, by simp only; omega⟩ rfl rfl hW hdg (by simpa using hf) ?_
    rintro _ N2 ad2 K2 I2 R2 H2 locs2 ⟨r, I3, R3, rfl, e3, e4, e5⟩ hg hw2
    cases e3; cases e5
    rw [e4]
    exact kk H2 locs2 hw2
  · refine F_M (n := 0) (x := ⟨RX14, "cell", "()I"⟩) (C := RX12) (T := TX12) hC hl hK hX hw hn0 hk0 (by decide) rfl (gM.ofI (tX4_cell l (List.range N) ad K I R w (List.mem_range.mpr hn0) 5 hk0 hk1) rfl rfl) (lw_F q1054 q1064 q971 q64 q978) (hZ.2.2.2.2.2.2.2.2.1 RX12 (by decide)).2 (by decide +kernel) ⟨by simp only; omega, by simp only; omega⟩ rfl rfl hW hdg (by simpa using hf) ?_
    rintro _ N2 ad2 K2 I2 R2 H2 locs2 ⟨r, I3, R3, rfl, e3, e4, e5⟩ hg hw2
    cases e3; cases e5
    rw [e4]
    exact kk H2 locs2 hw2
end RN

theorem wcR.tra {N : Nat} {K : gK} {I : mG} {R : gR} {G : mG} {b : Bool} {t : Nat} (h : wcR N K I R G b) (ht : R 0 9 = some t) : t < N ∧ (K t).1 = 3 := by
  obtain ⟨t9, bb, mm, a1, a2, a3, a4, -⟩ := h.2.2.2.2.2.2.1
  have e : t9 = t := Option.some.inj (a1.symm.trans ht)
  subst e
  exact ⟨a2, a4⟩
theorem kW.beg {K : gK} {I : mG} {R : gR} {t bb i j : Nat} {x y : Int32} (h1 : (K t).1 = 3) (h2 : K bb = (20, 16)) : kW K I (g2 (g2 I t i x) bb j y) R R := fun n _ => ⟨rfl, fun k3 k20 => by
  rw [g2_ne _ _ _ (fun z => by rw [z, h2] at k20; exact k20 rfl), g2_ne _ _ _ (fun z => by rw [z] at k3; exact k3 h1)]⟩
theorem lent10 (st : vV) (q : Nat) : lentF st (nI 10) q = st (25 + q) := if_pos rfl
theorem lent20 (st : vV) (q : Nat) : lentF st (nI 20) q = nI q := if_neg (by decide)

set_option maxHeartbeats 800000 in
theorem tX3_init (l : Launch) (N : Nat) (ad : Nat → Nat) (K : gK) (I : mG) (R : gR) (u : Nat) (h0 : u < N) (h1 : (K u).1 = 3) : gM l yX3_init (ws_ yX3_init cX3_init 1 none) ({ frames := 1, cells := 1, slots := 16, locals := 40 } : Room) [.ref (ad u)] N ad K I R (fun v S => v = none ∧ ∃ ad' : Nat → Nat, S = (N + 1, ad', va_up K N (20, 16), va_up I N (fun _ => nI 0), r2 (va_up R N (fun _ => none)) u 0 (some N))) := by
  refine gM.of (by decide) (Nat.le_of_ble_eq_true rfl) ?_
  intro D dA p e s m args below meth cd ls hC hlk hr hin hK hX hl hw
  have hl : lv_has ls 1 [(0, .ref (ad u))] := hl
  refine lv_aload_n hC.1 hC.2.1 dX3_init_0 rfl (lv_at hl 0 rfl) ?_
  refine W.objInit hC.1 hC.2.1 hC.2.2.2.1 (hC.2.2.2.2 _ q172) (hC.2.2.2.2 _ q97) (hC.2.2.2.2 _ q98) rfl (hl.1.trans hC.2.2.1.symm) rfl dX3_init_1 (Nat.le_of_ble_eq_true rfl) (Nat.le_of_ble_eq_true rfl) ?_
  refine lv_aload_n hC.1 hC.2.1 dX3_init_4 rfl (lv_at hl 0 rfl) ?_
  refine lv_bipush (v := (nI 16)) hC.1 hC.2.1 dX3_init_5 (by decide) ?_
  refine M_newa (atype := .int) (ty := .int) (N' := 16) hC hK hw rfl q165 0 (by decide) rfl (fun c h => h) rfl (by decide) (by decide) (by simp only [gN]; omega) (by simp only [gN]; omega) dX3_init_7 (fun ad7_1 H h7_1 hw => ?_)
  have e7_1 : ad u = ad7_1 u := (h7_1 u (by omega)).symm
  rw [e7_1] at hl
  rw [e7_1]
  have g7_1 : gGo N ad K (N + 1, ad7_1, va_up K N (20, 16), va_up I N (fun _ => nI 0), va_up R N (fun _ => none)) := gGo_new (I1 := I) (R1 := R) gGo.rf h7_1
  refine g_putrF (ci := 3) (C := RX3) (T := TX3) (ref := RX3) (y := some (N)) hC hK hw (List.mem_range.mpr (by omega)) (by rw [va_up_ne _ _ (by omega)]; exact h1) (by decide) rfl in_X3 tyX3 tyX3_ok nmX3 0 (by decide) rfl q173 (fun x h => h) rfl hin rfl (fun j h => by cases h; exact List.mem_range.mpr (by omega)) rfl rfl rfl rfl dX3_init_9 (fun H locs hw => ?_)
  exact M_vret hC hlk hw g7_1.to ⟨by simp only [gN]; omega, by simp only [gN]; omega⟩ hr (⟨rfl, _, rfl⟩) dX3_init_12

set_option maxHeartbeats 800000 in
theorem tX3_begins (l : Launch) (N : Nat) (ad : Nat → Nat) (K : gK) (I : mG) (R : gR) (t : Nat) (x : Int32) (G : mG) (b : Bool) (h0 : wcR N K I R G b) (h1 : R 0 9 = some t) : gA l yX3_begins (ws_ yX3_begins cX3_begins 2 none) ({ frames := 0, cells := 0, slots := 0, locals := 0 } : Room) [.ref (ad t), .int x] N ad K I R (fun v S => v = none ∧ wcR N K S.1 S.2 (beginG G x) b ∧ kW K I S.1 R S.2) := by
  refine gM.of (by decide) (Nat.le_of_ble_eq_true rfl) ?_
  intro D dA p e s m args below meth cd ls hC hlk hr hin hK hX hl hw
  have hl : lv_has ls 2 [(0, .ref (ad t)), (1, .int x)] := hl
  have hge := h0.ge
  obtain ⟨t9, bb, mm, a1, a2, a3, a4, a5, a6, a7, a8, a9, a10, a11, a12, a13, a14⟩ := h0.2.2.2.2.2.2.1
  have e9 : t = t9 := Option.some.inj (h1.symm.trans a1)
  subst e9
  refine lv_aload_n hC.1 hC.2.1 dX3_begins_0 rfl (lv_at hl 0 rfl) ?_
  refine g_get (ci := 3) (C := RX3) (T := TX3) (ref := RX3) hC hK hw (List.mem_range.mpr a2) a4 (by decide) rfl in_X3 1 (by decide) q175 (fun x h => h) (v := .int (nI mm)) (by show Value.int _ = _; rw [a10]) dX3_begins_1 ?_
  refine lv_bipush (v := (nI 16)) hC.1 hC.2.1 dX3_begins_4 (by decide) ?_
  refine k_ge (tgt := 26) hC (by omega) (by omega) dX3_begins_6 (by decide) (fun c6 => ?_) (fun c6 => ?_)
  · exact M_vret hC hlk hw gGo.rf ⟨by simp only [gN]; omega, by simp only [gN]; omega⟩ hr (⟨_, _, rfl, rfl, by rw [beg_e a11 a9 (by omega)]; exact h0, kW.rf⟩) dX3_begins_26
  · refine lv_aload_n hC.1 hC.2.1 dX3_begins_9 rfl (lv_at hl 0 rfl) ?_
    refine g_get (ci := 3) (C := RX3) (T := TX3) (ref := RX3) hC hK hw (List.mem_range.mpr a2) a4 (by decide) rfl in_X3 0 (by decide) q173 (fun x h => h) (v := .ref (ad bb)) (by show va_rf _ = _; rw [a5]; rfl) dX3_begins_10 ?_
    refine lv_aload_n hC.1 hC.2.1 dX3_begins_13 rfl (lv_at hl 0 rfl) ?_
    refine lv_dup hC.1 hC.2.1 dX3_begins_14 rfl ?_
    refine g_get (ci := 3) (C := RX3) (T := TX3) (ref := RX3) hC hK hw (List.mem_range.mpr a2) a4 (by decide) rfl in_X3 1 (by decide) q175 (fun x h => h) (v := .int (nI mm)) (by show Value.int _ = _; rw [a10]) dX3_begins_15 ?_
    refine lv_dup_x1 hC.1 hC.2.1 dX3_begins_18 rfl rfl ?_
    refine lv_iconst (v := (nI 1)) hC.1 hC.2.1 dX3_begins_19 (by decide) ?_
    refine k_add hC dX3_begins_20 ?_
    refine g_puti (ci := 3) (C := RX3) (T := TX3) (ref := RX3) hC hK hw (List.mem_range.mpr a2) a4 (by decide) rfl in_X3 tyX3 tyX3_ok nmX3 1 (by decide) rfl q175 (fun x h => h) rfl rfl rfl rfl dX3_begins_21 (fun H locs hw => ?_)
    refine lv_iload_n hC.1 hC.2.1 dX3_begins_24 rfl (lv_at hl 1 rfl) ?_
    refine g_sti hC hK hw (List.mem_range.mpr a6) a8 c6 (by omega) dX3_begins_25 (fun H locs hw => ?_)
    exact M_vret hC hlk hw gGo.rf ⟨by simp only [gN]; omega, by simp only [gN]; omega⟩ hr (⟨_, _, rfl, rfl, h0.beg h1 a5 a11 c6, kW.beg a4 a8⟩) dX3_begins_26

set_option maxHeartbeats 800000 in
theorem tX13_init (l : Launch) (N : Nat) (ad : Nat → Nat) (K : gK) (I : mG) (R : gR) (u : Nat) (o : Nat) (q : Nat) (h0 : u < N) (h1 : (K u).1 = 9) (h2 : o < N) : gA l yX13_init (ws_ yX13_init cX13_init 3 none) ({ frames := 1, cells := 0, slots := 0, locals := 40 } : Room) [.ref (ad u), .ref (ad o), .int (nI q)] N ad K I R (fun v S => v = none ∧ S = (g2 I u 0 (nI q), r2 R u 1 (some o))) := by
  refine gM.of (by decide) (Nat.le_of_ble_eq_true rfl) ?_
  intro D dA p e s m args below meth cd ls hC hlk hr hin hK hX hl hw
  have hl : lv_has ls 3 [(0, .ref (ad u)), (1, .ref (ad o)), (2, .int (nI q))] := hl
  refine lv_aload_n hC.1 hC.2.1 dX13_init_0 rfl (lv_at hl 0 rfl) ?_
  refine lv_aload_n hC.1 hC.2.1 dX13_init_1 rfl (lv_at hl 1 rfl) ?_
  refine g_putrF (ci := 9) (C := RX13) (T := TX13) (ref := RX13) (y := some (o)) hC hK hw (List.mem_range.mpr (by omega)) (h1) (by decide) rfl in_X13 tyX13 tyX13_ok nmX13 1 (by decide) rfl q990 (fun x h => h) rfl hin rfl (fun j h => by cases h; exact List.mem_range.mpr (by omega)) rfl rfl rfl rfl dX13_init_2 (fun H locs hw => ?_)
  refine lv_aload_n hC.1 hC.2.1 dX13_init_5 rfl (lv_at hl 0 rfl) ?_
  refine W.objInit hC.1 hC.2.1 hC.2.2.2.1 (hC.2.2.2.2 _ q988) (hC.2.2.2.2 _ q97) (hC.2.2.2.2 _ q98) rfl (hl.1.trans hC.2.2.1.symm) rfl dX13_init_6 (Nat.le_of_ble_eq_true rfl) (Nat.le_of_ble_eq_true rfl) ?_
  refine lv_aload_n hC.1 hC.2.1 dX13_init_9 rfl (lv_at hl 0 rfl) ?_
  refine lv_iload_n hC.1 hC.2.1 dX13_init_10 rfl (lv_at hl 2 rfl) ?_
  refine g_putiF (ci := 9) (C := RX13) (T := TX13) (ref := RX13) hC hK hw (List.mem_range.mpr h0) h1 (by decide) rfl in_X13 tyX13 tyX13_ok nmX13 0 (by decide) rfl q989 (fun x h => h) rfl hin rfl rfl rfl rfl dX13_init_11 (fun H locs hw => ?_)
  exact M_vret hC hlk hw gGo.rf ⟨by simp only [gN]; omega, by simp only [gN]; omega⟩ hr (⟨_, _, rfl, rfl, rfl⟩) dX13_init_14

set_option maxHeartbeats 800000 in
theorem tX13_felt (l : Launch) (N : Nat) (ad : Nat → Nat) (K : gK) (I : mG) (R : gR) (h : Nat) (G : mG) (b : Bool) (q : Nat) (h0 : wcR N K I R G b) (h1 : 44 ≤ h ∧ h < N) (h2 : (K h).1 = 9) (h3 : I h 0 = nI q) (h4 : R h 1 = some 0) (h5 : q < 16) : gA l yX13_felt (ws_ yX13_felt cX13_felt 1 (some FieldType.int)) ({ frames := 5, cells := 0, slots := 0, locals := 122 } : Room) [.ref (ad h)] N ad K I R (fun v S => v = some (.int ((bl (G 6)).1 q)) ∧ pOff 17 I S.1 R S.2) := by
  refine gM.of (by decide) (Nat.le_of_ble_eq_true rfl) ?_
  intro D dA p e s m args below meth cd ls hC hlk hr hin hK hX hl hw
  have hl : lv_has ls 1 [(0, .ref (ad h))] := hl
  have hge := h0.ge
  refine lv_aload_n hC.1 hC.2.1 dX13_felt_0 rfl (lv_at hl 0 rfl) ?_
  refine g_get (ci := 9) (C := RX13) (T := TX13) (ref := RX13) hC hK hw (List.mem_range.mpr h1.2) h2 (by decide) rfl in_X13 1 (by decide) q990 (fun x h => h) (v := .ref (ad 0)) (by show va_rf _ = _; rw [h4]; rfl) dX13_felt_1 ?_
  refine M_VN (n := 0) (C := RX0) (T := TX0) hC hl.1 hK hX hw (show 0 < N by omega) h0.k0 (by decide) rfl (tX0_blown l N ad K I R (G 6) b (h0.wb)) q1078 q834 qs18 q60 q835 (by decide +kernel) ⟨by decide, by decide⟩ rfl rfl (Nat.le_of_ble_eq_true rfl) dX13_felt_4 ⟨by simp only [gN]; omega, by simp only [gN]; omega⟩ ?_
  rintro _ N2 ad2 K2 I4 R4 H locs ⟨I3, R3, e3, rfl, o4, a4, f4, g4⟩ hg hw
  cases e3
  dsimp only at o4 a4 f4 g4
  have w4 := (h0.wb).off o4
  refine p_ga hC hK hw w4.p17 6 4 w4.p17.2.2.2.2.2.1 (by decide) rfl q139 rfl dX13_felt_7 ?_
  refine lv_aload_n hC.1 hC.2.1 dX13_felt_10 rfl (lv_at hl 0 rfl) ?_
  refine g_get (ci := 9) (C := RX13) (T := TX13) (ref := RX13) hC hK hw (List.mem_range.mpr h1.2) h2 (by decide) rfl in_X13 0 (by decide) q989 (fun x h => h) (v := .int (nI q)) (by show Value.int _ = _; rw [(o4.1 h (by omega)).1, h3]) dX13_felt_11 ?_
  refine g_ldi hC hK hw w4.p17.1.2.2.2.2.1 w4.p17.2.1.2.2.2.2.1 (by omega) (by omega) (v := ((bl (G 6)).1 q)) (by rw [f4]) dX13_felt_14 ?_
  exact M_iret hC hlk hw gGo.rf ⟨by simp only [gN]; omega, by simp only [gN]; omega⟩ hr rfl (⟨_, _, rfl, rfl, o4⟩) dX13_felt_15

theorem blow6 (G : mG) : blowG G 6 = G 6 := rfl

set_option maxHeartbeats 800000 in
theorem tX14_size_z (l : Launch) (N : Nat) (ad : Nat → Nat) (K : gK) (I : mG) (R : gR) (w : Nat) (t : Nat) (h : Nat) (G : mG) (b : Bool) (q : Nat) (h0 : wcR N K I R G b) (h1 : askR N K I R w h q t) (hq : q < 16) : gMN l yX14_size cX14_size 3 (some FieldType.int) (ws_ yX14_size cX14_size 3 (some FieldType.int)) ({ frames := 1, cells := 0, slots := 0, locals := 21 } : Room) [.ref (ad w), .ref (ad t), .ref (ad h)] N ad K I R (fun v S => v = some (.int (lentF (G 6) (nI 10) q)) ∧ ∃ I' R', S = (N, ad, K, I', R') ∧ wcR N K I' R' (beginG G (nI 10)) b ∧ kW K I I' R R') := by
  refine gMN.of (Nat.le_of_ble_eq_true rfl) ?_
  intro D dA p e s m args below meth cd ls hC hlk hr hK hX hZ hst hl hw
  have hl : lv_has ls 3 [(0, .ref (ad w)), (1, .ref (ad t)), (2, .ref (ad h))] := hl
  have hge := h0.ge
  refine lv_aload_n hC.1 hC.2.1 dX14_size_0 rfl (lv_at hl 1 rfl) ?_
  refine lv_bipush (v := (nI 10)) hC.1 hC.2.1 dX14_size_1 (by decide) ?_
  refine M_V (n := 1) (C := RX3) (T := TX3) hC hl.1 hK hX hw (h0.tra h1.2.1).1 (h0.tra h1.2.1).2 (by decide) rfl (tX3_begins l N ad K I R t (nI 10) G b (h0) (h1.2.1)) (lw_V q1007 q1002 q1003 q63 q1004) (by decide +kernel) ⟨by decide, by decide⟩ rfl rfl (Nat.le_of_ble_eq_true rfl) dX14_size_3 ⟨by simp only [gN]; omega, by simp only [gN]; omega⟩ ?_
  rintro _ N2 ad2 K2 I3 R3 H locs ⟨I4, R4, e3, rfl, b3, k3⟩ hg hw
  cases e3
  dsimp only at b3 k3
  have a3 := h1.keep k3
  refine lv_aload_n hC.1 hC.2.1 dX14_size_6 rfl (lv_at hl 0 rfl) ?_
  obtain ⟨kk, wN, k1, k5, kk0, g9, i0, i1⟩ := a3.wk b3 hq
  refine F_holds hC hl.1 hK hX hZ hw wN kk0 ⟨k1, k5⟩ ⟨by decide, by decide⟩ (Nat.le_of_ble_eq_true rfl) dX14_size_7 ⟨Nat.zero_le _, Nat.zero_le _⟩ (fun H locs hw => ?_)
  exact M_iret hC hlk hw gGo.rf ⟨by simp only [gN]; omega, by simp only [gN]; omega⟩ hr rfl (⟨congrArg (fun z => some (Value.int z)) (by rw [lent10, i1, beginG_6]), _, _, rfl, by exact b3, k3⟩) dX14_size_12

set_option maxHeartbeats 800000 in
theorem tX14_mark_z (l : Launch) (N : Nat) (ad : Nat → Nat) (K : gK) (I : mG) (R : gR) (w : Nat) (t : Nat) (h : Nat) (G : mG) (b : Bool) (q : Nat) (h0 : wcR N K I R G b) (h1 : askR N K I R w h q t) (hq : q < 16) : gMN l yX14_mark cX14_mark 3 (some FieldType.int) (ws_ yX14_mark cX14_mark 3 (some FieldType.int)) ({ frames := 1, cells := 0, slots := 0, locals := 21 } : Room) [.ref (ad w), .ref (ad t), .ref (ad h)] N ad K I R (fun v S => v = some (.int (lentF (G 6) (nI 20) q)) ∧ ∃ I' R', S = (N, ad, K, I', R') ∧ wcR N K I' R' (beginG G (nI 20)) b ∧ kW K I I' R R') := by
  refine gMN.of (Nat.le_of_ble_eq_true rfl) ?_
  intro D dA p e s m args below meth cd ls hC hlk hr hK hX hZ hst hl hw
  have hl : lv_has ls 3 [(0, .ref (ad w)), (1, .ref (ad t)), (2, .ref (ad h))] := hl
  have hge := h0.ge
  refine lv_aload_n hC.1 hC.2.1 dX14_mark_0 rfl (lv_at hl 1 rfl) ?_
  refine lv_bipush (v := (nI 20)) hC.1 hC.2.1 dX14_mark_1 (by decide) ?_
  refine M_V (n := 1) (C := RX3) (T := TX3) hC hl.1 hK hX hw (h0.tra h1.2.1).1 (h0.tra h1.2.1).2 (by decide) rfl (tX3_begins l N ad K I R t (nI 20) G b (h0) (h1.2.1)) (lw_V q1007 q1002 q1003 q63 q1004) (by decide +kernel) ⟨by decide, by decide⟩ rfl rfl (Nat.le_of_ble_eq_true rfl) dX14_mark_3 ⟨by simp only [gN]; omega, by simp only [gN]; omega⟩ ?_
  rintro _ N2 ad2 K2 I3 R3 H locs ⟨I4, R4, e3, rfl, b3, k3⟩ hg hw
  cases e3
  dsimp only at b3 k3
  have a3 := h1.keep k3
  refine lv_aload_n hC.1 hC.2.1 dX14_mark_6 rfl (lv_at hl 0 rfl) ?_
  obtain ⟨kk, wN, k1, k5, kk0, g9, i0, i1⟩ := a3.wk b3 hq
  refine F_cell hC hl.1 hK hX hZ hw wN kk0 ⟨k1, k5⟩ ⟨by decide, by decide⟩ (Nat.le_of_ble_eq_true rfl) dX14_mark_7 ⟨Nat.zero_le _, Nat.zero_le _⟩ (fun H locs hw => ?_)
  exact M_iret hC hlk hw gGo.rf ⟨by simp only [gN]; omega, by simp only [gN]; omega⟩ hr rfl (⟨congrArg (fun z => some (Value.int z)) (by rw [lent20, i0]), _, _, rfl, by exact b3, k3⟩) dX14_mark_12

set_option maxHeartbeats 800000 in
theorem tX5_mark_z (l : Launch) (N : Nat) (ad : Nat → Nat) (K : gK) (I : mG) (R : gR) (w : Nat) (t : Nat) (h : Nat) (G : mG) (b : Bool) (q : Nat) (k : Nat) (h0 : wcR N K I R G b) (h1 : askR N K I R w h q t) (hq : q < 16) (hk9 : G 6 (9 + q) = nI k) (hks : k = 1 ∨ k = 2 ∨ k = 3) : gMZ l yX5_mark (ws_ yX5_mark cX5_mark 3 (some FieldType.int)) ({ frames := 6, cells := 0, slots := 0, locals := 142 } : Room) [.ref (ad w), .ref (ad t), .ref (ad h)] N ad K I R (fun v S => v = some (.int (wmkR (G 6) q)) ∧ ∃ I' R', S = (N, ad, K, I', R') ∧ wcR N K I' R' (wmkG G) b ∧ kW K I I' R R') := by
  refine gMZ.of (by decide) (Nat.le_of_ble_eq_true rfl) ?_
  intro D dA p e s m args below meth cd ls hC hlk hr hK hX hZ hst hl hw
  have hl : lv_has ls 3 [(0, .ref (ad w)), (1, .ref (ad t)), (2, .ref (ad h))] := hl
  have hge := h0.ge
  obtain ⟨k_, wN, k1, k5, kk0, g9, i0, i1⟩ := h1.wk h0 hq
  have ek : k = k_ := nI_inj (hk9.symm.trans g9) (by omega) (by omega)
  subst ek
  rcases hks with rfl | rfl | rfl
  · refine lv_aload_n hC.1 hC.2.1 dX5_mark_0 rfl (lv_at hl 1 rfl) ?_
    refine lv_bipush (v := (nI 21)) hC.1 hC.2.1 dX5_mark_1 (by decide) ?_
    refine M_V (n := 1) (C := RX3) (T := TX3) hC hl.1 hK hX hw (h0.tra h1.2.1).1 (h0.tra h1.2.1).2 (by decide) rfl (tX3_begins l N ad K I R t (nI 21) G b (h0) (h1.2.1)) (lw_V q1035 q1002 q1003 q63 q1004) (by decide +kernel) ⟨by decide, by decide⟩ rfl rfl (Nat.le_of_ble_eq_true rfl) dX5_mark_3 ⟨by simp only [gN]; omega, by simp only [gN]; omega⟩ ?_
    rintro _ N2 ad2 K2 I3 R3 H locs ⟨I4, R4, e3, rfl, b3, k3⟩ hg hw
    cases e3
    dsimp only at b3 k3
    have a3 := h1.keep k3
    refine lv_aload_n hC.1 hC.2.1 dX5_mark_6 rfl (lv_at hl 0 rfl) ?_
    refine lv_aload_n hC.1 hC.2.1 dX5_mark_7 rfl (lv_at hl 1 rfl) ?_
    refine lv_aload_n hC.1 hC.2.1 dX5_mark_8 rfl (lv_at hl 2 rfl) ?_
    refine Z_SUD (nm := "mark") (C := RX5) (T := TX5) hC hl.1 hK hX hZ hst hw wN kk0 (by decide) rfl (tX14_mark_z l N ad K I3 R3 w t h (beginG G (nI 21)) b q b3 a3 hq) (by decide) (by decide +kernel) (by decide +kernel) q201 hZ.2.2.2.2.2.2.2.1 q1051 q1052 ⟨by decide, by decide⟩ rfl rfl (Nat.le_of_ble_eq_true rfl) dX5_mark_9 ⟨by simp only [gN]; omega, by simp only [gN]; omega⟩ ?_
    rintro _ N2 ad2 K2 I9 R9 H locs ⟨rfl, I8, R8, e8, b9, q9⟩ hg hw
    cases e8
    have a9 := a3.keep q9
    have k9 := k3.tr q9
    refine lv_aload_n hC.1 hC.2.1 dX5_mark_12 rfl (lv_at hl 2 rfl) ?_
    refine F_M (n := 0) (x := ⟨"WindCarver$Held", "felt", "()I"⟩) (C := RX13) (T := TX13) hC hl.1 hK hX hw a9.2.2.2.1 a9.2.2.2.2.1 (by decide) rfl (tX13_felt l N ad K I9 R9 h (beginG (beginG G (nI 21)) (nI 20)) b q b9 ⟨a9.2.2.1, a9.2.2.2.1⟩ a9.2.2.2.2.1 a9.2.2.2.2.2.1 a9.2.2.2.2.2.2 hq) (lw_F q1069 q1073 q1075 q90 q1077) hZ.2.2.2.2.2.2.2.2.2 (by decide +kernel) ⟨by decide, by decide⟩ rfl rfl (Nat.le_of_ble_eq_true rfl) dX5_mark_13 ⟨by simp only [gN]; omega, by simp only [gN]; omega⟩ ?_
    rintro _ N2 ad2 K2 I13 R13 H locs ⟨I8, R8, e8, rfl, o13⟩ hg hw
    cases e8
    dsimp only at o13
    have b13 := b9.blw o13
    have k13 := k9.tr (kW.off (K := K) o13)
    refine lv_iadd hC.1 hC.2.1 dX5_mark_18 ?_
    exact M_iret hC hlk hw gGo.rf ⟨by simp only [gN]; omega, by simp only [gN]; omega⟩ hr rfl (⟨congrArg (fun z => some (Value.int z)) (by simp only [beginG_6]; rfl), _, _, rfl, by exact b13, k13⟩) dX5_mark_19
  · refine lv_aload_n hC.1 hC.2.1 dX5_mark_0 rfl (lv_at hl 1 rfl) ?_
    refine lv_bipush (v := (nI 21)) hC.1 hC.2.1 dX5_mark_1 (by decide) ?_
    refine M_V (n := 1) (C := RX3) (T := TX3) hC hl.1 hK hX hw (h0.tra h1.2.1).1 (h0.tra h1.2.1).2 (by decide) rfl (tX3_begins l N ad K I R t (nI 21) G b (h0) (h1.2.1)) (lw_V q1035 q1002 q1003 q63 q1004) (by decide +kernel) ⟨by decide, by decide⟩ rfl rfl (Nat.le_of_ble_eq_true rfl) dX5_mark_3 ⟨by simp only [gN]; omega, by simp only [gN]; omega⟩ ?_
    rintro _ N2 ad2 K2 I3 R3 H locs ⟨I4, R4, e3, rfl, b3, k3⟩ hg hw
    cases e3
    dsimp only at b3 k3
    have a3 := h1.keep k3
    refine lv_aload_n hC.1 hC.2.1 dX5_mark_6 rfl (lv_at hl 0 rfl) ?_
    refine lv_aload_n hC.1 hC.2.1 dX5_mark_7 rfl (lv_at hl 1 rfl) ?_
    refine lv_aload_n hC.1 hC.2.1 dX5_mark_8 rfl (lv_at hl 2 rfl) ?_
    refine Z_SUD (nm := "mark") (C := RX9) (T := TX9) hC hl.1 hK hX hZ hst hw wN kk0 (by decide) rfl (tX14_mark_z l N ad K I3 R3 w t h (beginG G (nI 21)) b q b3 a3 hq) (by decide) (by decide +kernel) (by decide +kernel) q201 hZ.2.2.2.2.2.2.2.1 q1051 q1052 ⟨by decide, by decide⟩ rfl rfl (Nat.le_of_ble_eq_true rfl) dX5_mark_9 ⟨by simp only [gN]; omega, by simp only [gN]; omega⟩ ?_
    rintro _ N2 ad2 K2 I9 R9 H locs ⟨rfl, I8, R8, e8, b9, q9⟩ hg hw
    cases e8
    have a9 := a3.keep q9
    have k9 := k3.tr q9
    refine lv_aload_n hC.1 hC.2.1 dX5_mark_12 rfl (lv_at hl 2 rfl) ?_
    refine F_M (n := 0) (x := ⟨"WindCarver$Held", "felt", "()I"⟩) (C := RX13) (T := TX13) hC hl.1 hK hX hw a9.2.2.2.1 a9.2.2.2.2.1 (by decide) rfl (tX13_felt l N ad K I9 R9 h (beginG (beginG G (nI 21)) (nI 20)) b q b9 ⟨a9.2.2.1, a9.2.2.2.1⟩ a9.2.2.2.2.1 a9.2.2.2.2.2.1 a9.2.2.2.2.2.2 hq) (lw_F q1069 q1073 q1075 q90 q1077) hZ.2.2.2.2.2.2.2.2.2 (by decide +kernel) ⟨by decide, by decide⟩ rfl rfl (Nat.le_of_ble_eq_true rfl) dX5_mark_13 ⟨by simp only [gN]; omega, by simp only [gN]; omega⟩ ?_
    rintro _ N2 ad2 K2 I13 R13 H locs ⟨I8, R8, e8, rfl, o13⟩ hg hw
    cases e8
    dsimp only at o13
    have b13 := b9.blw o13
    have k13 := k9.tr (kW.off (K := K) o13)
    refine lv_iadd hC.1 hC.2.1 dX5_mark_18 ?_
    exact M_iret hC hlk hw gGo.rf ⟨by simp only [gN]; omega, by simp only [gN]; omega⟩ hr rfl (⟨congrArg (fun z => some (Value.int z)) (by simp only [beginG_6]; rfl), _, _, rfl, by exact b13, k13⟩) dX5_mark_19
  · refine lv_aload_n hC.1 hC.2.1 dX5_mark_0 rfl (lv_at hl 1 rfl) ?_
    refine lv_bipush (v := (nI 21)) hC.1 hC.2.1 dX5_mark_1 (by decide) ?_
    refine M_V (n := 1) (C := RX3) (T := TX3) hC hl.1 hK hX hw (h0.tra h1.2.1).1 (h0.tra h1.2.1).2 (by decide) rfl (tX3_begins l N ad K I R t (nI 21) G b (h0) (h1.2.1)) (lw_V q1035 q1002 q1003 q63 q1004) (by decide +kernel) ⟨by decide, by decide⟩ rfl rfl (Nat.le_of_ble_eq_true rfl) dX5_mark_3 ⟨by simp only [gN]; omega, by simp only [gN]; omega⟩ ?_
    rintro _ N2 ad2 K2 I3 R3 H locs ⟨I4, R4, e3, rfl, b3, k3⟩ hg hw
    cases e3
    dsimp only at b3 k3
    have a3 := h1.keep k3
    refine lv_aload_n hC.1 hC.2.1 dX5_mark_6 rfl (lv_at hl 0 rfl) ?_
    refine lv_aload_n hC.1 hC.2.1 dX5_mark_7 rfl (lv_at hl 1 rfl) ?_
    refine lv_aload_n hC.1 hC.2.1 dX5_mark_8 rfl (lv_at hl 2 rfl) ?_
    refine Z_SUD (nm := "mark") (C := RX10) (T := TX10) hC hl.1 hK hX hZ hst hw wN kk0 (by decide) rfl (tX14_mark_z l N ad K I3 R3 w t h (beginG G (nI 21)) b q b3 a3 hq) (by decide) (by decide +kernel) (by decide +kernel) q201 hZ.2.2.2.2.2.2.2.1 q1051 q1052 ⟨by decide, by decide⟩ rfl rfl (Nat.le_of_ble_eq_true rfl) dX5_mark_9 ⟨by simp only [gN]; omega, by simp only [gN]; omega⟩ ?_
    rintro _ N2 ad2 K2 I9 R9 H locs ⟨rfl, I8, R8, e8, b9, q9⟩ hg hw
    cases e8
    have a9 := a3.keep q9
    have k9 := k3.tr q9
    refine lv_aload_n hC.1 hC.2.1 dX5_mark_12 rfl (lv_at hl 2 rfl) ?_
    refine F_M (n := 0) (x := ⟨"WindCarver$Held", "felt", "()I"⟩) (C := RX13) (T := TX13) hC hl.1 hK hX hw a9.2.2.2.1 a9.2.2.2.2.1 (by decide) rfl (tX13_felt l N ad K I9 R9 h (beginG (beginG G (nI 21)) (nI 20)) b q b9 ⟨a9.2.2.1, a9.2.2.2.1⟩ a9.2.2.2.2.1 a9.2.2.2.2.2.1 a9.2.2.2.2.2.2 hq) (lw_F q1069 q1073 q1075 q90 q1077) hZ.2.2.2.2.2.2.2.2.2 (by decide +kernel) ⟨by decide, by decide⟩ rfl rfl (Nat.le_of_ble_eq_true rfl) dX5_mark_13 ⟨by simp only [gN]; omega, by simp only [gN]; omega⟩ ?_
    rintro _ N2 ad2 K2 I13 R13 H locs ⟨I8, R8, e8, rfl, o13⟩ hg hw
    cases e8
    dsimp only at o13
    have b13 := b9.blw o13
    have k13 := k9.tr (kW.off (K := K) o13)
    refine lv_iadd hC.1 hC.2.1 dX5_mark_18 ?_
    exact M_iret hC hlk hw gGo.rf ⟨by simp only [gN]; omega, by simp only [gN]; omega⟩ hr rfl (⟨congrArg (fun z => some (Value.int z)) (by simp only [beginG_6]; rfl), _, _, rfl, by exact b13, k13⟩) dX5_mark_19

set_option maxHeartbeats 800000 in
theorem tX9_mark_z (l : Launch) (N : Nat) (ad : Nat → Nat) (K : gK) (I : mG) (R : gR) (w : Nat) (t : Nat) (h : Nat) (G : mG) (b : Bool) (q : Nat) (k : Nat) (h0 : wcR N K I R G b) (h1 : askR N K I R w h q t) (hq : q < 16) (hk9 : G 6 (9 + q) = nI k) (hks : k = 2) : gMZ l yX9_mark (ws_ yX9_mark cX9_mark 3 (some FieldType.int)) ({ frames := 7, cells := 0, slots := 0, locals := 164 } : Room) [.ref (ad w), .ref (ad t), .ref (ad h)] N ad K I R (fun v S => v = some (.int (nI 2 * wmkR ((beginG G (nI 24)) 6) q)) ∧ ∃ I' R', S = (N, ad, K, I', R') ∧ wcR N K I' R' (wmkG (beginG G (nI 24))) b ∧ kW K I I' R R') := by
  refine gMZ.of (by decide) (Nat.le_of_ble_eq_true rfl) ?_
  intro D dA p e s m args below meth cd ls hC hlk hr hK hX hZ hst hl hw
  have hl : lv_has ls 3 [(0, .ref (ad w)), (1, .ref (ad t)), (2, .ref (ad h))] := hl
  have hge := h0.ge
  obtain ⟨k_, wN, k1, k5, kk0, g9, i0, i1⟩ := h1.wk h0 hq
  have ek : k = k_ := nI_inj (hk9.symm.trans g9) (by omega) (by omega)
  subst ek
  subst hks
  refine lv_aload_n hC.1 hC.2.1 dX9_mark_0 rfl (lv_at hl 1 rfl) ?_
  refine lv_bipush (v := (nI 24)) hC.1 hC.2.1 dX9_mark_1 (by decide) ?_
  refine M_V (n := 1) (C := RX3) (T := TX3) hC hl.1 hK hX hw (h0.tra h1.2.1).1 (h0.tra h1.2.1).2 (by decide) rfl (tX3_begins l N ad K I R t (nI 24) G b (h0) (h1.2.1)) (lw_V q1031 q1002 q1003 q63 q1004) (by decide +kernel) ⟨by decide, by decide⟩ rfl rfl (Nat.le_of_ble_eq_true rfl) dX9_mark_3 ⟨by simp only [gN]; omega, by simp only [gN]; omega⟩ ?_
  rintro _ N2 ad2 K2 I3 R3 H locs ⟨I4, R4, e3, rfl, b3, k3⟩ hg hw
  cases e3
  dsimp only at b3 k3
  have a3 := h1.keep k3
  refine lv_iconst (v := (nI 2)) hC.1 hC.2.1 dX9_mark_6 (by decide) ?_
  refine lv_aload_n hC.1 hC.2.1 dX9_mark_7 rfl (lv_at hl 0 rfl) ?_
  refine lv_aload_n hC.1 hC.2.1 dX9_mark_8 rfl (lv_at hl 1 rfl) ?_
  refine lv_aload_n hC.1 hC.2.1 dX9_mark_9 rfl (lv_at hl 2 rfl) ?_
  refine Z_SU (n := 2) (C := RX9) (T := TX9) hC hl.1 hK hX hZ hst hw wN kk0 (by decide) rfl (tX5_mark_z l N ad K I3 R3 w t h (beginG G (nI 24)) b q 2 b3 a3 hq (by simp only [beginG_6, blow6]; exact hk9) (by decide)) (lw_SU q1043 q1039 q660 q1037 q65 q1049) (by decide +kernel) ⟨by decide, by decide⟩ rfl rfl (Nat.le_of_ble_eq_true rfl) dX9_mark_10 ⟨by simp only [gN]; omega, by simp only [gN]; omega⟩ ?_
  rintro _ N2 ad2 K2 I10 R10 H locs ⟨rfl, I8, R8, e8, b10, q10⟩ hg hw
  cases e8
  have a10 := a3.keep q10
  have k10 := k3.tr q10
  refine lv_imul hC.1 hC.2.1 dX9_mark_13 ?_
  exact M_iret hC hlk hw gGo.rf ⟨by simp only [gN]; omega, by simp only [gN]; omega⟩ hr rfl (⟨congrArg (fun z => some (Value.int z)) (rfl), _, _, rfl, by exact b10, k10⟩) dX9_mark_14

set_option maxHeartbeats 800000 in
theorem tX10_mark_z (l : Launch) (N : Nat) (ad : Nat → Nat) (K : gK) (I : mG) (R : gR) (w : Nat) (t : Nat) (h : Nat) (G : mG) (b : Bool) (q : Nat) (k : Nat) (h0 : wcR N K I R G b) (h1 : askR N K I R w h q t) (hq : q < 16) (hk9 : G 6 (9 + q) = nI k) (hks : k = 3) : gMZ l yX10_mark (ws_ yX10_mark cX10_mark 3 (some FieldType.int)) ({ frames := 7, cells := 0, slots := 0, locals := 164 } : Room) [.ref (ad w), .ref (ad t), .ref (ad h)] N ad K I R (fun v S => v = some (.int (wmkR ((beginG G (nI 22)) 6) q - nI 1000)) ∧ ∃ I' R', S = (N, ad, K, I', R') ∧ wcR N K I' R' (wmkG (beginG G (nI 22))) b ∧ kW K I I' R R') := by
  refine gMZ.of (by decide) (Nat.le_of_ble_eq_true rfl) ?_
  intro D dA p e s m args below meth cd ls hC hlk hr hK hX hZ hst hl hw
  have hl : lv_has ls 3 [(0, .ref (ad w)), (1, .ref (ad t)), (2, .ref (ad h))] := hl
  have hge := h0.ge
  obtain ⟨k_, wN, k1, k5, kk0, g9, i0, i1⟩ := h1.wk h0 hq
  have ek : k = k_ := nI_inj (hk9.symm.trans g9) (by omega) (by omega)
  subst ek
  subst hks
  refine lv_aload_n hC.1 hC.2.1 dX10_mark_0 rfl (lv_at hl 1 rfl) ?_
  refine lv_bipush (v := (nI 22)) hC.1 hC.2.1 dX10_mark_1 (by decide) ?_
  refine M_V (n := 1) (C := RX3) (T := TX3) hC hl.1 hK hX hw (h0.tra h1.2.1).1 (h0.tra h1.2.1).2 (by decide) rfl (tX3_begins l N ad K I R t (nI 22) G b (h0) (h1.2.1)) (lw_V q1047 q1002 q1003 q63 q1004) (by decide +kernel) ⟨by decide, by decide⟩ rfl rfl (Nat.le_of_ble_eq_true rfl) dX10_mark_3 ⟨by simp only [gN]; omega, by simp only [gN]; omega⟩ ?_
  rintro _ N2 ad2 K2 I3 R3 H locs ⟨I4, R4, e3, rfl, b3, k3⟩ hg hw
  cases e3
  dsimp only at b3 k3
  have a3 := h1.keep k3
  refine lv_aload_n hC.1 hC.2.1 dX10_mark_6 rfl (lv_at hl 0 rfl) ?_
  refine lv_aload_n hC.1 hC.2.1 dX10_mark_7 rfl (lv_at hl 1 rfl) ?_
  refine lv_aload_n hC.1 hC.2.1 dX10_mark_8 rfl (lv_at hl 2 rfl) ?_
  refine Z_SU (n := 2) (C := RX10) (T := TX10) hC hl.1 hK hX hZ hst hw wN kk0 (by decide) rfl (tX5_mark_z l N ad K I3 R3 w t h (beginG G (nI 22)) b q 3 b3 a3 hq (by simp only [beginG_6, blow6]; exact hk9) (by decide)) (lw_SU q1048 q1039 q669 q1037 q65 q1049) (by decide +kernel) ⟨by decide, by decide⟩ rfl rfl (Nat.le_of_ble_eq_true rfl) dX10_mark_9 ⟨by simp only [gN]; omega, by simp only [gN]; omega⟩ ?_
  rintro _ N2 ad2 K2 I9 R9 H locs ⟨rfl, I8, R8, e8, b9, q9⟩ hg hw
  cases e8
  have a9 := a3.keep q9
  have k9 := k3.tr q9
  refine lv_sipush (v := (nI 1000)) hC.1 hC.2.1 dX10_mark_12 (by decide) ?_
  refine lv_isub hC.1 hC.2.1 dX10_mark_15 ?_
  exact M_iret hC hlk hw gGo.rf ⟨by simp only [gN]; omega, by simp only [gN]; omega⟩ hr rfl (⟨congrArg (fun z => some (Value.int z)) (rfl), _, _, rfl, by exact b9, k9⟩) dX10_mark_16

theorem mo1 {G : mG} {q : Nat} (h : G 6 (9 + q) = nI 1) : mX6_markOf G q = (wmkR (G 6) q, wmkG G) := by
  unfold mX6_markOf
  rw [h]
  rfl
theorem mo2 {G : mG} {q : Nat} (h : G 6 (9 + q) = nI 2) : mX6_markOf G q = (nI 2 * wmkR ((beginG G (nI 24)) 6) q, wmkG (beginG G (nI 24))) := by
  unfold mX6_markOf
  rw [h]
  rfl
theorem mo3 {G : mG} {q : Nat} (h : G 6 (9 + q) = nI 3) : mX6_markOf G q = (wmkR ((beginG G (nI 22)) 6) q - nI 1000, wmkG (beginG G (nI 22))) := by
  unfold mX6_markOf
  rw [h]
  rfl
theorem sh4 {G : mG} {q : Nat} (h : G 6 (9 + q) = nI 4) : mX6_sizeOfHand G q = (hszR (G 6) q, hszG G) := by
  unfold mX6_sizeOfHand
  rw [h]
  rfl
theorem sh5 {G : mG} {q : Nat} (h : G 6 (9 + q) = nI 5) : mX6_sizeOfHand G q = (nI 2 * hszR ((beginG G (nI 14)) 6) q, hszG (beginG G (nI 14))) := by
  unfold mX6_sizeOfHand
  rw [h]
  rfl
theorem mo4 {G : mG} {q k : Nat} (h : G 6 (9 + q) = nI k) (hk : k = 4 ∨ k = 5) : mX6_markOf G q = (lentF ((beginG G (nI 23)) 6) (nI 20) q - (mX6_sizeOfHand (beginG (beginG G (nI 23)) (nI 20)) q).1, (mX6_sizeOfHand (beginG (beginG G (nI 23)) (nI 20)) q).2) := by
  unfold mX6_markOf
  rw [h]
  rcases hk with rfl | rfl <;> rfl
theorem so1 {G : mG} {q k : Nat} (h : G 6 (9 + q) = nI k) (hk : k = 1 ∨ k = 3) : mX6_sizeOf G q = mX6_wallSize G q := by
  unfold mX6_sizeOf
  rw [h]
  rcases hk with rfl | rfl <;> rfl
theorem so2 {G : mG} {q : Nat} (h : G 6 (9 + q) = nI 2) : mX6_sizeOf G q = (-(mX6_wallSize (beginG G (nI 12)) q).1, (mX6_wallSize (beginG G (nI 12)) q).2) := by
  unfold mX6_sizeOf
  rw [h]
  rfl
theorem so4 {G : mG} {q k : Nat} (h : G 6 (9 + q) = nI k) (hk : k = 4 ∨ k = 5) : mX6_sizeOf G q = mX6_sizeOfHand G q := by
  unfold mX6_sizeOf
  rw [h]
  rcases hk with rfl | rfl <;> rfl

set_option maxHeartbeats 800000 in
theorem tX5_size_z (l : Launch) (N : Nat) (ad : Nat → Nat) (K : gK) (I : mG) (R : gR) (w : Nat) (t : Nat) (h : Nat) (G : mG) (b : Bool) (q : Nat) (k : Nat) (h0 : wcR N K I R G b) (h1 : askR N K I R w h q t) (hq : q < 16) (hk9 : G 6 (9 + q) = nI k) (hks : k = 1 ∨ k = 2 ∨ k = 3) : gMZ l yX5_size (ws_ yX5_size cX5_size 3 (some FieldType.int)) ({ frames := 8, cells := 0, slots := 0, locals := 186 } : Room) [.ref (ad w), .ref (ad t), .ref (ad h)] N ad K I R (fun v S => v = some (.int ((mX6_wallSize G q).1)) ∧ ∃ I' R', S = (N, ad, K, I', R') ∧ wcR N K I' R' ((mX6_wallSize G q).2) b ∧ kW K I I' R R') := by
  refine gMZ.of (by decide) (Nat.le_of_ble_eq_true rfl) ?_
  intro D dA p e s m args below meth cd ls hC hlk hr hK hX hZ hst hl hw
  have hl : lv_has ls 3 [(0, .ref (ad w)), (1, .ref (ad t)), (2, .ref (ad h))] := hl
  have hge := h0.ge
  obtain ⟨k_, wN, k1, k5, kk0, g9, i0, i1⟩ := h1.wk h0 hq
  have ek : k = k_ := nI_inj (hk9.symm.trans g9) (by omega) (by omega)
  subst ek
  rcases hks with rfl | rfl | rfl
  · refine lv_aload_n hC.1 hC.2.1 dX5_size_0 rfl (lv_at hl 1 rfl) ?_
    refine lv_bipush (v := (nI 11)) hC.1 hC.2.1 dX5_size_1 (by decide) ?_
    refine M_V (n := 1) (C := RX3) (T := TX3) hC hl.1 hK hX hw (h0.tra h1.2.1).1 (h0.tra h1.2.1).2 (by decide) rfl (tX3_begins l N ad K I R t (nI 11) G b (h0) (h1.2.1)) (lw_V q1035 q1002 q1003 q63 q1004) (by decide +kernel) ⟨by decide, by decide⟩ rfl rfl (Nat.le_of_ble_eq_true rfl) dX5_size_3 ⟨by simp only [gN]; omega, by simp only [gN]; omega⟩ ?_
    rintro _ N2 ad2 K2 I3 R3 H locs ⟨I4, R4, e3, rfl, b3, k3⟩ hg hw
    cases e3
    dsimp only at b3 k3
    have a3 := h1.keep k3
    refine lv_aload_n hC.1 hC.2.1 dX5_size_6 rfl (lv_at hl 0 rfl) ?_
    refine lv_aload_n hC.1 hC.2.1 dX5_size_7 rfl (lv_at hl 1 rfl) ?_
    refine lv_aload_n hC.1 hC.2.1 dX5_size_8 rfl (lv_at hl 2 rfl) ?_
    refine Z_SUD (nm := "size") (C := RX5) (T := TX5) hC hl.1 hK hX hZ hst hw wN kk0 (by decide) rfl (tX14_size_z l N ad K I3 R3 w t h (beginG G (nI 11)) b q b3 a3 hq) (by decide) (by decide +kernel) (by decide +kernel) q201 hZ.2.2.2.2.2.2.1 q1005 q1006 ⟨by decide, by decide⟩ rfl rfl (Nat.le_of_ble_eq_true rfl) dX5_size_9 ⟨by simp only [gN]; omega, by simp only [gN]; omega⟩ ?_
    rintro _ N2 ad2 K2 I9 R9 H locs ⟨rfl, I8, R8, e8, b9, q9⟩ hg hw
    cases e8
    have a9 := a3.keep q9
    have k9 := k3.tr q9
    refine lv_aload_n hC.1 hC.2.1 dX5_size_12 rfl (lv_at hl 0 rfl) ?_
    refine lv_aload_n hC.1 hC.2.1 dX5_size_13 rfl (lv_at hl 1 rfl) ?_
    refine lv_aload_n hC.1 hC.2.1 dX5_size_14 rfl (lv_at hl 2 rfl) ?_
    refine Z_V (n := 2) (C := RX5) (T := TX5) hC hl.1 hK hX hZ hst hw wN kk0 (by decide) rfl (tX5_mark_z l N ad K I9 R9 w t h (beginG (beginG G (nI 11)) (nI 10)) b q 1 b9 a9 hq (by simp only [beginG_6, blow6]; exact hk9) (by decide)) (lw_V q1036 q1037 q1038 q65 q1049) (by decide +kernel) ⟨by decide, by decide⟩ rfl rfl (Nat.le_of_ble_eq_true rfl) dX5_size_15 ⟨by simp only [gN]; omega, by simp only [gN]; omega⟩ ?_
    rintro _ N2 ad2 K2 I15 R15 H locs ⟨rfl, I8, R8, e8, b15, q15⟩ hg hw
    cases e8
    have a15 := a9.keep q15
    have k15 := k9.tr q15
    refine lv_iadd hC.1 hC.2.1 dX5_size_18 ?_
    exact M_iret hC hlk hw gGo.rf ⟨by simp only [gN]; omega, by simp only [gN]; omega⟩ hr rfl (⟨congrArg (fun z => some (Value.int z)) (by unfold mX6_wallSize; rw [mo1 (by simp only [beginG_6]; exact hk9)]), _, _, rfl, by unfold mX6_wallSize; rw [mo1 (by simp only [beginG_6]; exact hk9)]; exact b15, k15⟩) dX5_size_19
  · refine lv_aload_n hC.1 hC.2.1 dX5_size_0 rfl (lv_at hl 1 rfl) ?_
    refine lv_bipush (v := (nI 11)) hC.1 hC.2.1 dX5_size_1 (by decide) ?_
    refine M_V (n := 1) (C := RX3) (T := TX3) hC hl.1 hK hX hw (h0.tra h1.2.1).1 (h0.tra h1.2.1).2 (by decide) rfl (tX3_begins l N ad K I R t (nI 11) G b (h0) (h1.2.1)) (lw_V q1035 q1002 q1003 q63 q1004) (by decide +kernel) ⟨by decide, by decide⟩ rfl rfl (Nat.le_of_ble_eq_true rfl) dX5_size_3 ⟨by simp only [gN]; omega, by simp only [gN]; omega⟩ ?_
    rintro _ N2 ad2 K2 I3 R3 H locs ⟨I4, R4, e3, rfl, b3, k3⟩ hg hw
    cases e3
    dsimp only at b3 k3
    have a3 := h1.keep k3
    refine lv_aload_n hC.1 hC.2.1 dX5_size_6 rfl (lv_at hl 0 rfl) ?_
    refine lv_aload_n hC.1 hC.2.1 dX5_size_7 rfl (lv_at hl 1 rfl) ?_
    refine lv_aload_n hC.1 hC.2.1 dX5_size_8 rfl (lv_at hl 2 rfl) ?_
    refine Z_SUD (nm := "size") (C := RX9) (T := TX9) hC hl.1 hK hX hZ hst hw wN kk0 (by decide) rfl (tX14_size_z l N ad K I3 R3 w t h (beginG G (nI 11)) b q b3 a3 hq) (by decide) (by decide +kernel) (by decide +kernel) q201 hZ.2.2.2.2.2.2.1 q1005 q1006 ⟨by decide, by decide⟩ rfl rfl (Nat.le_of_ble_eq_true rfl) dX5_size_9 ⟨by simp only [gN]; omega, by simp only [gN]; omega⟩ ?_
    rintro _ N2 ad2 K2 I9 R9 H locs ⟨rfl, I8, R8, e8, b9, q9⟩ hg hw
    cases e8
    have a9 := a3.keep q9
    have k9 := k3.tr q9
    refine lv_aload_n hC.1 hC.2.1 dX5_size_12 rfl (lv_at hl 0 rfl) ?_
    refine lv_aload_n hC.1 hC.2.1 dX5_size_13 rfl (lv_at hl 1 rfl) ?_
    refine lv_aload_n hC.1 hC.2.1 dX5_size_14 rfl (lv_at hl 2 rfl) ?_
    refine Z_U (n := 2) (owner := RX5) (x := yX5_mark) (C := RX9) (T := TX9) hC hl.1 hK hX hZ hst hw wN kk0 (by decide) rfl (tX9_mark_z l N ad K I9 R9 w t h (beginG (beginG G (nI 11)) (nI 10)) b q 2 b9 a9 hq (by simp only [beginG_6, blow6]; exact hk9) rfl) (va_cwO 2 hC.2.2.2.2 (lw_O q1036 q1039 q1037 q1040 q1041 q84 q1042) rfl rfl rfl q1049 (by decide +kernel) ⟨by decide, by decide⟩) rfl rfl (Nat.le_of_ble_eq_true rfl) dX5_size_15 ⟨by simp only [gN]; omega, by simp only [gN]; omega⟩ ?_
    rintro _ N2 ad2 K2 I15 R15 H locs ⟨rfl, I8, R8, e8, b15, q15⟩ hg hw
    cases e8
    have a15 := a9.keep q15
    have k15 := k9.tr q15
    refine lv_iadd hC.1 hC.2.1 dX5_size_18 ?_
    exact M_iret hC hlk hw gGo.rf ⟨by simp only [gN]; omega, by simp only [gN]; omega⟩ hr rfl (⟨congrArg (fun z => some (Value.int z)) (by unfold mX6_wallSize; rw [mo2 (by simp only [beginG_6]; exact hk9)]), _, _, rfl, by unfold mX6_wallSize; rw [mo2 (by simp only [beginG_6]; exact hk9)]; exact b15, k15⟩) dX5_size_19
  · refine lv_aload_n hC.1 hC.2.1 dX5_size_0 rfl (lv_at hl 1 rfl) ?_
    refine lv_bipush (v := (nI 11)) hC.1 hC.2.1 dX5_size_1 (by decide) ?_
    refine M_V (n := 1) (C := RX3) (T := TX3) hC hl.1 hK hX hw (h0.tra h1.2.1).1 (h0.tra h1.2.1).2 (by decide) rfl (tX3_begins l N ad K I R t (nI 11) G b (h0) (h1.2.1)) (lw_V q1035 q1002 q1003 q63 q1004) (by decide +kernel) ⟨by decide, by decide⟩ rfl rfl (Nat.le_of_ble_eq_true rfl) dX5_size_3 ⟨by simp only [gN]; omega, by simp only [gN]; omega⟩ ?_
    rintro _ N2 ad2 K2 I3 R3 H locs ⟨I4, R4, e3, rfl, b3, k3⟩ hg hw
    cases e3
    dsimp only at b3 k3
    have a3 := h1.keep k3
    refine lv_aload_n hC.1 hC.2.1 dX5_size_6 rfl (lv_at hl 0 rfl) ?_
    refine lv_aload_n hC.1 hC.2.1 dX5_size_7 rfl (lv_at hl 1 rfl) ?_
    refine lv_aload_n hC.1 hC.2.1 dX5_size_8 rfl (lv_at hl 2 rfl) ?_
    refine Z_SUD (nm := "size") (C := RX10) (T := TX10) hC hl.1 hK hX hZ hst hw wN kk0 (by decide) rfl (tX14_size_z l N ad K I3 R3 w t h (beginG G (nI 11)) b q b3 a3 hq) (by decide) (by decide +kernel) (by decide +kernel) q201 hZ.2.2.2.2.2.2.1 q1005 q1006 ⟨by decide, by decide⟩ rfl rfl (Nat.le_of_ble_eq_true rfl) dX5_size_9 ⟨by simp only [gN]; omega, by simp only [gN]; omega⟩ ?_
    rintro _ N2 ad2 K2 I9 R9 H locs ⟨rfl, I8, R8, e8, b9, q9⟩ hg hw
    cases e8
    have a9 := a3.keep q9
    have k9 := k3.tr q9
    refine lv_aload_n hC.1 hC.2.1 dX5_size_12 rfl (lv_at hl 0 rfl) ?_
    refine lv_aload_n hC.1 hC.2.1 dX5_size_13 rfl (lv_at hl 1 rfl) ?_
    refine lv_aload_n hC.1 hC.2.1 dX5_size_14 rfl (lv_at hl 2 rfl) ?_
    refine Z_U (n := 2) (owner := RX5) (x := yX5_mark) (C := RX10) (T := TX10) hC hl.1 hK hX hZ hst hw wN kk0 (by decide) rfl (tX10_mark_z l N ad K I9 R9 w t h (beginG (beginG G (nI 11)) (nI 10)) b q 3 b9 a9 hq (by simp only [beginG_6, blow6]; exact hk9) rfl) (va_cwO 2 hC.2.2.2.2 (lw_O q1036 q1039 q1037 q1044 q1045 q85 q1046) rfl rfl rfl q1049 (by decide +kernel) ⟨by decide, by decide⟩) rfl rfl (Nat.le_of_ble_eq_true rfl) dX5_size_15 ⟨by simp only [gN]; omega, by simp only [gN]; omega⟩ ?_
    rintro _ N2 ad2 K2 I15 R15 H locs ⟨rfl, I8, R8, e8, b15, q15⟩ hg hw
    cases e8
    have a15 := a9.keep q15
    have k15 := k9.tr q15
    refine lv_iadd hC.1 hC.2.1 dX5_size_18 ?_
    exact M_iret hC hlk hw gGo.rf ⟨by simp only [gN]; omega, by simp only [gN]; omega⟩ hr rfl (⟨congrArg (fun z => some (Value.int z)) (by unfold mX6_wallSize; rw [mo3 (by simp only [beginG_6]; exact hk9)]), _, _, rfl, by unfold mX6_wallSize; rw [mo3 (by simp only [beginG_6]; exact hk9)]; exact b15, k15⟩) dX5_size_19

set_option maxHeartbeats 800000 in
theorem tX9_size_z (l : Launch) (N : Nat) (ad : Nat → Nat) (K : gK) (I : mG) (R : gR) (w : Nat) (t : Nat) (h : Nat) (G : mG) (b : Bool) (q : Nat) (k : Nat) (h0 : wcR N K I R G b) (h1 : askR N K I R w h q t) (hq : q < 16) (hk9 : G 6 (9 + q) = nI k) (hks : k = 2) : gMZ l yX9_size (ws_ yX9_size cX9_size 3 (some FieldType.int)) ({ frames := 9, cells := 0, slots := 0, locals := 208 } : Room) [.ref (ad w), .ref (ad t), .ref (ad h)] N ad K I R (fun v S => v = some (.int (-(mX6_wallSize (beginG G (nI 12)) q).1)) ∧ ∃ I' R', S = (N, ad, K, I', R') ∧ wcR N K I' R' ((mX6_wallSize (beginG G (nI 12)) q).2) b ∧ kW K I I' R R') := by
  refine gMZ.of (by decide) (Nat.le_of_ble_eq_true rfl) ?_
  intro D dA p e s m args below meth cd ls hC hlk hr hK hX hZ hst hl hw
  have hl : lv_has ls 3 [(0, .ref (ad w)), (1, .ref (ad t)), (2, .ref (ad h))] := hl
  have hge := h0.ge
  obtain ⟨k_, wN, k1, k5, kk0, g9, i0, i1⟩ := h1.wk h0 hq
  have ek : k = k_ := nI_inj (hk9.symm.trans g9) (by omega) (by omega)
  subst ek
  subst hks
  refine lv_aload_n hC.1 hC.2.1 dX9_size_0 rfl (lv_at hl 1 rfl) ?_
  refine lv_bipush (v := (nI 12)) hC.1 hC.2.1 dX9_size_1 (by decide) ?_
  refine M_V (n := 1) (C := RX3) (T := TX3) hC hl.1 hK hX hw (h0.tra h1.2.1).1 (h0.tra h1.2.1).2 (by decide) rfl (tX3_begins l N ad K I R t (nI 12) G b (h0) (h1.2.1)) (lw_V q1031 q1002 q1003 q63 q1004) (by decide +kernel) ⟨by decide, by decide⟩ rfl rfl (Nat.le_of_ble_eq_true rfl) dX9_size_3 ⟨by simp only [gN]; omega, by simp only [gN]; omega⟩ ?_
  rintro _ N2 ad2 K2 I3 R3 H locs ⟨I4, R4, e3, rfl, b3, k3⟩ hg hw
  cases e3
  dsimp only at b3 k3
  have a3 := h1.keep k3
  refine lv_aload_n hC.1 hC.2.1 dX9_size_6 rfl (lv_at hl 0 rfl) ?_
  refine lv_aload_n hC.1 hC.2.1 dX9_size_7 rfl (lv_at hl 1 rfl) ?_
  refine lv_aload_n hC.1 hC.2.1 dX9_size_8 rfl (lv_at hl 2 rfl) ?_
  refine Z_SU (n := 2) (C := RX9) (T := TX9) hC hl.1 hK hX hZ hst hw wN kk0 (by decide) rfl (tX5_size_z l N ad K I3 R3 w t h (beginG G (nI 12)) b q 2 b3 a3 hq (by simp only [beginG_6, blow6]; exact hk9) (by decide)) (lw_SU q1032 q1499 q660 q1033 q65 q1034) (by decide +kernel) ⟨by decide, by decide⟩ rfl rfl (Nat.le_of_ble_eq_true rfl) dX9_size_9 ⟨by simp only [gN]; omega, by simp only [gN]; omega⟩ ?_
  rintro _ N2 ad2 K2 I9 R9 H locs ⟨rfl, I8, R8, e8, b9, q9⟩ hg hw
  cases e8
  have a9 := a3.keep q9
  have k9 := k3.tr q9
  refine lv_ineg hC.1 hC.2.1 dX9_size_12 ?_
  exact M_iret hC hlk hw gGo.rf ⟨by simp only [gN]; omega, by simp only [gN]; omega⟩ hr rfl (⟨congrArg (fun z => some (Value.int z)) (rfl), _, _, rfl, by exact b9, k9⟩) dX9_size_13

set_option maxHeartbeats 800000 in
theorem tX11_size_z (l : Launch) (N : Nat) (ad : Nat → Nat) (K : gK) (I : mG) (R : gR) (w : Nat) (t : Nat) (h : Nat) (G : mG) (b : Bool) (q : Nat) (k : Nat) (h0 : wcR N K I R G b) (h1 : askR N K I R w h q t) (hq : q < 16) (hk9 : G 6 (9 + q) = nI k) (hks : k = 4 ∨ k = 5) : gMZ l yX11_size (ws_ yX11_size cX11_size 3 (some FieldType.int)) ({ frames := 2, cells := 0, slots := 0, locals := 43 } : Room) [.ref (ad w), .ref (ad t), .ref (ad h)] N ad K I R (fun v S => v = some (.int (hszR (G 6) q)) ∧ ∃ I' R', S = (N, ad, K, I', R') ∧ wcR N K I' R' (hszG G) b ∧ kW K I I' R R') := by
  refine gMZ.of (by decide) (Nat.le_of_ble_eq_true rfl) ?_
  intro D dA p e s m args below meth cd ls hC hlk hr hK hX hZ hst hl hw
  have hl : lv_has ls 3 [(0, .ref (ad w)), (1, .ref (ad t)), (2, .ref (ad h))] := hl
  have hge := h0.ge
  obtain ⟨k_, wN, k1, k5, kk0, g9, i0, i1⟩ := h1.wk h0 hq
  have ek : k = k_ := nI_inj (hk9.symm.trans g9) (by omega) (by omega)
  subst ek
  rcases hks with rfl | rfl
  · refine lv_aload_n hC.1 hC.2.1 dX11_size_0 rfl (lv_at hl 1 rfl) ?_
    refine lv_bipush (v := (nI 13)) hC.1 hC.2.1 dX11_size_1 (by decide) ?_
    refine M_V (n := 1) (C := RX3) (T := TX3) hC hl.1 hK hX hw (h0.tra h1.2.1).1 (h0.tra h1.2.1).2 (by decide) rfl (tX3_begins l N ad K I R t (nI 13) G b (h0) (h1.2.1)) (lw_V q1001 q1002 q1003 q63 q1004) (by decide +kernel) ⟨by decide, by decide⟩ rfl rfl (Nat.le_of_ble_eq_true rfl) dX11_size_3 ⟨by simp only [gN]; omega, by simp only [gN]; omega⟩ ?_
    rintro _ N2 ad2 K2 I3 R3 H locs ⟨I4, R4, e3, rfl, b3, k3⟩ hg hw
    cases e3
    dsimp only at b3 k3
    have a3 := h1.keep k3
    refine lv_aload_n hC.1 hC.2.1 dX11_size_6 rfl (lv_at hl 0 rfl) ?_
    refine lv_aload_n hC.1 hC.2.1 dX11_size_7 rfl (lv_at hl 1 rfl) ?_
    refine lv_aload_n hC.1 hC.2.1 dX11_size_8 rfl (lv_at hl 2 rfl) ?_
    refine Z_SUD (nm := "size") (C := RX11) (T := TX11) hC hl.1 hK hX hZ hst hw wN kk0 (by decide) rfl (tX14_size_z l N ad K I3 R3 w t h (beginG G (nI 13)) b q b3 a3 hq) (by decide) (by decide +kernel) (by decide +kernel) q678 hZ.2.2.2.2.2.2.1 q1005 q1006 ⟨by decide, by decide⟩ rfl rfl (Nat.le_of_ble_eq_true rfl) dX11_size_9 ⟨by simp only [gN]; omega, by simp only [gN]; omega⟩ ?_
    rintro _ N2 ad2 K2 I9 R9 H locs ⟨rfl, I8, R8, e8, b9, q9⟩ hg hw
    cases e8
    have a9 := a3.keep q9
    have k9 := k3.tr q9
    refine lv_bipush (v := (nI 100)) hC.1 hC.2.1 dX11_size_12 (by decide) ?_
    refine lv_isub hC.1 hC.2.1 dX11_size_14 ?_
    exact M_iret hC hlk hw gGo.rf ⟨by simp only [gN]; omega, by simp only [gN]; omega⟩ hr rfl (⟨congrArg (fun z => some (Value.int z)) (by simp only [beginG_6]; rfl), _, _, rfl, by exact b9, k9⟩) dX11_size_15
  · refine lv_aload_n hC.1 hC.2.1 dX11_size_0 rfl (lv_at hl 1 rfl) ?_
    refine lv_bipush (v := (nI 13)) hC.1 hC.2.1 dX11_size_1 (by decide) ?_
    refine M_V (n := 1) (C := RX3) (T := TX3) hC hl.1 hK hX hw (h0.tra h1.2.1).1 (h0.tra h1.2.1).2 (by decide) rfl (tX3_begins l N ad K I R t (nI 13) G b (h0) (h1.2.1)) (lw_V q1001 q1002 q1003 q63 q1004) (by decide +kernel) ⟨by decide, by decide⟩ rfl rfl (Nat.le_of_ble_eq_true rfl) dX11_size_3 ⟨by simp only [gN]; omega, by simp only [gN]; omega⟩ ?_
    rintro _ N2 ad2 K2 I3 R3 H locs ⟨I4, R4, e3, rfl, b3, k3⟩ hg hw
    cases e3
    dsimp only at b3 k3
    have a3 := h1.keep k3
    refine lv_aload_n hC.1 hC.2.1 dX11_size_6 rfl (lv_at hl 0 rfl) ?_
    refine lv_aload_n hC.1 hC.2.1 dX11_size_7 rfl (lv_at hl 1 rfl) ?_
    refine lv_aload_n hC.1 hC.2.1 dX11_size_8 rfl (lv_at hl 2 rfl) ?_
    refine Z_SUD (nm := "size") (C := RX12) (T := TX12) hC hl.1 hK hX hZ hst hw wN kk0 (by decide) rfl (tX14_size_z l N ad K I3 R3 w t h (beginG G (nI 13)) b q b3 a3 hq) (by decide) (by decide +kernel) (by decide +kernel) q678 hZ.2.2.2.2.2.2.1 q1005 q1006 ⟨by decide, by decide⟩ rfl rfl (Nat.le_of_ble_eq_true rfl) dX11_size_9 ⟨by simp only [gN]; omega, by simp only [gN]; omega⟩ ?_
    rintro _ N2 ad2 K2 I9 R9 H locs ⟨rfl, I8, R8, e8, b9, q9⟩ hg hw
    cases e8
    have a9 := a3.keep q9
    have k9 := k3.tr q9
    refine lv_bipush (v := (nI 100)) hC.1 hC.2.1 dX11_size_12 (by decide) ?_
    refine lv_isub hC.1 hC.2.1 dX11_size_14 ?_
    exact M_iret hC hlk hw gGo.rf ⟨by simp only [gN]; omega, by simp only [gN]; omega⟩ hr rfl (⟨congrArg (fun z => some (Value.int z)) (by simp only [beginG_6]; rfl), _, _, rfl, by exact b9, k9⟩) dX11_size_15

set_option maxHeartbeats 800000 in
theorem tX12_size_z (l : Launch) (N : Nat) (ad : Nat → Nat) (K : gK) (I : mG) (R : gR) (w : Nat) (t : Nat) (h : Nat) (G : mG) (b : Bool) (q : Nat) (k : Nat) (h0 : wcR N K I R G b) (h1 : askR N K I R w h q t) (hq : q < 16) (hk9 : G 6 (9 + q) = nI k) (hks : k = 5) : gMZ l yX12_size (ws_ yX12_size cX12_size 3 (some FieldType.int)) ({ frames := 3, cells := 0, slots := 0, locals := 65 } : Room) [.ref (ad w), .ref (ad t), .ref (ad h)] N ad K I R (fun v S => v = some (.int (nI 2 * hszR ((beginG G (nI 14)) 6) q)) ∧ ∃ I' R', S = (N, ad, K, I', R') ∧ wcR N K I' R' (hszG (beginG G (nI 14))) b ∧ kW K I I' R R') := by
  refine gMZ.of (by decide) (Nat.le_of_ble_eq_true rfl) ?_
  intro D dA p e s m args below meth cd ls hC hlk hr hK hX hZ hst hl hw
  have hl : lv_has ls 3 [(0, .ref (ad w)), (1, .ref (ad t)), (2, .ref (ad h))] := hl
  have hge := h0.ge
  obtain ⟨k_, wN, k1, k5, kk0, g9, i0, i1⟩ := h1.wk h0 hq
  have ek : k = k_ := nI_inj (hk9.symm.trans g9) (by omega) (by omega)
  subst ek
  subst hks
  refine lv_aload_n hC.1 hC.2.1 dX12_size_0 rfl (lv_at hl 1 rfl) ?_
  refine lv_bipush (v := (nI 14)) hC.1 hC.2.1 dX12_size_1 (by decide) ?_
  refine M_V (n := 1) (C := RX3) (T := TX3) hC hl.1 hK hX hw (h0.tra h1.2.1).1 (h0.tra h1.2.1).2 (by decide) rfl (tX3_begins l N ad K I R t (nI 14) G b (h0) (h1.2.1)) (lw_V q1083 q1002 q1003 q63 q1004) (by decide +kernel) ⟨by decide, by decide⟩ rfl rfl (Nat.le_of_ble_eq_true rfl) dX12_size_3 ⟨by simp only [gN]; omega, by simp only [gN]; omega⟩ ?_
  rintro _ N2 ad2 K2 I3 R3 H locs ⟨I4, R4, e3, rfl, b3, k3⟩ hg hw
  cases e3
  dsimp only at b3 k3
  have a3 := h1.keep k3
  refine lv_iconst (v := (nI 2)) hC.1 hC.2.1 dX12_size_6 (by decide) ?_
  refine lv_aload_n hC.1 hC.2.1 dX12_size_7 rfl (lv_at hl 0 rfl) ?_
  refine lv_aload_n hC.1 hC.2.1 dX12_size_8 rfl (lv_at hl 1 rfl) ?_
  refine lv_aload_n hC.1 hC.2.1 dX12_size_9 rfl (lv_at hl 2 rfl) ?_
  refine Z_SU (n := 2) (C := RX12) (T := TX12) hC hl.1 hK hX hZ hst hw wN kk0 (by decide) rfl (tX11_size_z l N ad K I3 R3 w t h (beginG G (nI 14)) b q 5 b3 a3 hq (by simp only [beginG_6, blow6]; exact hk9) (by decide)) (lw_SU q1084 q1500 q687 q999 q86 q1000) (by decide +kernel) ⟨by decide, by decide⟩ rfl rfl (Nat.le_of_ble_eq_true rfl) dX12_size_10 ⟨by simp only [gN]; omega, by simp only [gN]; omega⟩ ?_
  rintro _ N2 ad2 K2 I10 R10 H locs ⟨rfl, I8, R8, e8, b10, q10⟩ hg hw
  cases e8
  have a10 := a3.keep q10
  have k10 := k3.tr q10
  refine lv_imul hC.1 hC.2.1 dX12_size_13 ?_
  exact M_iret hC hlk hw gGo.rf ⟨by simp only [gN]; omega, by simp only [gN]; omega⟩ hr rfl (⟨congrArg (fun z => some (Value.int z)) (rfl), _, _, rfl, by exact b10, k10⟩) dX12_size_14

set_option maxHeartbeats 800000 in
theorem tX11_mark_z (l : Launch) (N : Nat) (ad : Nat → Nat) (K : gK) (I : mG) (R : gR) (w : Nat) (t : Nat) (h : Nat) (G : mG) (b : Bool) (q : Nat) (k : Nat) (h0 : wcR N K I R G b) (h1 : askR N K I R w h q t) (hq : q < 16) (hk9 : G 6 (9 + q) = nI k) (hks : k = 4 ∨ k = 5) : gMZ l yX11_mark (ws_ yX11_mark cX11_mark 3 (some FieldType.int)) ({ frames := 4, cells := 0, slots := 0, locals := 87 } : Room) [.ref (ad w), .ref (ad t), .ref (ad h)] N ad K I R (fun v S => v = some (.int ((mX6_markOf G q).1)) ∧ ∃ I' R', S = (N, ad, K, I', R') ∧ wcR N K I' R' ((mX6_markOf G q).2) b ∧ kW K I I' R R') := by
  refine gMZ.of (by decide) (Nat.le_of_ble_eq_true rfl) ?_
  intro D dA p e s m args below meth cd ls hC hlk hr hK hX hZ hst hl hw
  have hl : lv_has ls 3 [(0, .ref (ad w)), (1, .ref (ad t)), (2, .ref (ad h))] := hl
  have hge := h0.ge
  obtain ⟨k_, wN, k1, k5, kk0, g9, i0, i1⟩ := h1.wk h0 hq
  have ek : k = k_ := nI_inj (hk9.symm.trans g9) (by omega) (by omega)
  subst ek
  rcases hks with rfl | rfl
  · refine lv_aload_n hC.1 hC.2.1 dX11_mark_0 rfl (lv_at hl 1 rfl) ?_
    refine lv_bipush (v := (nI 23)) hC.1 hC.2.1 dX11_mark_1 (by decide) ?_
    refine M_V (n := 1) (C := RX3) (T := TX3) hC hl.1 hK hX hw (h0.tra h1.2.1).1 (h0.tra h1.2.1).2 (by decide) rfl (tX3_begins l N ad K I R t (nI 23) G b (h0) (h1.2.1)) (lw_V q1001 q1002 q1003 q63 q1004) (by decide +kernel) ⟨by decide, by decide⟩ rfl rfl (Nat.le_of_ble_eq_true rfl) dX11_mark_3 ⟨by simp only [gN]; omega, by simp only [gN]; omega⟩ ?_
    rintro _ N2 ad2 K2 I3 R3 H locs ⟨I4, R4, e3, rfl, b3, k3⟩ hg hw
    cases e3
    dsimp only at b3 k3
    have a3 := h1.keep k3
    refine lv_aload_n hC.1 hC.2.1 dX11_mark_6 rfl (lv_at hl 0 rfl) ?_
    refine lv_aload_n hC.1 hC.2.1 dX11_mark_7 rfl (lv_at hl 1 rfl) ?_
    refine lv_aload_n hC.1 hC.2.1 dX11_mark_8 rfl (lv_at hl 2 rfl) ?_
    refine Z_SUD (nm := "mark") (C := RX11) (T := TX11) hC hl.1 hK hX hZ hst hw wN kk0 (by decide) rfl (tX14_mark_z l N ad K I3 R3 w t h (beginG G (nI 23)) b q b3 a3 hq) (by decide) (by decide +kernel) (by decide +kernel) q678 hZ.2.2.2.2.2.2.2.1 q1051 q1052 ⟨by decide, by decide⟩ rfl rfl (Nat.le_of_ble_eq_true rfl) dX11_mark_9 ⟨by simp only [gN]; omega, by simp only [gN]; omega⟩ ?_
    rintro _ N2 ad2 K2 I9 R9 H locs ⟨rfl, I8, R8, e8, b9, q9⟩ hg hw
    cases e8
    have a9 := a3.keep q9
    have k9 := k3.tr q9
    refine lv_aload_n hC.1 hC.2.1 dX11_mark_12 rfl (lv_at hl 0 rfl) ?_
    refine lv_aload_n hC.1 hC.2.1 dX11_mark_13 rfl (lv_at hl 1 rfl) ?_
    refine lv_aload_n hC.1 hC.2.1 dX11_mark_14 rfl (lv_at hl 2 rfl) ?_
    refine Z_V (n := 2) (C := RX11) (T := TX11) hC hl.1 hK hX hZ hst hw wN kk0 (by decide) rfl (tX11_size_z l N ad K I9 R9 w t h (beginG (beginG G (nI 23)) (nI 20)) b q 4 b9 a9 hq (by simp only [beginG_6, blow6]; exact hk9) (by decide)) (lw_V q1089 q999 q1501 q86 q1000) (by decide +kernel) ⟨by decide, by decide⟩ rfl rfl (Nat.le_of_ble_eq_true rfl) dX11_mark_15 ⟨by simp only [gN]; omega, by simp only [gN]; omega⟩ ?_
    rintro _ N2 ad2 K2 I15 R15 H locs ⟨rfl, I8, R8, e8, b15, q15⟩ hg hw
    cases e8
    have a15 := a9.keep q15
    have k15 := k9.tr q15
    refine lv_isub hC.1 hC.2.1 dX11_mark_18 ?_
    have em : mX6_markOf G q = ((lentF ((beginG G (nI 23)) 6) (nI 20) q) - (hszR ((beginG (beginG G (nI 23)) (nI 20)) 6) q), (hszG (beginG (beginG G (nI 23)) (nI 20)))) := by rw [mo4 (k := 4) hk9 (by decide), sh4 (by simp only [beginG_6]; exact hk9)]
    exact M_iret hC hlk hw gGo.rf ⟨by simp only [gN]; omega, by simp only [gN]; omega⟩ hr rfl (by rw [em]; dsimp only; exact ⟨rfl, _, _, rfl, b15, k15⟩) dX11_mark_19
  · refine lv_aload_n hC.1 hC.2.1 dX11_mark_0 rfl (lv_at hl 1 rfl) ?_
    refine lv_bipush (v := (nI 23)) hC.1 hC.2.1 dX11_mark_1 (by decide) ?_
    refine M_V (n := 1) (C := RX3) (T := TX3) hC hl.1 hK hX hw (h0.tra h1.2.1).1 (h0.tra h1.2.1).2 (by decide) rfl (tX3_begins l N ad K I R t (nI 23) G b (h0) (h1.2.1)) (lw_V q1001 q1002 q1003 q63 q1004) (by decide +kernel) ⟨by decide, by decide⟩ rfl rfl (Nat.le_of_ble_eq_true rfl) dX11_mark_3 ⟨by simp only [gN]; omega, by simp only [gN]; omega⟩ ?_
    rintro _ N2 ad2 K2 I3 R3 H locs ⟨I4, R4, e3, rfl, b3, k3⟩ hg hw
    cases e3
    dsimp only at b3 k3
    have a3 := h1.keep k3
    refine lv_aload_n hC.1 hC.2.1 dX11_mark_6 rfl (lv_at hl 0 rfl) ?_
    refine lv_aload_n hC.1 hC.2.1 dX11_mark_7 rfl (lv_at hl 1 rfl) ?_
    refine lv_aload_n hC.1 hC.2.1 dX11_mark_8 rfl (lv_at hl 2 rfl) ?_
    refine Z_SUD (nm := "mark") (C := RX12) (T := TX12) hC hl.1 hK hX hZ hst hw wN kk0 (by decide) rfl (tX14_mark_z l N ad K I3 R3 w t h (beginG G (nI 23)) b q b3 a3 hq) (by decide) (by decide +kernel) (by decide +kernel) q678 hZ.2.2.2.2.2.2.2.1 q1051 q1052 ⟨by decide, by decide⟩ rfl rfl (Nat.le_of_ble_eq_true rfl) dX11_mark_9 ⟨by simp only [gN]; omega, by simp only [gN]; omega⟩ ?_
    rintro _ N2 ad2 K2 I9 R9 H locs ⟨rfl, I8, R8, e8, b9, q9⟩ hg hw
    cases e8
    have a9 := a3.keep q9
    have k9 := k3.tr q9
    refine lv_aload_n hC.1 hC.2.1 dX11_mark_12 rfl (lv_at hl 0 rfl) ?_
    refine lv_aload_n hC.1 hC.2.1 dX11_mark_13 rfl (lv_at hl 1 rfl) ?_
    refine lv_aload_n hC.1 hC.2.1 dX11_mark_14 rfl (lv_at hl 2 rfl) ?_
    refine Z_U (n := 2) (owner := RX11) (x := yX11_size) (C := RX12) (T := TX12) hC hl.1 hK hX hZ hst hw wN kk0 (by decide) rfl (tX12_size_z l N ad K I9 R9 w t h (beginG (beginG G (nI 23)) (nI 20)) b q 5 b9 a9 hq (by simp only [beginG_6, blow6]; exact hk9) rfl) (va_cwO 2 hC.2.2.2.2 (lw_O q1089 q1500 q999 q1502 q1081 q87 q1082) rfl rfl rfl q1000 (by decide +kernel) ⟨by decide, by decide⟩) rfl rfl (Nat.le_of_ble_eq_true rfl) dX11_mark_15 ⟨by simp only [gN]; omega, by simp only [gN]; omega⟩ ?_
    rintro _ N2 ad2 K2 I15 R15 H locs ⟨rfl, I8, R8, e8, b15, q15⟩ hg hw
    cases e8
    have a15 := a9.keep q15
    have k15 := k9.tr q15
    refine lv_isub hC.1 hC.2.1 dX11_mark_18 ?_
    have em : mX6_markOf G q = ((lentF ((beginG G (nI 23)) 6) (nI 20) q) - (nI 2 * hszR ((beginG (beginG (beginG G (nI 23)) (nI 20)) (nI 14)) 6) q), (hszG (beginG (beginG (beginG G (nI 23)) (nI 20)) (nI 14)))) := by rw [mo4 (k := 5) hk9 (by decide), sh5 (by simp only [beginG_6]; exact hk9)]
    exact M_iret hC hlk hw gGo.rf ⟨by simp only [gN]; omega, by simp only [gN]; omega⟩ hr rfl (by rw [em]; dsimp only; exact ⟨rfl, _, _, rfl, b15, k15⟩) dX11_mark_19
