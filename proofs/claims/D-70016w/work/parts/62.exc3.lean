/-! ===== handlers of a walked method; calls that throw ===== -/
section RT
variable {pl : Platform} {s : State} {args : Array Value} {d : ClassId} {pc : Nat} {cX : ClassId} {x : ExceptionTableEntry} {t : List ExceptionTableEntry} {r : Option Nat}
theorem rt_skip (hc : covers x pc = false) (h : rowsTo pl s d pc cX t r) : rowsTo pl s d pc cX (x :: t) r := Or.inl ⟨hc, h⟩
theorem rt_any (hc : covers x pc = true) (h0 : x.catchType = 0) : rowsTo pl s d pc cX (x :: t) (some x.handlerPc) := Or.inr ⟨hc, Or.inl ⟨h0, rfl⟩⟩
theorem rt_hit (hpl : pl.magicAccessors = ({} : Platform).magicAccessors) {own nm C : String} (hown : s.vm.findClass own = some d) (hX : s.vm.findClass C = some cX) (hl : (Cond.classLink own x.catchType nm).before args s = true) (hk : va_Nw (.castable C nm) s) (hc : covers x pc = true) (h0 : x.catchType ≠ 0) : rowsTo pl s d pc cX (x :: t) (some x.handlerPc) := by
  obtain ⟨c', h1, h2⟩ := Cond.classLink_spec hown hl pl hpl
  obtain ⟨c3, t3, w1, w2, w3⟩ := Cond.castable_spec hk
  cases hX.symm.trans w1
  cases h1.symm.trans w2
  exact Or.inr ⟨hc, Or.inr ⟨h0, c', h2, Or.inl ⟨w3, rfl⟩⟩⟩
theorem rt_miss (hpl : pl.magicAccessors = ({} : Platform).magicAccessors) {own nm C : String} (hown : s.vm.findClass own = some d) (hX : s.vm.findClass C = some cX) (hl : (Cond.classLink own x.catchType nm).before args s = true) (hk : va_Nc C nm s) (hc : covers x pc = true) (h0 : x.catchType ≠ 0) (h : rowsTo pl s d pc cX t r) : rowsTo pl s d pc cX (x :: t) r := by
  obtain ⟨c', h1, h2⟩ := Cond.classLink_spec hown hl pl hpl
  obtain ⟨c3, t3, w1, w2, w3⟩ := hk
  cases hX.symm.trans w1
  cases h1.symm.trans w2
  exact Or.inr ⟨hc, Or.inr ⟨h0, c', h2, Or.inr ⟨w3, h⟩⟩⟩
end RT
abbrev tbl (hh : List (Nat × Nat × Nat × Nat)) : List ExceptionTableEntry := hh.map (fun q => ⟨q.1, q.2.1, q.2.2.1, q.2.2.2⟩)
theorem tbl_of : ∀ {L : List ExceptionTableEntry} {hh : List (Nat × Nat × Nat × Nat)}, L.map (fun x => (x.startPc, x.endPc, x.handlerPc, x.catchType)) = hh → L = tbl hh
  | [], _, h => by cases h; rfl
  | x :: L, _, h => by cases h; exact congrArg (x :: ·) (tbl_of (L := L) rfl)
def xRun (p : Program) (l : Launch) (e : Env) (R : Room) (s : State) (m : MethodId) (args : Array Value) (below : List Frame) (meth : Method) (c : Code) (H : Heap) (locs : List Loc) (cells slots mc ms : Nat) (g : JFrame) (rest : List Value) (Qa : State → Outcome → State → Prop) (free : Addr → Prop) : Prop :=
  ∀ T : State, T.heap = H → Stand p l e R s m args below meth c T locs cells slots → ∃ (x : Addr) (st₀ t T' : State) (L : List Loc), st₀.heap = H ∧ Stand p l e R s m args below meth c T' (locs ++ L) (cells + mc) (slots + ms) ∧ (∀ q ∈ L, free q.base) ∧ T'.heap = t.heap ∧ T'.vm = t.vm ∧ Qa st₀ (.threw x) t ∧
    ∀ tg, Steps p.tables e below ((T'.setTop { g with stack := rest }).pushFrame (.throwing x)) tg → Steps p.tables e below (T.setTop g) tg
section TR
variable {p : Program} {l : Launch} {e : Env} {Rm : Room} {s : State} {m : MethodId} {args : Array Value} {below : List Frame} {meth : Method} {c : Code} {H : Heap} {locs : List Loc} {cells slots : Nat} {Q : State → Prop}
variable {cc : ByteArray} {nl pc : Nat} {ls : Array Slot} {rest : List Value} {own : String} {D : va_G} {dA : Nat → ClassId} {A : Nat → Prop} {H0 : Heap} {N : Nat} {ad : Nat → Nat} {K : gK} {I : mG} {R : gR}
/-- it is caught in the walked method -/
theorem T_catch {tb : List ExceptionTableEntry} (htb : c.exceptionTable.toList = tb) {x : Addr} {C : String} {h : Nat} {st : List Value} (hr : ∀ (pl : Platform) (cX : ClassId), pl.magicAccessors = ({} : Platform).magicAccessors → s.vm.findClass C = some cX → rowsTo pl s m.cls pc cX tb (some h)) (kk : W p l e Rm s m args below meth c H locs cells slots Q (F0 m h ls [.ref x])) : WT p l e Rm s m args below meth c H locs cells slots Q (F0 m pc ls st) x C := by
  intro T hT X ⟨ce, h1, h2, h3⟩
  have hf : s.vm.findClass C = some ce.cls := by rw [← X.warmed.alike.findClass]; exact h3
  obtain ⟨k0, hk0, -⟩ := Vm.findClass_spec hf
  have hpl : e.platform.magicAccessors = ({} : Platform).magicAccessors := by rw [X.admits.platform]
  obtain ⟨vm', X', st'⟩ := x_caught X x (g := F0 m pc ls st) rfl h1 h2 hk0 (pc := h) (by rw [htb]; exact hr _ _ hpl hf)
  obtain ⟨t, a1, b1⟩ := kk (T.setVm vm') hT X'
  exact ⟨t, st' t a1, b1⟩
theorem x_runV {y : MethodName} {bytes : ByteArray} {maxL mc ms n index : Nat} {ret : Option FieldType} {ws : List Cond} {rm : Room} {Pc : Array Value → State → Prop} {Qc : Array Value → State → Outcome → State → Prop} {free : Addr → Prop} {Ts : List Cond} {C : String} {b : Addr} {As : List Value} {g : JFrame}
    (S : CallFix p m c cc nl s args Ts own) (hM : MetT l y ws rm Pc Qc mc ms free) (cw : CallW Rm s args own C index y bytes maxL ret ws rm mc ms n) (hp : PreV s H C b Pc As)
    (hg : g.method = m) (hn : As.length = n) (hsize : g.locals.size = nl) (hstack : g.stack = As.reverse ++ .ref b :: rest) (hW : 2 * g.monitorRoom + (rest.map fun v => v.category).sum ≤ 8) (hdg : decode cc g.pc = .ok (.invokevirtual index, 3)) (hf : cells + mc ≤ Rm.cells ∧ slots + ms ≤ Rm.slots) :
    xRun p l e Rm s m args below meth c H locs cells slots mc ms g rest (Qc (Value.ref b :: As).toArray) free := by
  obtain ⟨⟨hrc, hrs, hfr, hlo, hws, hcw, hcode, hini, hy, hlen, hlk⟩, hin, hse⟩ := cw
  have hB : xBack l Rm p e below s args y 3 8 (PreOf Rm mc ms Pc) (PostT Qc mc ms free) := x_back (bytes := bytes) (maxL := maxL) (ret := ret) hM hp.1 hrc hrs hfr hlo hws hcw (fun a' U hW => word_at hW (Or.inl (by first | rfl | simp [Cond.onTables, Cond.keeps, Cond.steady])) hini)
  obtain ⟨hx, hb, hml, ho, -⟩ := S
  obtain ⟨-, ⟨cB, hcB, hoB, hclB⟩, hPc⟩ := hp
  intro T hT X
  obtain ⟨mk, mM, r1, r2, r3, r4⟩ := Cond.instanceMethod_spec hin
  obtain ⟨mM', cM, r2', -, -, -, -, -, -, r5⟩ := Cond.code_spec r1 hcode
  cases r2.symm.trans r2'
  obtain ⟨c2, r0, m2, q1, q2, q3, q4, kP, hkP, hki⟩ := Cond.selects_spec hse
  cases hclB.symm.trans q1
  cases (State.methodFound?_of_named r1 hy).symm.trans q2
  cases r1.symm.trans q3
  have hsel : selectMethod e.platform s.vm cB.cls mk = .method mk := by rw [Launch.admits_selectMethod X.admits]; exact q4
  obtain ⟨vm₁, X₁, st₁⟩ := X.invokevirtual hx ho hlk r1 r2 r3 hkP hki hy (a := b) (cell := cB) (by rw [hT]; exact hcB) (fun z hz => by rw [hz] at hoB; cases hoB) hsel r2 r4 hkP hki (g := g) hg (argsL := As) (rest := rest) (hn.trans (hlen _ r5)) hstack (by rw [hb]; exact hdg)
  obtain ⟨x, ⟨U', l2, c2, s2⟩, X', ⟨g', mk', t, L, e1, e2, hq, w1, hL, w2, w3⟩, st₂⟩ := hB m meth c ⟨T.setVm vm₁, locs, cells, slots⟩ { g with stack := rest } (.invokevirtual index) mk (Value.ref b :: As).toArray X₁ hg (hsize.trans hml.symm) (by rw [hb]; exact hdg) hW (X₁.named r1) ⟨hf.1, hf.2, hPc (T.setVm vm₁) hT X₁.warmed⟩
  dsimp only [Pt.U, Pt.locs, Pt.cells, Pt.slots] at X' e1 e2 w1 w2 w3 st₂
  subst w1; subst w2; subst w3
  exact ⟨x, (T.setVm vm₁).calling g' mk' (Value.ref b :: As).toArray, t, U', L, hT, X', hL, e1, e2, hq, fun tg h => st₁ _ fun acts => by rw [doInvoke_state]; exact st₂.trans h⟩
theorem x_runVN {y : MethodName} {bytes : ByteArray} {maxL mc ms n index : Nat} {ret : Option FieldType} {ws : List Cond} {rm : Room} {Pc : Array Value → State → Prop} {Qc : Array Value → State → Outcome → State → Prop} {free : Addr → Prop} {Ts : List Cond} {C host : String} {b : Addr} {As : List Value} {g : JFrame}
    (S : CallFix p m c cc nl s args Ts own) (hM : MetT l y ws rm Pc Qc mc ms free) (cw : va_CN Rm s args own index y host bytes maxL ret ws rm mc ms n ∧ (Cond.instanceMethod y).before args s = true ∧ (Cond.selects C y y).before args s = true) (hp : PreV s H C b Pc As)
    (hg : g.method = m) (hn : As.length = n) (hsize : g.locals.size = nl) (hstack : g.stack = As.reverse ++ .ref b :: rest) (hW : 2 * g.monitorRoom + (rest.map fun v => v.category).sum ≤ 8) (hdg : decode cc g.pc = .ok (.invokevirtual index, 3)) (hf : cells + mc ≤ Rm.cells ∧ slots + ms ≤ Rm.slots) :
    xRun p l e Rm s m args below meth c H locs cells slots mc ms g rest (Qc (Value.ref b :: As).toArray) free := by
  obtain ⟨⟨⟨hrc, hrs, hfr, hlo, hws, hcw⟩, hcode, hini, hy, hlen, hlk⟩, hin, hse⟩ := cw
  have hB : xBack l Rm p e below s args y 3 8 (PreOf Rm mc ms Pc) (PostT Qc mc ms free) := x_back (bytes := bytes) (maxL := maxL) (ret := ret) hM hp.1 hrc hrs hfr hlo hws hcw (fun a' U hW => word_at hW (Or.inl (by first | rfl | simp [Cond.onTables, Cond.keeps, Cond.steady])) hini)
  obtain ⟨hx, hb, hml, ho, -⟩ := S
  obtain ⟨-, ⟨cB, hcB, hoB, hclB⟩, hPc⟩ := hp
  intro T hT X
  obtain ⟨mk, mM, r1, r2, r3, r4⟩ := Cond.instanceMethod_spec hin
  obtain ⟨mM', cM, r2', -, -, -, -, -, -, r5⟩ := Cond.code_spec r1 hcode
  cases r2.symm.trans r2'
  obtain ⟨c2, r0, m2, q1, q2, q3, q4, kP, hkP, hki⟩ := Cond.selects_spec hse
  cases hclB.symm.trans q1
  cases (State.methodFound?_of_named r1 hy).symm.trans q2
  cases r1.symm.trans q3
  have hsel : selectMethod e.platform s.vm cB.cls mk = .method mk := by rw [Launch.admits_selectMethod X.admits]; exact q4
  obtain ⟨vm₁, X₁, st₁⟩ := X.invokevirtualNest hx ho hlk r1 r2 r3 hkP hki hy (a := b) (cell := cB) (by rw [hT]; exact hcB) (fun z hz => by rw [hz] at hoB; cases hoB) hsel r2 r4 hkP hki (g := g) hg (argsL := As) (rest := rest) (hn.trans (hlen _ r5)) hstack (by rw [hb]; exact hdg)
  obtain ⟨x, ⟨U', l2, c2, s2⟩, X', ⟨g', mk', t, L, e1, e2, hq, w1, hL, w2, w3⟩, st₂⟩ := hB m meth c ⟨T.setVm vm₁, locs, cells, slots⟩ { g with stack := rest } (.invokevirtual index) mk (Value.ref b :: As).toArray X₁ hg (hsize.trans hml.symm) (by rw [hb]; exact hdg) hW (X₁.named r1) ⟨hf.1, hf.2, hPc (T.setVm vm₁) hT X₁.warmed⟩
  dsimp only [Pt.U, Pt.locs, Pt.cells, Pt.slots] at X' e1 e2 w1 w2 w3 st₂
  subst w1; subst w2; subst w3
  exact ⟨x, (T.setVm vm₁).calling g' mk' (Value.ref b :: As).toArray, t, U', L, hT, X', hL, e1, e2, hq, fun tg h => st₁ _ fun acts => by rw [doInvoke_state]; exact st₂.trans h⟩
theorem x_runS {y : MethodName} {bytes : ByteArray} {maxL mc ms n index : Nat} {ret : Option FieldType} {ws : List Cond} {rm : Room} {Pc : Array Value → State → Prop} {Qc : Array Value → State → Outcome → State → Prop} {free : Addr → Prop} {Ts : List Cond} {As : List Value} {g : JFrame}
    (S : CallFix p m c cc nl s args Ts own) (hM : MetT l y ws rm Pc Qc mc ms free) (cw : CallB Rm s args own index y bytes maxL ret ws rm mc ms n ∧ (Cond.static y).before args s = true) (hp : PreS s H Pc As)
    (hg : g.method = m) (hn : As.length = n) (hsize : g.locals.size = nl) (hstack : g.stack = As.reverse ++ rest) (hW : 2 * g.monitorRoom + (rest.map fun v => v.category).sum ≤ 8) (hdg : decode cc g.pc = .ok (.invokestatic index, 3)) (hf : cells + mc ≤ Rm.cells ∧ slots + ms ≤ Rm.slots) :
    xRun p l e Rm s m args below meth c H locs cells slots mc ms g rest (Qc As.toArray) free := by
  obtain ⟨⟨hrc, hrs, hfr, hlo, hws, hcw, hcode, hini, hy, hlen, hlk⟩, hstt⟩ := cw
  have hB : xBack l Rm p e below s args y 3 8 (PreOf Rm mc ms Pc) (PostT Qc mc ms free) := x_back (bytes := bytes) (maxL := maxL) (ret := ret) hM hp.1 hrc hrs hfr hlo hws hcw (fun a' U hW => word_at hW (Or.inl (by first | rfl | simp [Cond.onTables, Cond.keeps, Cond.steady])) hini)
  obtain ⟨hx, hb, hml, ho, -⟩ := S
  intro T hT X
  obtain ⟨mk, r1⟩ := Cond.code_named hcode
  obtain ⟨mM, cM, r2, -, -, -, -, -, -, r5⟩ := Cond.code_spec r1 hcode
  have r3 : mM.isStatic = true := Cond.static_spec r1 r2 hstt
  obtain ⟨kP, hkP, -⟩ := className_of_methodNamed r1
  have hki : kP.init = .initialized := Cond.initialized_spec (findClass_of_methodNamed r1) hkP hini
  obtain ⟨vm₁, X₁, st₁⟩ := X.invokestatic hx ho hlk r1 r2 r3 hkP hki hy (g := g) hg (argsL := As) (rest := rest) (hn.trans (hlen _ r5)) hstack (by rw [hb]; exact hdg)
  obtain ⟨x, ⟨U', l2, c2, s2⟩, X', ⟨g', mk', t, L, e1, e2, hq, w1, hL, w2, w3⟩, st₂⟩ := hB m meth c ⟨T.setVm vm₁, locs, cells, slots⟩ { g with stack := rest } (.invokestatic index) mk As.toArray X₁ hg (hsize.trans hml.symm) (by rw [hb]; exact hdg) hW (X₁.named r1) ⟨hf.1, hf.2, hp.2 (T.setVm vm₁) hT X₁.warmed⟩
  dsimp only [Pt.U, Pt.locs, Pt.cells, Pt.slots] at X' e1 e2 w1 w2 w3 st₂
  subst w1; subst w2; subst w3
  exact ⟨x, (T.setVm vm₁).calling g' mk' As.toArray, t, U', L, hT, X', hL, e1, e2, hq, fun tg h => st₁ _ fun acts => by rw [doInvoke_state]; exact st₂.trans h⟩
/-- behind a call that throws -/
theorem T_run {rm : Room} {st0 : List Value} {a : Array Value} {C : String} {post : Addr → gS → Prop} (hr : xRun p l e Rm s m args below meth c H locs cells slots rm.cells rm.slots (F0 m pc ls st0) rest (gQT D dA N ad K H.size C post a) (nA (List.range N) ad H.size)) (hw : gw D dA A H0 (List.range N) ad K I R H locs)
    (kk : ∀ (x : Addr) (N' : Nat) (ad' : Nat → Nat) (K' : gK) (I' : mG) (R' : gR) (H' : Heap) (locs' : List Loc), post x (N', ad', K', I', R') → gGo N ad K (N', ad', K', I', R') → gw D dA A H0 (List.range N') ad' K' I' R' H' locs' → WT p l e Rm s m args below meth c H' locs' (cells + rm.cells) (slots + rm.slots) Q (F0 m pc ls rest) x C) : W p l e Rm s m args below meth c H locs cells slots Q (F0 m pc ls st0) := by
  intro T hT X
  obtain ⟨x, st₀, t, T', L, h0, X', hL, e1, e2, ⟨⟨x', S, hv, hx, hp, hb, hg⟩, hz, hk⟩, st⟩ := hr T hT X
  cases hv
  rw [h0] at hz hk
  have hS := hw.1.2.2.1
  have hA : ∀ q, nA (List.range N) ad H.size q → A q := fun q h => hw.1.free q h
  obtain ⟨t2, a1, b1⟩ := kk x S.1 S.2.1 S.2.2.1 S.2.2.2.1 S.2.2.2.2 T'.heap (locs ++ L) hp hg ⟨⟨by rw [e1]; exact hb.1, hb.2.1.weaken (fun _ _ _ h => hA _ h),
    ⟨Nat.le_trans hS.1 (by rw [e1]; exact hz), fun q h1 h2 => by rw [e1, hk q (Nat.lt_of_lt_of_le h1 hS.1) (fun z => h2 (hA q z))]; exact hS.2.1 q h1 h2, fun q hq => by
      rcases List.mem_append.mp hq with h | h
      · exact hS.2.2 q h
      · exact hA _ (hL q h)⟩, hw.1.2.2.2⟩, hb.2.2⟩ T' rfl X' (by obtain ⟨ce, w1, w2, w3⟩ := hx; exact ⟨ce, by rw [e1]; exact w1, w2, by rw [e2]; exact w3⟩)
  exact ⟨t2, st t2 a1, b1⟩
theorem gPZ.moved {sz : Nat} {U V : State} (h : gPZ D dA N ad K I R sz U) (hvm : U.vm = V.vm) (hh : V.heap = U.heap) : gPZ D dA N ad K I R sz V := ⟨h.1.moved hvm hh, h.2.same hvm hh⟩
theorem T_V (hC : CallFix p m c cc nl s args lw_all own) (hl : ls.size = nl) (hK : va_K D cCl (cTy dA) s) (hX : gX s) (hZ : gZ s) (hst : ∀ (q : Nat) (cell : Cell), s.heap[q]? = some cell → cell.vm.isStatics = true → ¬ A q) (hw : gw D dA A s.heap (List.range N) ad K I R H locs) {C : String} {T : u_T} {n0 ci : Nat} (hn0 : n0 < N) (hk0 : (K n0).1 = ci) (hc20 : ci < 20) (hc : cCl[ci]? = some (C, T, gN ci)) {y : MethodName} {bytes : ByteArray} {maxL index n : Nat} {ret : Option FieldType} {rm : Room} {as : List Value} {C0 : String} {post : Addr → gS → Prop} (hM : gMT l y (ws_ y bytes maxL ret) rm (.ref (ad n0) :: as) N ad K I R C0 post)
    (hT : GoodIn lw_all (wsV own index C y (ws_ y bytes maxL ret))) (hd : y.cls = C ∧ y.cls ≠ "java/lang/invoke/MethodHandle" ∧ y.cls ≠ "java/lang/invoke/VarHandle" ∧ (parseMethodDescriptor y.desc).map (fun d => d.parameters.length) = some n) (hR : rm.frames + 1 ≤ Rm.frames ∧ 8 + (maxL + 11) + rm.locals ≤ Rm.locals)
    (hn : as.length = n) {st0 : List Value} (hst0 : st0 = as.reverse ++ .ref (ad n0) :: rest) (hW : (rest.map fun v => v.category).sum ≤ 8) (hdg : decode cc pc = .ok (.invokevirtual index, 3)) (hf : cells + rm.cells ≤ Rm.cells ∧ slots + rm.slots ≤ Rm.slots)
    (kk : ∀ (x : Addr) (N' : Nat) (ad' : Nat → Nat) (K' : gK) (I' : mG) (R' : gR) (H' : Heap) (locs' : List Loc), post x (N', ad', K', I', R') → gGo N ad K (N', ad', K', I', R') → gw D dA A s.heap (List.range N') ad' K' I' R' H' locs' → WT p l e Rm s m args below meth c H' locs' (cells + rm.cells) (slots + rm.slots) Q (F0 m pc ls rest) x C0) : W p l e Rm s m args below meth c H locs cells slots Q (F0 m pc ls st0) :=
  T_run (x_runV (As := as) (rest := rest) hC (hM D dA H.size) (cwV n hC.2.2.2.2 hT rfl rfl rfl hd hR) ⟨fun a U g mk q => ⟨q.1, q.2.moved (V := U.calling g mk a) rfl rfl⟩, g_recv hK hw (List.mem_range.mpr hn0) hk0 hc20 hc, fun U hU hWm => ⟨rfl, ⟨by rw [hU], hK.moved hWm.alike, hX.warm hWm, by rw [hU]; exact hw.1.1, hw.1.2.1.weaken (fun _ _ _ _ => trivial), hw.2⟩, hZ.keep hWm (fun q cell hq hs => by rw [hU, hw.1.2.2.1.2.1 q (Array.getElem?_eq_some_iff.mp hq).1 (hst q cell hq hs)]; exact hq)⟩⟩ rfl hn hl hst0 (lv_room hW) hdg hf) hw kk
theorem T_VN (hC : CallFix p m c cc nl s args lw_all own) (hl : ls.size = nl) (hK : va_K D cCl (cTy dA) s) (hX : gX s) (hZ : gZ s) (hst : ∀ (q : Nat) (cell : Cell), s.heap[q]? = some cell → cell.vm.isStatics = true → ¬ A q) (hw : gw D dA A s.heap (List.range N) ad K I R H locs) {host : String} {C : String} {T : u_T} {n0 ci : Nat} (hn0 : n0 < N) (hk0 : (K n0).1 = ci) (hc20 : ci < 20) (hc : cCl[ci]? = some (C, T, gN ci)) {y : MethodName} {bytes : ByteArray} {maxL index n : Nat} {ret : Option FieldType} {rm : Room} {as : List Value} {C0 : String} {post : Addr → gS → Prop} (hM : gMT l y (ws_ y bytes maxL ret) rm (.ref (ad n0) :: as) N ad K I R C0 post)
    (h1 : Cond.methodLinkNest own index y host ∈ lw_tbl) (h2 : Cond.instanceMethod y ∈ lw_all) (h2b : Cond.selects C y y ∈ lw_all) (h3 : Cond.initialized y.cls ∈ lw_all) (h4 : Cond.code y bytes maxL ret ∈ lw_all) (hd : y.cls ≠ "java/lang/invoke/MethodHandle" ∧ y.cls ≠ "java/lang/invoke/VarHandle" ∧ (parseMethodDescriptor y.desc).map (fun d => d.parameters.length) = some n) (hR : rm.frames + 1 ≤ Rm.frames ∧ 8 + (maxL + 11) + rm.locals ≤ Rm.locals)
    (hn : as.length = n) {st0 : List Value} (hst0 : st0 = as.reverse ++ .ref (ad n0) :: rest) (hW : (rest.map fun v => v.category).sum ≤ 8) (hdg : decode cc pc = .ok (.invokevirtual index, 3)) (hf : cells + rm.cells ≤ Rm.cells ∧ slots + rm.slots ≤ Rm.slots)
    (kk : ∀ (x : Addr) (N' : Nat) (ad' : Nat → Nat) (K' : gK) (I' : mG) (R' : gR) (H' : Heap) (locs' : List Loc), post x (N', ad', K', I', R') → gGo N ad K (N', ad', K', I', R') → gw D dA A s.heap (List.range N') ad' K' I' R' H' locs' → WT p l e Rm s m args below meth c H' locs' (cells + rm.cells) (slots + rm.slots) Q (F0 m pc ls rest) x C0) : W p l e Rm s m args below meth c H locs cells slots Q (F0 m pc ls st0) :=
  T_run (x_runVN (As := as) (rest := rest) hC (hM D dA H.size) (⟨va_cnB n hC.2.2.2.2 (lw_meth h4) rfl rfl rfl (hX _ h1 rfl) (hC.2.2.2.2 _ h3) hd hR, hC.2.2.2.2 _ h2, hC.2.2.2.2 _ h2b⟩) ⟨fun a U g mk q => ⟨q.1, q.2.moved (V := U.calling g mk a) rfl rfl⟩, g_recv hK hw (List.mem_range.mpr hn0) hk0 hc20 hc, fun U hU hWm => ⟨rfl, ⟨by rw [hU], hK.moved hWm.alike, hX.warm hWm, by rw [hU]; exact hw.1.1, hw.1.2.1.weaken (fun _ _ _ _ => trivial), hw.2⟩, hZ.keep hWm (fun q cell hq hs => by rw [hU, hw.1.2.2.1.2.1 q (Array.getElem?_eq_some_iff.mp hq).1 (hst q cell hq hs)]; exact hq)⟩⟩ rfl hn hl hst0 (lv_room hW) hdg hf) hw kk
theorem T_S (hC : CallFix p m c cc nl s args lw_all own) (hl : ls.size = nl) (hK : va_K D cCl (cTy dA) s) (hX : gX s) (hZ : gZ s) (hst : ∀ (q : Nat) (cell : Cell), s.heap[q]? = some cell → cell.vm.isStatics = true → ¬ A q) (hw : gw D dA A s.heap (List.range N) ad K I R H locs) {y : MethodName} {bytes : ByteArray} {maxL index n : Nat} {ret : Option FieldType} {rm : Room} {as : List Value} {C0 : String} {post : Addr → gS → Prop} (hM : gMT l y (ws_ y bytes maxL ret) rm as N ad K I R C0 post)
    (hT : GoodIn lw_all (va_wsS own index y (ws_ y bytes maxL ret))) (hd : y.cls ≠ "java/lang/invoke/MethodHandle" ∧ y.cls ≠ "java/lang/invoke/VarHandle" ∧ (parseMethodDescriptor y.desc).map (fun d => d.parameters.length) = some n) (hR : rm.frames + 1 ≤ Rm.frames ∧ 8 + (maxL + 11) + rm.locals ≤ Rm.locals)
    (hn : as.length = n) {st0 : List Value} (hst0 : st0 = as.reverse ++ rest) (hW : (rest.map fun v => v.category).sum ≤ 8) (hdg : decode cc pc = .ok (.invokestatic index, 3)) (hf : cells + rm.cells ≤ Rm.cells ∧ slots + rm.slots ≤ Rm.slots)
    (kk : ∀ (x : Addr) (N' : Nat) (ad' : Nat → Nat) (K' : gK) (I' : mG) (R' : gR) (H' : Heap) (locs' : List Loc), post x (N', ad', K', I', R') → gGo N ad K (N', ad', K', I', R') → gw D dA A s.heap (List.range N') ad' K' I' R' H' locs' → WT p l e Rm s m args below meth c H' locs' (cells + rm.cells) (slots + rm.slots) Q (F0 m pc ls rest) x C0) : W p l e Rm s m args below meth c H locs cells slots Q (F0 m pc ls st0) :=
  T_run (x_runS (As := as) (rest := rest) hC (hM D dA H.size) (va_cwS n hC.2.2.2.2 hT rfl rfl rfl hd hR) ⟨fun a U g mk q => ⟨q.1, q.2.moved (V := U.calling g mk a) rfl rfl⟩, fun U hU hWm => ⟨rfl, ⟨by rw [hU], hK.moved hWm.alike, hX.warm hWm, by rw [hU]; exact hw.1.1, hw.1.2.1.weaken (fun _ _ _ _ => trivial), hw.2⟩, hZ.keep hWm (fun q cell hq hs => by rw [hU, hw.1.2.2.1.2.1 q (Array.getElem?_eq_some_iff.mp hq).1 (hst q cell hq hs)]; exact hq)⟩⟩ rfl hn hl hst0 (lv_room hW) hdg hf) hw kk
theorem Z_V (hC : CallFix p m c cc nl s args lw_all own) (hl : ls.size = nl) (hK : va_K D cCl (cTy dA) s) (hX : gX s) (hZ : gZ s) (hst : ∀ (q : Nat) (cell : Cell), s.heap[q]? = some cell → cell.vm.isStatics = true → ¬ A q) (hw : gw D dA A s.heap (List.range N) ad K I R H locs) {C : String} {T : u_T} {n0 ci : Nat} (hn0 : n0 < N) (hk0 : (K n0).1 = ci) (hc20 : ci < 20) (hc : cCl[ci]? = some (C, T, gN ci)) {y : MethodName} {bytes : ByteArray} {maxL index n : Nat} {ret : Option FieldType} {rm : Room} {as : List Value} {post : Option Value → gS → Prop} (hM : gMZ l y (ws_ y bytes maxL ret) rm (.ref (ad n0) :: as) N ad K I R post)
    (hT : GoodIn lw_all (wsV own index C y (ws_ y bytes maxL ret))) (hd : y.cls = C ∧ y.cls ≠ "java/lang/invoke/MethodHandle" ∧ y.cls ≠ "java/lang/invoke/VarHandle" ∧ (parseMethodDescriptor y.desc).map (fun d => d.parameters.length) = some n) (hR : rm.frames + 1 ≤ Rm.frames ∧ 8 + (maxL + 11) + rm.locals ≤ Rm.locals)
    (hn : as.length = n) {st0 : List Value} (hst0 : st0 = as.reverse ++ .ref (ad n0) :: rest) (hW : (rest.map fun v => v.category).sum ≤ 8) (hdg : decode cc pc = .ok (.invokevirtual index, 3)) (hf : cells + rm.cells ≤ Rm.cells ∧ slots + rm.slots ≤ Rm.slots)
    (kk : ∀ (v : Option Value) (N' : Nat) (ad' : Nat → Nat) (K' : gK) (I' : mG) (R' : gR) (H' : Heap) (locs' : List Loc), post v (N', ad', K', I', R') → gGo N ad K (N', ad', K', I', R') → gw D dA A s.heap (List.range N') ad' K' I' R' H' locs' → W p l e Rm s m args below meth c H' locs' (cells + rm.cells) (slots + rm.slots) Q (F0 m (pc + 3) ls (v.toList ++ rest))) : W p l e Rm s m args below meth c H locs cells slots Q (F0 m pc ls st0) :=
  M_run (va_runV (As := as) (rest := rest) hC (hM D dA H.size) (cwV n hC.2.2.2.2 hT rfl rfl rfl hd hR) ⟨fun a U g mk q => ⟨q.1, q.2.moved (V := U.calling g mk a) rfl rfl⟩, g_recv hK hw (List.mem_range.mpr hn0) hk0 hc20 hc, fun U hU hWm => ⟨rfl, ⟨by rw [hU], hK.moved hWm.alike, hX.warm hWm, by rw [hU]; exact hw.1.1, hw.1.2.1.weaken (fun _ _ _ _ => trivial), hw.2⟩, hZ.keep hWm (fun q cell hq hs => by rw [hU, hw.1.2.2.1.2.1 q (Array.getElem?_eq_some_iff.mp hq).1 (hst q cell hq hs)]; exact hq)⟩⟩ rfl hn hl hst0 (lv_room hW) hdg hf) hw kk
theorem Z_VN (hC : CallFix p m c cc nl s args lw_all own) (hl : ls.size = nl) (hK : va_K D cCl (cTy dA) s) (hX : gX s) (hZ : gZ s) (hst : ∀ (q : Nat) (cell : Cell), s.heap[q]? = some cell → cell.vm.isStatics = true → ¬ A q) (hw : gw D dA A s.heap (List.range N) ad K I R H locs) {host : String} {C : String} {T : u_T} {n0 ci : Nat} (hn0 : n0 < N) (hk0 : (K n0).1 = ci) (hc20 : ci < 20) (hc : cCl[ci]? = some (C, T, gN ci)) {y : MethodName} {bytes : ByteArray} {maxL index n : Nat} {ret : Option FieldType} {rm : Room} {as : List Value} {post : Option Value → gS → Prop} (hM : gMZ l y (ws_ y bytes maxL ret) rm (.ref (ad n0) :: as) N ad K I R post)
    (h1 : Cond.methodLinkNest own index y host ∈ lw_tbl) (h2 : Cond.instanceMethod y ∈ lw_all) (h2b : Cond.selects C y y ∈ lw_all) (h3 : Cond.initialized y.cls ∈ lw_all) (h4 : Cond.code y bytes maxL ret ∈ lw_all) (hd : y.cls ≠ "java/lang/invoke/MethodHandle" ∧ y.cls ≠ "java/lang/invoke/VarHandle" ∧ (parseMethodDescriptor y.desc).map (fun d => d.parameters.length) = some n) (hR : rm.frames + 1 ≤ Rm.frames ∧ 8 + (maxL + 11) + rm.locals ≤ Rm.locals)
    (hn : as.length = n) {st0 : List Value} (hst0 : st0 = as.reverse ++ .ref (ad n0) :: rest) (hW : (rest.map fun v => v.category).sum ≤ 8) (hdg : decode cc pc = .ok (.invokevirtual index, 3)) (hf : cells + rm.cells ≤ Rm.cells ∧ slots + rm.slots ≤ Rm.slots)
    (kk : ∀ (v : Option Value) (N' : Nat) (ad' : Nat → Nat) (K' : gK) (I' : mG) (R' : gR) (H' : Heap) (locs' : List Loc), post v (N', ad', K', I', R') → gGo N ad K (N', ad', K', I', R') → gw D dA A s.heap (List.range N') ad' K' I' R' H' locs' → W p l e Rm s m args below meth c H' locs' (cells + rm.cells) (slots + rm.slots) Q (F0 m (pc + 3) ls (v.toList ++ rest))) : W p l e Rm s m args below meth c H locs cells slots Q (F0 m pc ls st0) :=
  M_run (va_runVN (As := as) (rest := rest) hC (hM D dA H.size) (⟨va_cnB n hC.2.2.2.2 (lw_meth h4) rfl rfl rfl (hX _ h1 rfl) (hC.2.2.2.2 _ h3) hd hR, hC.2.2.2.2 _ h2, hC.2.2.2.2 _ h2b⟩) ⟨fun a U g mk q => ⟨q.1, q.2.moved (V := U.calling g mk a) rfl rfl⟩, g_recv hK hw (List.mem_range.mpr hn0) hk0 hc20 hc, fun U hU hWm => ⟨rfl, ⟨by rw [hU], hK.moved hWm.alike, hX.warm hWm, by rw [hU]; exact hw.1.1, hw.1.2.1.weaken (fun _ _ _ _ => trivial), hw.2⟩, hZ.keep hWm (fun q cell hq hs => by rw [hU, hw.1.2.2.1.2.1 q (Array.getElem?_eq_some_iff.mp hq).1 (hst q cell hq hs)]; exact hq)⟩⟩ rfl hn hl hst0 (lv_room hW) hdg hf) hw kk
theorem Z_S (hC : CallFix p m c cc nl s args lw_all own) (hl : ls.size = nl) (hK : va_K D cCl (cTy dA) s) (hX : gX s) (hZ : gZ s) (hst : ∀ (q : Nat) (cell : Cell), s.heap[q]? = some cell → cell.vm.isStatics = true → ¬ A q) (hw : gw D dA A s.heap (List.range N) ad K I R H locs) {y : MethodName} {bytes : ByteArray} {maxL index n : Nat} {ret : Option FieldType} {rm : Room} {as : List Value} {post : Option Value → gS → Prop} (hM : gMZ l y (ws_ y bytes maxL ret) rm as N ad K I R post)
    (hT : GoodIn lw_all (va_wsS own index y (ws_ y bytes maxL ret))) (hd : y.cls ≠ "java/lang/invoke/MethodHandle" ∧ y.cls ≠ "java/lang/invoke/VarHandle" ∧ (parseMethodDescriptor y.desc).map (fun d => d.parameters.length) = some n) (hR : rm.frames + 1 ≤ Rm.frames ∧ 8 + (maxL + 11) + rm.locals ≤ Rm.locals)
    (hn : as.length = n) {st0 : List Value} (hst0 : st0 = as.reverse ++ rest) (hW : (rest.map fun v => v.category).sum ≤ 8) (hdg : decode cc pc = .ok (.invokestatic index, 3)) (hf : cells + rm.cells ≤ Rm.cells ∧ slots + rm.slots ≤ Rm.slots)
    (kk : ∀ (v : Option Value) (N' : Nat) (ad' : Nat → Nat) (K' : gK) (I' : mG) (R' : gR) (H' : Heap) (locs' : List Loc), post v (N', ad', K', I', R') → gGo N ad K (N', ad', K', I', R') → gw D dA A s.heap (List.range N') ad' K' I' R' H' locs' → W p l e Rm s m args below meth c H' locs' (cells + rm.cells) (slots + rm.slots) Q (F0 m (pc + 3) ls (v.toList ++ rest))) : W p l e Rm s m args below meth c H locs cells slots Q (F0 m pc ls st0) :=
  M_run (va_runS (As := as) (rest := rest) hC (hM D dA H.size) (va_cwS n hC.2.2.2.2 hT rfl rfl rfl hd hR) ⟨fun a U g mk q => ⟨q.1, q.2.moved (V := U.calling g mk a) rfl rfl⟩, fun U hU hWm => ⟨rfl, ⟨by rw [hU], hK.moved hWm.alike, hX.warm hWm, by rw [hU]; exact hw.1.1, hw.1.2.1.weaken (fun _ _ _ _ => trivial), hw.2⟩, hZ.keep hWm (fun q cell hq hs => by rw [hU, hw.1.2.2.1.2.1 q (Array.getElem?_eq_some_iff.mp hq).1 (hst q cell hq hs)]; exact hq)⟩⟩ rfl hn hl hst0 (lv_room hW) hdg hf) hw kk
end TR
