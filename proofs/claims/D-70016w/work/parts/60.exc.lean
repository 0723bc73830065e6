/-! ===== what is thrown: the search for a handler, its classes cold or warm ===== -/
/-- where the search through a table ends: at a handler, or nowhere -/
def rowsTo (pl : Platform) (s : State) (d : ClassId) (pc : Nat) (cX : ClassId) : List ExceptionTableEntry → Option Nat → Prop
  | [], r => r = none
  | x :: t, r => (covers x pc = false ∧ rowsTo pl s d pc cX t r) ∨ (covers x pc = true ∧ ((x.catchType = 0 ∧ r = some x.handlerPc) ∨ (x.catchType ≠ 0 ∧ ∃ c, s.vm.ClassLinks pl d x.catchType c ∧ ((s.vm.assignable cX c = true ∧ r = some x.handlerPc) ∨ (s.vm.assignable cX c = false ∧ rowsTo pl s d pc cX t r)))))
def hdl : Option Nat → Handler
  | none => .none
  | some pc => .found pc
theorem rows_one {e : Env} {S : State} {f : JFrame} {a : Addr} {cell : Cell} {x : ExceptionTableEntry} {t : List ExceptionTableEntry} {c : ClassId} (hx : covers x f.pc = true) (h0 : x.catchType ≠ 0) (hl : S.vm.ClassLinks e.platform f.method.cls x.catchType c) (hc : S.heap[a]? = some cell) (hobj : ∀ k, cell.vm ≠ .statics k) {k1 k2 : Class} (hk1 : S.vm.classes[cell.cls]? = some k1) (hk2 : S.vm.classes[c]? = some k2) (Q : Handler → Pre) (E : CtlPost) (d : Bool) (acts : List Action) :
    wp (findHandler.go f a (x :: t)) Q E e d acts S ↔ if S.vm.assignable cell.cls c = true then Q (.found x.handlerPc) d acts (S.setVm (S.vm.noted f.method.cls x.catchType (.cls c))) else wp (findHandler.go f a t) Q E e d acts (S.setVm (S.vm.noted f.method.cls x.catchType (.cls c))) := by
  have al : S.vm.Alike (S.vm.noted f.method.cls x.catchType (.cls c)) := (Vm.Alike.refl S.vm).noted _ _ _
  obtain ⟨r1, r2⟩ := (resolveClass_links e.toSetting hl).op (op := VmOp.resolveClass f.method.cls x.catchType) rfl
  obtain ⟨z1, y1, -⟩ := al.2.2 _ _ hk1
  obtain ⟨z2, y2, -⟩ := al.2.2 _ _ hk2
  have ea := al.assignable cell.cls c
  simp only [covers] at hx
  cases hb : S.vm.assignable cell.cls c with
  | true => rw [hb] at ea; simp [findHandler.go, hx, h0, r1, r2, hc, hobj, y1, y2, ea, VmOp.dirties, VmOp.acts]
  | false => rw [hb] at ea; simp [findHandler.go, hx, h0, r1, r2, hc, hobj, y1, y2, ea, VmOp.dirties, VmOp.acts]
theorem rows_go {e : Env} {s : State} {f : JFrame} {a : Addr} {cell : Cell} (hobj : ∀ k, cell.vm ≠ .statics k) {k0 : Class} (hk : s.vm.classes[cell.cls]? = some k0) :
    ∀ (t : List ExceptionTableEntry) (r : Option Nat) (S : State), s.WarmedH S.vm → S.heap[a]? = some cell → rowsTo e.platform s f.method.cls f.pc cell.cls t r →
      ∃ vm', s.WarmedH vm' ∧ ∀ (Q : Handler → Pre) (E : CtlPost) (d : Bool) (acts : List Action), wp (findHandler.go f a t) Q E e d acts S ↔ Q (hdl r) d acts (S.setVm vm')
  | [], r, S, hW, _, h => ⟨S.vm, hW, fun Q E d acts => by cases h; rw [Jvm.W.findHandler_go_nil, State.setVm_self]; rfl⟩
  | x :: t, r, S, hW, hc, h => by
    rcases h with ⟨hcov, h⟩ | ⟨hcov, ⟨h0, rfl⟩ | ⟨h0, c, hl, h⟩⟩
    · obtain ⟨vm', w1, w2⟩ := rows_go hobj hk t r S hW hc h
      exact ⟨vm', w1, fun Q E d acts => by rw [Jvm.W.findHandler_go_skip hcov]; exact w2 Q E d acts⟩
    · exact ⟨S.vm, hW, fun Q E d acts => by rw [Jvm.W.findHandler_go_any hcov h0, State.setVm_self]; rfl⟩
    · obtain ⟨dk, _, _, kt, hd, _, _, _, _, hkt, _, hopen⟩ := hl.here
      obtain ⟨z1, y1, -⟩ := hW.alike.2.2 _ _ hk
      obtain ⟨z2, y2, -⟩ := hW.alike.2.2 _ _ hkt
      have hW2 := hW.noted hd hopen (State.rightAt_cls hl)
      have one := fun Q E d acts => rows_one (t := t) hcov h0 (hW.classLinks hl) hc hobj y1 y2 Q E d acts
      rw [hW.alike.assignable cell.cls c] at one
      rcases h with ⟨hf, rfl⟩ | ⟨hf, h⟩
      · exact ⟨_, hW2, fun Q E d acts => by rw [one Q E d acts, if_pos hf]; rfl⟩
      · obtain ⟨vm', w1, w2⟩ := rows_go hobj hk t r (S.setVm (S.vm.noted f.method.cls x.catchType (.cls c))) hW2 hc h
        exact ⟨vm', w1, fun Q E d acts => by rw [one Q E d acts, if_neg (by rw [hf]; decide)]; exact w2 Q E d acts⟩
theorem x_step {e : Env} {s : State} {a : Addr} {f : JFrame} {r : List Frame} {pc : Nat} {vm' : Vm} (hfind : ∀ (Q : Handler → Pre) (E : CtlPost) (d : Bool) (acts : List Action), wp (findHandler f a) Q E e d acts s ↔ Q (.found pc) d acts (s.setVm vm')) :
    (stepThrowing e s a (.java f :: r)).Is ((s.setVm vm').setFrames (.java { f with pc := pc, stack := [.ref a] } :: r)) [] := by
  simp only [stepThrowing, searchFrame, vmDo]
  generalize hr : Sem.go _ e false [] s = res
  obtain ⟨as, rfl, ha⟩ := Sem.eq_ok_of hr (a := Handler.found pc) (s' := s.setVm vm') (acts' := []) (by simp [hfind _ _ _ _])
  exact ⟨rfl, ha⟩
section XC
variable {p : Program} {l : Launch} {e : Env} {R : Room} {s : State} {m : MethodId} {args : Array Value} {below : List Frame} {meth : Method} {c : Code} {T : State} {locs : List Loc} {cells slots : Nat}
/-- what is thrown over the walked method's frame is caught by a row of its table -/
theorem x_caught (X : Stand p l e R s m args below meth c T locs cells slots) (a : Addr) {g : JFrame} (hg : g.method = m) {cell : Cell} (hc : T.heap[a]? = some cell) (hobj : cell.vm.isStatics = false) {k0 : Class} (hk : s.vm.classes[cell.cls]? = some k0) {pc : Nat} (h : rowsTo e.platform s m.cls g.pc cell.cls c.exceptionTable.toList (some pc)) :
    ∃ vm', Stand p l e R s m args below meth c (T.setVm vm') locs cells slots ∧ ∀ tg, Steps p.tables e below ((T.setVm vm').setTop { g with pc := pc, stack := [.ref a] }) tg → Steps p.tables e below ((T.setTop g).pushFrame (.throwing a)) tg := by
  subst hg
  have hno : ∀ k, cell.vm ≠ .statics k := fun k hz => by rw [hz] at hobj; cases hobj
  obtain ⟨vm', hW, hf⟩ := rows_go (e := e) (f := g) (a := a) hno hk _ _ ((T.setTop g).pushFrame (.throwing a)) X.warmed hc h
  refine ⟨vm', X.noted hW, fun tg hr => ?_⟩
  have hat : At T g.method c below := X.here
  obtain ⟨hgo, hw⟩ := hat.throwing a
  refine Steps.head hgo hw ?_
  have hfd : ∀ (Q : Handler → Pre) (E : CtlPost) (d : Bool) (acts : List Action), wp (findHandler g a) Q E e d acts ((T.setTop g).pushFrame (.throwing a)) ↔ Q (.found pc) d acts (((T.setTop g).pushFrame (.throwing a)).setVm vm') := by
    intro Q E d acts
    exact (Jvm.W.findHandler_eq (s := (T.setTop g).pushFrame (.throwing a)) (f := g) (meth := meth) (code := c) X.method' X.code).trans (hf Q E d acts)
  obtain ⟨g0, hg0⟩ := Option.isSome_iff_exists.mp hat.top
  obtain ⟨rr, hrr⟩ := State.topJava?_eq_some.mp hg0
  rw [stepThread_throwing (frames_entered hat.top _), (x_step hfd).1]
  have hrr' : (T.setVm vm').frames = .java g0 :: rr := hrr
  rw [State.setTop_of_frames _ hrr'] at hr
  rw [State.pushFrame, State.setTop_of_frames _ hrr, State.setFrames_setFrames]
  show Steps p.tables e below (((T.setVm vm').setFrames _).setFrames _) tg
  rw [State.setFrames_setFrames, hrr]
  exact hr
end XC
/-- how a run ends that throws -/
def xEnd (st : State) (o : Outcome) (t : State) (L : List Loc) (k n : Nat) : Prop := (∃ x, o = .threw x) ∧ st.WarmedH t.vm ∧ st.sameButNew ({ t with vm := st.vm } : State) L k n
/-- the contract of a method on a road where it throws -/
def MetT (l : Launch) (y : MethodName) (ws : List Cond) (rm : Room) (Pc : Array Value → State → Prop) (Qc : Array Value → State → Outcome → State → Prop) (mc ms : Nat) (free : Addr → Prop) : Prop :=
  MetFree l y (headSpec ws rm) Pc (fun _ _ _ _ _ => True) (fun a st o t => Qc a st o t ∧ ∃ L, xEnd st o t L mc ms ∧ ∀ q ∈ L, free q.base)
def MQT (below : List Frame) (Qc : Array Value → State → Outcome → State → Prop) (a : Array Value) (s : State) (mc ms : Nat) (free : Addr → Prop) : State → Prop := fun t =>
  ∃ o, t.status = .running ∧ Ended t below o ∧ Qc a s o t ∧ ∃ L, xEnd s o t L mc ms ∧ ∀ q ∈ L, free q.base
theorem MetT.ofW {l : Launch} {y : MethodName} {ws ws' : List Cond} {rm : Room} {Pc : Array Value → State → Prop} {Qc : Array Value → State → Outcome → State → Prop} {mc ms : Nat} {free : Addr → Prop} {cc : ByteArray} {maxL : Nat} {ret : Option FieldType}
    (hy : plainName y.cls = true) (hw : ws = Cond.code y cc maxL ret :: ws')
    (body : ∀ p e s m args below meth c s₁, BodyLoose p l y (headSpec ws rm) cc maxL ret e s m args below meth c s₁ → c.maxLocals = maxL → c.exceptionTable.toList = [] → Pc args s →
      W p l e (headSpec ws rm).room s m args below meth c s.heap [] 0 0 (MQT below Qc args s mc ms free) (entryFrame m args maxL)) : MetT l y ws rm Pc Qc mc ms free := by
  have hcode : ∀ args s, (headSpec ws rm).pre.before args s = true → (Cond.code y cc maxL ret).before args s = true := fun args s h => atoms_spec (ws := ws) h _ (by rw [hw]; exact List.mem_cons_self)
  refine MetFree.of_bodyS (code := cc) (maxLocals := maxL) (ret := ret) hy ?_ ?_
  · intro args s m h hn
    obtain ⟨meth, c, h1, h2, h3, h4, h5, h6, -, -⟩ := Cond.code_spec hn (hcode args s h)
    exact ⟨meth, c, h1, h2, h3, h4, h5, h6⟩
  · intro p e s m args below meth c s₁ B hml hP _
    have hh0 : s₁.heap = s.heap := by rw [B.state]; rfl
    have X0 := Stand.of_body B
    obtain ⟨meth', c', h1, h2, -, -, -, -, h7, -⟩ := Cond.code_spec B.named (hcode args s B.pre)
    cases X0.method.symm.trans h1
    cases X0.code.symm.trans h2
    have h8 : c.exceptionTable.toList = [] := by
      have h0 : c.exceptionTable.size = 0 := by simpa [Array.isEmpty] using h7
      exact List.eq_nil_of_length_eq_zero (by simpa using h0)
    obtain ⟨t, a1, o, b1, b2, b3⟩ := body p e s m args below meth c s₁ B hml h8 hP s₁ hh0 X0
    exact ⟨t, o, a1, b1, b2, ⟨b3.1, b3.2⟩⟩
def xBack (l : Launch) (R : Room) (p : Program) (e : Env) (below : List Frame) (s : State) (sargs : Array Value) (y : MethodName) (len W : Nat) (Pre : Pt → Array Value → Prop) (Post : Pt → Array Value → Addr → Pt → Prop) : Prop :=
  ∀ (m : MethodId) (meth : Method) (c : Code) (A : Pt) (g : JFrame) (ig : Instr) (mk : MethodId) (a : Array Value),
    Stand p l e R s m sargs below meth c A.U A.locs A.cells A.slots → g.method = m → g.locals.size = c.maxLocals → decode c.code g.pc = .ok (ig, len) → 2 * g.monitorRoom + (g.stack.map fun v => v.category).sum ≤ W → A.U.methodNamed? y = some mk → Pre A a →
    ∃ (x : Addr) (B : Pt), Stand p l e R s m sargs below meth c B.U B.locs B.cells B.slots ∧ Post A a x B ∧ Steps p.tables e below (doInvoke e (A.U.setTop g) [] mk a).1 ((B.U.setTop g).pushFrame (.throwing x))
def PostT (Qc : Array Value → State → Outcome → State → Prop) (mc ms : Nat) (free : Addr → Prop) : Pt → Array Value → Addr → Pt → Prop := fun A a x B =>
  ∃ (g : JFrame) (mk : MethodId) (t : State) (L : List Loc), B.U.heap = t.heap ∧ B.U.vm = t.vm ∧ Qc a (A.U.calling g mk a) (.threw x) t ∧ B.locs = A.locs ++ L ∧ (∀ q ∈ L, free q.base) ∧ B.cells = A.cells + mc ∧ B.slots = A.slots + ms
theorem x_back {l : Launch} {R : Room} {p : Program} {e : Env} {below : List Frame} {s : State} {sargs : Array Value} {y : MethodName} {len W : Nat} {ws : List Cond} {rm : Room} {Pc : Array Value → State → Prop} {Qc : Array Value → State → Outcome → State → Prop} {mc ms : Nat} {free : Addr → Prop} {bytes : ByteArray} {maxL : Nat} {ret : Option FieldType}
    (hM : MetT l y ws rm Pc Qc mc ms free) (hblind : FrameBlind Pc) (hrc : rm.cells = mc) (hrs : rm.slots = ms) (hframes : rm.frames + 1 ≤ R.frames) (hlocals : W + (maxL + 11) + rm.locals ≤ R.locals)
    (hws : ∀ w ∈ ws, ∀ a' U, s.WarmedH U.vm → w.before a' U = true) (hcode : Cond.code y bytes maxL ret ∈ ws) (hinit : ∀ a' U, s.WarmedH U.vm → (Cond.initialized y.cls).before a' U = true) :
    xBack l R p e below s sargs y len W (PreOf R mc ms Pc) (PostT Qc mc ms free) := by
  rintro m meth c ⟨U, Ls, c0, s0⟩ g ig mk a X hg hsize hdg hW hn ⟨hp1, hp2, hp3⟩
  dsimp only [Pt.U, Pt.locs, Pt.cells, Pt.slots] at X hn hp1 hp2 hp3 ⊢
  subst hg
  have wY := hws _ hcode a U X.warmed
  obtain ⟨mY, cY, q1, q2, -, q3, -⟩ := Cond.code_spec hn wY
  obtain ⟨kY, q4, -⟩ := className_of_methodNamed hn
  have q5 : kY.init = .initialized := Cond.initialized_spec (findClass_of_methodNamed hn) q4 (hinit a U X.warmed)
  have hat : At U g.method c below := X.here
  have happ : (headSpec ws rm).appliesLoose y e.platform (U.calling g mk a) = true :=
    Spec.appliesLoose_calling (g := g) hat hdg hn q4 q5 (X.room_calling (g := g) (R' := (headSpec ws rm).room) hsize q1 q2 hframes (by rw [q3]; exact Nat.le_trans (by show _ ≤ W + (maxL + 11) + rm.locals; show _ + rm.locals ≤ _; omega) hlocals) (by rw [show (headSpec ws rm).room.cells = mc from hrc]; exact hp1) (by rw [show (headSpec ws rm).room.slots = ms from hrs]; exact hp2)) (atoms_intro fun w hw => hws w hw _ _ X.warmed)
  obtain ⟨mid, hmid⟩ := hat.above
  have hfr : (U.setTop g).frames = (.java g :: mid) ++ below := by rw [State.frames_setTop' g hat.top, hmid]; rfl
  obtain ⟨o, t, hst, -, hend, hq, L, hE, hL⟩ := Steps.callFree hM p X.admits X.cas X.clock (acts := []) hfr happ (hblind _ _ g mk hp3) trivial
  obtain ⟨⟨x, rfl⟩, hWt, hsm⟩ := hE
  replace hsm : (U.calling g mk a).sameButNew ({ t with vm := (U.calling g mk a).vm } : State) L mc ms := hsm
  rw [State.frames_setTop' g hat.top] at hend
  have hft : t.frames = .throwing x :: .java g :: U.frames.tail := hend
  have hW' : U.WarmedH t.vm := hWt
  obtain ⟨g0, hg0⟩ := Option.isSome_iff_exists.mp hat.top
  obtain ⟨rr, hrr⟩ := State.topJava?_eq_some.mp hg0
  have hB : (({ U with heap := t.heap, slotsUsed := t.slotsUsed } : State).setVm t.vm).frames = .java g0 :: rr := hrr
  have et : t = ((({ U with heap := t.heap, slotsUsed := t.slotsUsed } : State).setVm t.vm).setTop g).pushFrame (.throwing x) := by
    have e1 : t = ({ (U.calling g mk a).setFrames t.frames with heap := t.heap, slotsUsed := t.slotsUsed } : State).setVm t.vm := by
      have e0 : t = ({ t with vm := (U.calling g mk a).vm } : State).setVm t.vm := rfl
      rw [hsm.1] at e0
      exact e0
    refine e1.trans ?_
    rw [hft, State.calling_eq hat.top, State.setFrames_setFrames, State.pushFrame, State.frames_setTop _ hB, State.setTop_of_frames _ hB, State.setFrames_setFrames, hrr]
    rfl
  have hsame : U.sameButNew ({ U with heap := t.heap, slotsUsed := t.slotsUsed } : State) L mc ms := by
    obtain ⟨-, w2, w3, w4, w5, w6⟩ := hsm
    refine ⟨?_, w2, w3, w4, w5, w6⟩
    obtain ⟨th, hth, -⟩ := State.frames_cons hrr
    show ({ U with heap := t.heap, slotsUsed := t.slotsUsed } : State) = { U.setFrames U.frames with heap := t.heap, slotsUsed := t.slotsUsed }
    rw [State.setFrames_self hth]
  refine ⟨x, ⟨(({ U with heap := t.heap, slotsUsed := t.slotsUsed } : State).setVm t.vm), Ls ++ L, c0 + mc, s0 + ms⟩,
    ⟨X.admits, X.cas, X.clock, X.frames, X.room, X.hears, X.method, X.code, (X.here.setHeapUsed t.heap t.slotsUsed).setVm hW'.alike, X.tail, State.WarmedH.trans X.warmed hW', X.limits, X.bytes, X.same.trans (hsame.setVm s.vm)⟩,
    ⟨g, mk, t, L, rfl, rfl, hq, rfl, hL, rfl, rfl⟩, ?_⟩
  show Steps p.tables e below _ (((({ U with heap := t.heap, slotsUsed := t.slotsUsed } : State).setVm t.vm).setTop g).pushFrame (.throwing x))
  rw [← et]
  exact hst
