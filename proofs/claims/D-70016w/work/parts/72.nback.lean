/-! ===== calls of a method whose class need not be initialised (an interface's default method) ===== -/
/-- a contract by its walk alone -/
def MetN (l : Launch) (y : MethodName) (cc : ByteArray) (maxL : Nat) (ret : Option FieldType) (ws : List Cond) (rm : Room) (Pc : Array Value → State → Prop) (Qc : Array Value → State → Outcome → State → Prop) (mc ms : Nat) (free : Addr → Prop) : Prop :=
  ∀ (p : Program) (e : Env) (s : State) (m : MethodId) (args : Array Value) (below : List Frame) (meth : Method) (c : Code), p.tables.exec = Jvm.exec → c.code = cc → c.maxLocals = maxL → s.methodNamed? y = some m → meth.sig.returnType = ret → meth.locks = false → (∀ w ∈ ws, w.before args s = true) → Pc args s →
    W p l e rm s m args below meth c s.heap [] 0 0 (MQ below Qc args s mc ms free) (entryFrame m args maxL)
theorem Steps.over {tb : Tables} {e : Env} {mid below : List Frame} {s t : State} (h : Steps tb e (mid ++ below) s t) : Steps tb e below s t := by
  obtain ⟨n, hn, hw⟩ := h
  exact ⟨n, hn, fun k hk => (hw k hk).weaken⟩
theorem back_N {l : Launch} {R : Room} {p : Program} {e : Env} {below : List Frame} {s : State} {sargs : Array Value} {y : MethodName} {len W0 : Nat} {ws : List Cond} {rm : Room} {Pc : Array Value → State → Prop} {Qc : Array Value → State → Outcome → State → Prop} {mc ms : Nat} {free : Addr → Prop} {bytes : ByteArray} {maxL : Nat} {ret : Option FieldType}
    (hM : MetN l y bytes maxL ret ws rm Pc Qc mc ms free) (hy : plainName y.cls = true) (hblind : FrameBlind Pc) (hrc : rm.cells = mc) (hrs : rm.slots = ms) (hframes : rm.frames + 1 ≤ R.frames) (hlocals : W0 + (maxL + 11) + rm.locals ≤ R.locals)
    (hws : ∀ w ∈ ws, ∀ a' U, s.WarmedH U.vm → w.before a' U = true) (hcode : Cond.code y bytes maxL ret ∈ ws) :
    Back l R p e below s sargs y len W0 (PreOf R mc ms Pc) (PostOf Qc mc ms free) := by
  rintro m meth c ⟨U, Ls, c0, s0⟩ g ig mk a X hg hsize hdg hW hn ⟨hp1, hp2, hp3⟩
  dsimp only [Pt.U, Pt.locs, Pt.cells, Pt.slots] at X hn hp1 hp2 hp3 ⊢
  subst hg
  obtain ⟨mY, cY, q1, q2, q3, q4, q5, q6, -, -⟩ := Cond.code_spec hn (hws _ hcode a U X.warmed)
  have hat : At U g.method c below := X.here
  obtain ⟨mid, hmid⟩ := hat.above
  have hfr : (U.setTop g).frames = (.java g :: mid) ++ below := by rw [State.frames_setTop' g hat.top, hmid]; rfl
  have hroom : (U.calling g mk a).hasRoom e.platform rm = true := X.room_calling (g := g) (R' := rm) hsize q1 q2 hframes (by rw [q4]; exact Nat.le_trans (by omega) hlocals) (by rw [hrc]; exact hp1) (by rw [hrs]; exact hp2)
  have hf : (U.calling g mk a).frames = .invoking mk a :: (U.setTop g).frames := (State.frames_calling hat.top g mk a).trans (by rw [State.frames_setTop' g hat.top])
  have hcodeg : (U.calling g mk a).code? g.method = some c := by
    have := hat.code
    rw [State.code?_eq] at this ⊢
    simpa [State.calling, State.pushFrame, State.setFrames] using this
  have hrun : (U.calling g mk a).status = .running := hat.running
  have hable : (U.calling g mk a).curStatus? = some .runnable := by simpa [State.calling] using hat.runnable
  have halone : (U.calling g mk a).alone = true := by simpa [State.calling] using hat.alone
  have hhears : (U.calling g mk a).hears mk (U.setTop g).frames = true := by
    rw [State.frames_setTop' g hat.top]
    simp [State.hears, hcodeg, hdg, Except.toOption]
  have hname : (U.calling g mk a).methodNamed? y = some mk := hn
  have hmeth : (U.calling g mk a).vm.method? mk = some mY := q1
  generalize hs' : U.calling g mk a = s' at *
  have hcur := State.cur_lt_of_frames hf
  have hf1 : (s'.setFrames (.java (entryFrame mk a maxL) :: (U.setTop g).frames)).frames = .java (entryFrame mk a maxL) :: (U.setTop g).frames := State.frames_setFrames _ hcur
  have ht1 := State.topJava?_of_frames hf1
  have hplain : (s'.setFrames (.java (entryFrame mk a maxL) :: (U.setTop g).frames)).plainMethod mk := State.plainMethod.of_named (s := s') (plainFor_of_name hy) hname hmeth
  have hAt : At (s'.setFrames (.java (entryFrame mk a maxL) :: (U.setTop g).frames)) mk cY (U.setTop g).frames :=
    ⟨by rw [ht1]; rfl, ⟨[], by rw [hf1]; rfl⟩, hrun, by simpa using hable, by simpa using halone, by rw [State.code?_eq]; simp [State.setFrames, hmeth, q2], hplain⟩
  have hstep : (stepThread p.tables e s').1 = (s'.setFrames (.java (entryFrame mk a maxL) :: (U.setTop g).frames)).setTop (entryFrame mk a maxL) := by
    have hfull : e.platform.stackFull (s'.setFrames (U.setTop g).frames).me (s'.setFrames (U.setTop g).frames).frames cY.maxLocals = false := by
      obtain ⟨-, h1, -, h2⟩ := State.hasRoom_stack hroom
      rw [hf, List.length_cons] at h1
      rw [State.localsInUse_invoking hf hmeth q2] at h2
      have hw := stackUse_le_stackWeight (U.setTop g).frames
      rw [State.frames_setFrames _ hcur]
      exact Platform.stackFull_eq_false (by rw [State.stackLimits_setFrames]; omega) (by rw [State.stackLimits_setFrames]; omega)
    rw [stepThread_invoking hf, (doInvoke_java (s := s'.setFrames (U.setTop g).frames) (e := e) (meth := mY) (code := cY) hmeth q2 q6 hfull).1, State.setTop_self ht1]
    simp only [State.pushFrame, State.frames_setFrames _ hcur, State.setFrames_setFrames, q4, entryFrame]
  have hgo : (stepThread p.tables e s').1 = (doInvoke e (U.setTop g) [] mk a).1 := by
    obtain ⟨g1, hg1⟩ := Option.isSome_iff_exists.mp (At.top hat)
    obtain ⟨rr, hrr⟩ := State.topJava?_eq_some.mp hg1
    obtain ⟨th, hth, -⟩ := State.frames_cons (State.frames_setTop g hrr)
    have e0 : s' = (U.setTop g).pushFrame (.invoking mk a) := hs'.symm
    rw [stepThread_invoking hf, doInvoke_state e (U.setTop g) [], e0, State.pushFrame, State.setFrames_setFrames, State.setFrames_self hth]
  obtain ⟨th, hth, -⟩ := State.frames_cons hf
  have X0 : Stand p l e rm s' mk a (U.setTop g).frames mY cY (s'.setFrames (.java (entryFrame mk a maxL) :: (U.setTop g).frames)) [] 0 0 :=
    ⟨X.admits, X.cas, X.clock, hf, hroom, hhears, hmeth, q2, hAt, by rw [hf1]; rfl, State.WarmedH.refl s', by rw [State.stackLimits_setFrames], by rw [State.stackBytes_setFrames], (State.sameButNew.refl s' hth).setFrames (.java (entryFrame mk a maxL) :: (U.setTop g).frames) hcur⟩
  have hws' : ∀ w ∈ ws, w.before a s' = true := fun w hw => by rw [← hs']; exact hws w hw a _ (show s.WarmedH (U.calling g mk a).vm from X.warmed)
  have hP' : Pc a s' := by rw [← hs']; exact hblind _ _ g mk hp3
  obtain ⟨t, hst, o, h1, hend, hq, L, hE, hL⟩ := hM p e s' mk a (U.setTop g).frames mY cY (by cases p <;> rfl) q3 q4 hname q5 q6 hws' hP' (s'.setFrames (.java (entryFrame mk a maxL) :: (U.setTop g).frames)) rfl X0
  rw [← hstep, hgo, hfr] at hst
  have hst := Steps.over (mid := .java g :: mid) hst
  obtain ⟨⟨v, rfl⟩, hWt, e2, w2, w3, w4, w5, w6⟩ := id hE
  rw [State.frames_setTop' g hat.top] at hend
  have e3 : t = ({ s'.setFrames t.frames with heap := t.heap, slotsUsed := t.slotsUsed } : State).setVm t.vm := by
    have : t = ({ t with vm := s'.vm } : State).setVm t.vm := rfl
    rw [e2] at this
    exact this
  obtain ⟨c₂, i₂, len₂, hc₂, hd₂, hf₂⟩ := hend
  have hW' : U.WarmedH t.vm := by rw [← hs'] at hWt; exact hWt
  have hcc : c₂ = c := by
    have h1 : t.code? g.method = U.code? g.method := by rw [State.code?_eq, State.code?_eq, hW'.alike.method?]
    exact Option.some.inj (hc₂.symm.trans (h1.trans hat.code))
  subst hcc
  have hlen : len₂ = len := by rw [hdg] at hd₂; cases hd₂; rfl
  subst hlen
  obtain ⟨g₀, hg0⟩ := Option.isSome_iff_exists.mp hat.top
  obtain ⟨r, hr⟩ := State.topJava?_eq_some.mp hg0
  have ht₂ : t = (({ U with heap := t.heap, slotsUsed := t.slotsUsed } : State).setVm t.vm).setTop { g with pc := g.pc + len₂, stack := v.toList ++ g.stack } := by
    have hr' : (({ U with heap := t.heap, slotsUsed := t.slotsUsed } : State).setVm t.vm).frames = .java g₀ :: r := hr
    refine e3.trans ?_
    rw [hf₂, ← hs', State.calling_eq hat.top, State.setFrames_setFrames, State.setTop_of_frames _ hr', hr]
    rfl
  have hsame : U.sameButNew ({ U with heap := t.heap, slotsUsed := t.slotsUsed } : State) L mc ms := by
    rw [← hs'] at w2 w3 w4 w5 w6
    refine ⟨?_, w2, w3, w4, w5, w6⟩
    obtain ⟨t0, ht0, -⟩ := State.frames_cons hr
    show ({ U with heap := t.heap, slotsUsed := t.slotsUsed } : State) = { U.setFrames U.frames with heap := t.heap, slotsUsed := t.slotsUsed }
    rw [State.setFrames_self ht0]
  refine ⟨v, ⟨(({ U with heap := t.heap, slotsUsed := t.slotsUsed } : State).setVm t.vm), Ls ++ L, c0 + mc, s0 + ms⟩,
    ⟨X.admits, X.cas, X.clock, X.frames, X.room, X.hears, X.method, X.code, (X.here.setHeapUsed t.heap t.slotsUsed).setVm hW'.alike, X.tail, State.WarmedH.trans X.warmed hW', X.limits, X.bytes, X.same.trans (hsame.setVm s.vm)⟩,
    ⟨g, mk, t, L, rfl, rfl, by rw [hs']; exact hq, rfl, hL, rfl, rfl⟩, ?_⟩
  show Steps p.tables e below _ ((({ U with heap := t.heap, slotsUsed := t.slotsUsed } : State).setVm t.vm).setTop { g with pc := g.pc + len₂, stack := v.toList ++ g.stack })
  rw [← ht₂]
  exact hst
