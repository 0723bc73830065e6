/-! ===== the premises that throwing roads lean on; calls that throw ===== -/
def narL : Cond → List Cond
  | .and a b => narL a ++ narL b
  | w => [w]
theorem narL_ok {args : Array Value} {s : State} : ∀ (w : Cond), w.before args s = true → ∀ x ∈ narL w, x.before args s = true := by
  intro w
  induction w with
  | and a b iha ihb =>
    intro h x hx
    rw [Cond.before_and, Bool.and_eq_true] at h
    rcases List.mem_append.mp hx with hx | hx
    · exact iha h.1 x hx
    · exact ihb h.2 x hx
  | _ => intro h x hx; rw [List.mem_singleton.mp hx]; exact h
abbrev uStk : Cond := .isRef (.static "java/lang/Throwable" "UNASSIGNED_STACK" "[Ljava/lang/StackTraceElement;")
abbrev uSen : Cond := .isRef (.static "java/lang/Throwable" "SUPPRESSED_SENTINEL" "Ljava/util/List;")
/-! the default methods of works: the words that the tables don't say; which method 'super.size', 'super.mark' are; interface calls -/
def dSM : String := "(LWindCarver$Trail;LWindCarver$Held;)I"
def gDl (n : String) (U : State) : Prop := ∃ (cn : ClassId) (r0 : MethodId), U.vm.findClass RX4 = some cn ∧ U.methodNamed? ⟨RX14, n, dSM⟩ = some r0 ∧ lookupSpecial U.vm cn n dSM = .method r0
def gFw (U : State) : Prop := (∀ C ∈ [RX5, RX9, RX10, RX11, RX12], va_Fw C ⟨RX14, "holds", "()I"⟩ yX4_holds U ∧ va_Fw C ⟨RX14, "cell", "()I"⟩ yX4_cell U) ∧ va_Fw RX13 ⟨"WindCarver$Held", "felt", "()I"⟩ yX13_felt U
def gD (U : State) : Prop := (∀ w ∈ defaultWords_1, va_Nw w U) ∧ gDl "size" U ∧ gDl "mark" U ∧ gFw U
theorem dw_good : defaultWords_1.all goodWord = true := by decide +kernel
theorem gDl.warm {n : String} {s U : State} (h : gDl n s) (hW : s.WarmedH U.vm) : gDl n U := by
  obtain ⟨cn, r0, h1, h2, h3⟩ := h
  refine ⟨cn, r0, by rw [hW.alike.findClass]; exact h1, ?_, by rw [hW.alike.lookupSpecial]; exact h3⟩
  have e := State.methodNamed?_setVm (s := s) hW.alike ⟨RX14, n, dSM⟩
  rw [h2] at e
  exact e
theorem gD.warm {s U : State} (h : gD s) (hW : s.WarmedH U.vm) : gD U :=
  ⟨fun w hw => word_at hW (good_of_word (List.all_eq_true.mp dw_good w hw)) (h.1 w hw), h.2.1.warm hW, h.2.2.1.warm hW, fun C hC => ⟨((h.2.2.2.1 C hC).1).moved (by decide) hW.alike, ((h.2.2.2.1 C hC).2).moved (by decide) hW.alike⟩, h.2.2.2.2.moved (by decide) hW.alike⟩
/-- pairs not castable, Throwable's two statics, the modules -/
def gZ (U : State) : Prop := (∀ A B, Cond.not (.castable A B) ∈ narL narrow_1 → va_Nc A B U) ∧ uStk.before #[] U = true ∧ uSen.before #[] U = true ∧ modulesRight_1 U = true ∧ (∀ a b d, Cond.laysStatic a b d ∈ lw_tbl → (Cond.laysStatic a b d).before #[] U = true) ∧ gD U
theorem ref_keep {cls f d : String} {s U : State} {A A' : Array Value} (h : (Cond.isRef (.static cls f d)).before A s = true) (hv : s.vm.Alike U.vm) (hh : ∀ (q : Nat) (cell : Cell), s.heap[q]? = some cell → cell.vm.isStatics = true → U.heap[q]? = some cell) : (Cond.isRef (.static cls f d)).before A' U = true := by
  cases hf : s.fieldFound? cls f d with
  | none => simp [Cond.before, Cond.holds, Cond.value, Term.eval, State.fieldNamed?, hf] at h
  | some z =>
    obtain ⟨c, k, i, fl⟩ := z
    obtain ⟨k', hk', ek⟩ := State.fieldFound?_setVm hv hf
    have hk2 : U.fieldFound? cls f d = some (c, k', i, fl) := hk'
    have es : k'.statics = k.statics := by rw [ek]
    by_cases hst : fl.isStatic = true
    · cases ha : k.statics with
      | none => simp [Cond.before, Cond.holds, Cond.value, Term.eval, State.fieldNamed?, hf, hst, ha] at h
      | some q =>
        cases hc : s.heap[q]? with
        | none => simp [Cond.before, Cond.holds, Cond.value, Term.eval, State.fieldNamed?, hf, hst, ha, hc] at h
        | some cell =>
          by_cases hi : cell.vm.isStatics = true
          · have hu := hh q cell hc hi
            have eS : ∀ (A0 : Array Value) (V : State) (k0 : Class), V.fieldFound? cls f d = some (c, k0, i, fl) → k0.statics = some q → V.heap[q]? = some cell → (Term.static cls f d).eval A0 V none [] V = cell.slots[fl.slot]? := fun A0 V k0 w1 w2 w3 => by
              simp [Term.eval, State.fieldNamed?, w1, hst, w2, w3, hi]
            have e1 := eS A s k hf ha hc
            have e2 := eS A' U k' hk2 (es.trans ha) hu
            simp only [Cond.before, Cond.holds, Cond.value] at h ⊢
            rw [e1] at h
            rw [e2]
            exact h
          · simp [Cond.before, Cond.holds, Cond.value, Term.eval, State.fieldNamed?, hf, hst, ha, hc, hi] at h
    · simp [Cond.before, Cond.holds, Cond.value, Term.eval, State.fieldNamed?, hf, hst] at h
theorem lay_keep {cls f d : String} {s U : State} {A A' : Array Value} (h : (Cond.laysStatic cls f d).before A s = true) (hv : s.vm.Alike U.vm) (hh : ∀ (q : Nat) (cell : Cell), s.heap[q]? = some cell → cell.vm.isStatics = true → U.heap[q]? = some cell) : (Cond.laysStatic cls f d).before A' U = true := by
  simp only [Cond.before, Cond.holds, Cond.value] at h ⊢
  rw [hv.findClass]
  cases h1 : s.vm.findClass cls with
  | none => simp [h1] at h
  | some c0 =>
    cases hf : s.fieldFound? cls f d with
    | none => simp [h1, hf] at h
    | some z =>
      obtain ⟨c, k, i, fl⟩ := z
      obtain ⟨k', hk', ek⟩ := State.fieldFound?_setVm hv hf
      have hk2 : U.fieldFound? cls f d = some (c, k', i, fl) := hk'
      have es : k'.statics = k.statics := by rw [ek]
      have et : k'.staticTypes = k.staticTypes := by rw [ek]
      rw [h1, hf] at h
      rw [hk2]
      dsimp only at h ⊢
      rw [es, et]
      cases ha : k.statics with
      | none => simp [ha] at h
      | some q =>
        cases hc : s.heap[q]? with
        | none => simp [ha, hc] at h
        | some ce =>
          rw [ha] at h
          simp only [Option.bind_some, hc, Option.map_some] at h ⊢
          have hi : ce.vm.isStatics = true := by simp at h; exact h.1.1.1.2
          rw [hh q ce hc hi]
          exact h
theorem gZ.keep {s U : State} (h : gZ s) (hW : s.WarmedH U.vm) (hh : ∀ (q : Nat) (cell : Cell), s.heap[q]? = some cell → cell.vm.isStatics = true → U.heap[q]? = some cell) : gZ U :=
  ⟨fun A B hm => (h.1 A B hm).moved hW.alike, ref_keep h.2.1 hW.alike hh, ref_keep h.2.2.1 hW.alike hh, by
    have e := h.2.2.2.1
    unfold modulesRight_1 at e ⊢
    rw [hW.alike.1]
    exact e, fun a b d hm => lay_keep (h.2.2.2.2.1 a b d hm) hW.alike hh, h.2.2.2.2.2.warm hW⟩
theorem gZ.same {s U : State} (h : gZ s) (e : s.vm = U.vm) (eh : U.heap = s.heap) : gZ U := h.keep (by rw [← e]; exact State.WarmedH.refl s) (fun q cell hq _ => by rw [eh]; exact hq)
/-- a named cell is no class's statics -/
theorem gw.noStat {D : va_G} {dA : Nat → ClassId} {H : Heap} {N : Nat} {ad : Nat → Nat} {K : gK} {I : mG} {R : gR} (hP : va_P D cCl (nL (List.range N) (gCt dA K I R ad) ad) H) : ∀ (q : Nat) (cell : Cell), H[q]? = some cell → cell.vm.isStatics = true → ¬ nA (List.range N) ad H.size q := by
  intro q cell hq hs hA
  rcases hA with ⟨n, hn, rfl⟩ | hle
  · have hm : (ad n, gCt dA K I R ad n) ∈ nL (List.range N) (gCt dA K I R ad) ad := List.mem_map.mpr ⟨n, hn, rfl⟩
    obtain ⟨i, hi⟩ := List.mem_iff_getElem?.mp hm
    have hz := hP i _ hi
    unfold va_at at hz
    split at hz
    · rw [hq] at hz
      rw [Option.some.inj hz] at hs
      exact absurd hs (by unfold vp_cell; split <;> exact Bool.false_ne_true)
    · obtain ⟨r, -, c1, w1, -, w3, -⟩ := hz
      dsimp only at w1
      rw [hq] at w1
      cases w1
      rw [w3] at hs
      cases hs
  · have := (Array.getElem?_eq_some_iff.mp hq).1
    omega
/-- what is thrown: an object of that class -/
def xO (C : String) (x : Addr) (t : State) : Prop := ∃ cell : Cell, t.heap[x]? = some cell ∧ cell.vm.isStatics = false ∧ t.vm.findClass C = some cell.cls
def gQT (D : va_G) (dA : Nat → ClassId) (N : Nat) (ad : Nat → Nat) (K : gK) (sz : Nat) (C : String) (post : Addr → gS → Prop) : Array Value → State → Outcome → State → Prop := fun _ st oc t =>
  (∃ (x : Addr) (S : gS), oc = .threw x ∧ xO C x t ∧ post x S ∧ gEnd D dA (nA (List.range N) ad sz) (List.range S.1) S.2.1 S.2.2.1 S.2.2.2.1 S.2.2.2.2 t ∧ gGo N ad K S) ∧ va_F (nA (List.range N) ad sz) st t
def gPZ (D : va_G) (dA : Nat → ClassId) (N : Nat) (ad : Nat → Nat) (K : gK) (I : mG) (R : gR) (sz : Nat) (U : State) : Prop := gPre D dA (List.range N) ad K I R sz U ∧ gZ U
/-- a method on a road where it throws -/
def gMT (l : Launch) (y : MethodName) (ws : List Cond) (rm : Room) (as : List Value) (N : Nat) (ad : Nat → Nat) (K : gK) (I : mG) (R : gR) (C : String) (post : Addr → gS → Prop) : Prop :=
  ∀ (D : va_G) (dA : Nat → ClassId) (sz : Nat), MetT l y ws rm (va_Pc as (gPZ D dA N ad K I R sz)) (gQT D dA N ad K sz C post) rm.cells rm.slots (nA (List.range N) ad sz)
/-- a method (with a table of handlers, or none) that returns, whatever is thrown within -/
def gMZ (l : Launch) (y : MethodName) (ws : List Cond) (rm : Room) (as : List Value) (N : Nat) (ad : Nat → Nat) (K : gK) (I : mG) (R : gR) (post : Option Value → gS → Prop) : Prop :=
  ∀ (D : va_G) (dA : Nat → ClassId) (sz : Nat), Met l y ws rm (va_Pc as (gPZ D dA N ad K I R sz)) (gQ D dA N ad K sz post) rm.cells rm.slots (nA (List.range N) ad sz)
theorem gMT.of {l : Launch} {y : MethodName} {cc : ByteArray} {nl : Nat} {ret : Option FieldType} {rm : Room} {as : List Value} {N : Nat} {ad : Nat → Nat} {K : gK} {I : mG} {R : gR} {C : String} {post : Addr → gS → Prop} (hy : plainName y.cls = true) (hn : (lg_sl as).length ≤ nl)
    (body : ∀ (D : va_G) (dA : Nat → ClassId) (p : Program) (e : Env) (s : State) (m : MethodId) (args : Array Value) (below : List Frame) (meth : Method) (c : Code) (ls : Array Slot), CallFix p m c cc nl s args lw_all y.cls → meth.locks = false → c.exceptionTable.toList = [] → va_K D cCl (cTy dA) s → gX s → gZ s → (∀ (q : Nat) (cell : Cell), s.heap[q]? = some cell → cell.vm.isStatics = true → ¬ nA (List.range N) ad s.heap.size q) → lv_has ls nl (lv_args 0 as) → gw D dA (nA (List.range N) ad s.heap.size) s.heap (List.range N) ad K I R s.heap [] →
      W p l e rm s m args below meth c s.heap [] 0 0 (MQT below (gQT D dA N ad K s.heap.size C post) args s rm.cells rm.slots (nA (List.range N) ad s.heap.size)) (F0 m 0 ls [])) : gMT l y (ws_ y cc nl ret) rm as N ad K I R C post := by
  intro D dA sz
  refine MetT.ofW (cc := cc) (maxL := nl) (ret := ret) hy rfl ?_
  intro p e s m args below meth c s₁ B hml htb hv
  obtain ⟨rfl, ⟨hsz, hK, hX, hP, hD, hc⟩, hZ⟩ := hv
  subst hsz
  have hts := atoms_spec (ws := ws_ y cc nl ret) B.pre
  have hts : ∀ w ∈ lw_all, w.before as.toArray s = true := fun w h => hts w (List.mem_cons_of_mem _ h)
  have hown : s.vm.findClass y.cls = some m.cls := findClass_of_methodNamed B.named
  have hl := lv_entry as (n := nl) hn
  rw [lg_entry_eq]
  exact body D dA p e s m _ below meth c _ ⟨B.exec, B.bytes, hml, hown, hts⟩ B.notSynchronized htb hK hX hZ (gw.noStat hP) hl ⟨nw.start hP hD, hc⟩
/-- a walk from where x is thrown over the frame g -/
def WT (p : Program) (l : Launch) (e : Env) (R : Room) (s : State) (m : MethodId) (args : Array Value) (below : List Frame) (meth : Method) (c : Code) (H : Heap) (locs : List Loc) (cells slots : Nat) (Q : State → Prop) (g : JFrame) (x : Addr) (C : String) : Prop :=
  ∀ T : State, T.heap = H → Stand p l e R s m args below meth c T locs cells slots → xO C x T → ∃ t, Steps p.tables e below ((T.setTop g).pushFrame (.throwing x)) t ∧ Q t
section TR
variable {p : Program} {l : Launch} {e : Env} {Rm : Room} {s : State} {m : MethodId} {args : Array Value} {below : List Frame} {meth : Method} {c : Code} {H : Heap} {locs : List Loc} {cells slots : Nat} {Q : State → Prop}
variable {cc : ByteArray} {nl pc : Nat} {ls : Array Slot} {rest : List Value} {own : String} {D : va_G} {dA : Nat → ClassId} {A : Nat → Prop} {H0 : Heap} {N : Nat} {ad : Nat → Nat} {K : gK} {I : mG} {R : gR}
/-- it leaves a method that has no handlers -/
theorem T_out (hlk : meth.locks = false) (htb : c.exceptionTable.toList = []) {N0 : Nat} {ad0 : Nat → Nat} {K0 : gK} (hw : gw D dA (nA (List.range N0) ad0 s.heap.size) s.heap (List.range N) ad K I R H locs) (hg : gGo N0 ad0 K0 (N, ad, K, I, R)) {C : String} {post : Addr → gS → Prop} {rc rs : Nat} (hc : cells ≤ rc ∧ slots ≤ rs) {x : Addr} (hq : post x (N, ad, K, I, R)) {st : List Value} : WT p l e Rm s m args below meth c H locs cells slots (MQT below (gQT D dA N0 ad0 K0 s.heap.size C post) args s rc rs (nA (List.range N0) ad0 s.heap.size)) (F0 m pc ls st) x C := by
  intro T hT X hx
  obtain ⟨h1, h2, h3, h4, h5⟩ := X.leaveThrown x (g := F0 m pc ls st) rfl rfl rfl (by rw [htb]; intro y hy; cases hy) hlk
  refine ⟨_, h1, .threw x, h2, h3, ⟨⟨x, (N, ad, K, I, R), rfl, hx, hq, ⟨by show va_P D cCl _ T.heap; rw [hT]; exact hw.1.1, hw.1.2.1, hw.2⟩, hg⟩, hw.1.2.2.1.F hT⟩, locs, ⟨⟨x, rfl⟩, h4, h5.weaken (fun _ h _ => h) hc.1 hc.2⟩, hw.1.2.2.1.2.2⟩
end TR
