/-! ===== default methods, interface calls, super calls; the trail (by gen/w71.py) ===== -/
/-! which method 'super.m' is, where the superclass has it by an interface's default -/
def chn (vm : Vm) (c : ClassId) : Nat → Option ClassId
  | 0 => some c
  | i + 1 => (chn vm c i).bind fun q => (vm.classes[q]?).bind fun k => k.super
theorem chn_shift (vm : Vm) (c : ClassId) : ∀ i, chn vm c (i + 1) = ((vm.classes[c]?).bind fun k => k.super).bind fun q => chn vm q i
  | 0 => by
    show (some c).bind _ = _
    rw [Option.bind_some]
    cases (vm.classes[c]?).bind fun k => k.super <;> rfl
  | i + 1 => by
    show (chn vm c (i + 1)).bind _ = _
    rw [chn_shift vm c i]
    cases (vm.classes[c]?).bind fun k => k.super <;> rfl
theorem chn_add (vm : Vm) (c : ClassId) (a : Nat) : ∀ t, chn vm c (a + t) = (chn vm c a).bind fun q => chn vm q t
  | 0 => by
    show chn vm c a = _
    cases chn vm c a <;> rfl
  | t + 1 => by
    show (chn vm c (a + t)).bind _ = _
    rw [chn_add vm c a t]
    cases chn vm c a <;> rfl
theorem chn_lt {vm : Vm} {c : ClassId} {j : Nat} {p : ClassId} (h : chn vm c (j + 1) = some p) : ∃ q, chn vm c j = some q ∧ q < vm.classes.size := by
  have h' : (chn vm c j).bind _ = some p := h
  cases hq : chn vm c j with
  | none => rw [hq] at h'; cases h'
  | some q =>
    refine ⟨q, rfl, ?_⟩
    rw [hq, Option.bind_some] at h'
    cases hk : vm.classes[q]? with
    | none => rw [hk] at h'; cases h'
    | some k => exact (Array.getElem?_eq_some_iff.mp hk).1
theorem chn_down {vm : Vm} {c : ClassId} {j : Nat} {p : ClassId} (h : chn vm c j = some p) : ∀ i, i < j → ∃ q, chn vm c i = some q ∧ q < vm.classes.size := by
  intro i hi
  induction j generalizing p with
  | zero => omega
  | succ j ih =>
    obtain ⟨q, hq, hlt⟩ := chn_lt h
    by_cases e : i = j
    · subst e; exact ⟨q, hq, hlt⟩
    · exact ih hq (by omega)
theorem pigeon : ∀ (n : Nat) (g : Nat → Nat), (∀ j, j ≤ n → g j < n) → ∃ a b, a < b ∧ b ≤ n ∧ g a = g b
  | 0, g, h => absurd (h 0 (Nat.le_refl 0)) (by omega)
  | n + 1, g, h => by
    by_cases hx : ∃ a, a ≤ n ∧ g a = g (n + 1)
    · obtain ⟨a, ha, e⟩ := hx
      exact ⟨a, n + 1, by omega, Nat.le_refl _, e⟩
    · have hne : ∀ j, j ≤ n → g j ≠ g (n + 1) := fun j hj e => hx ⟨j, hj, e⟩
      obtain ⟨a, b, hab, hb, e⟩ := pigeon n (fun j => if g j = n then g (n + 1) else g j) (fun j hj => by
        have h1 := h j (by omega)
        have h2 := h (n + 1) (Nat.le_refl _)
        have h3 := hne j hj
        show (if g j = n then g (n + 1) else g j) < n
        split
        · omega
        · omega)
      refine ⟨a, b, hab, by omega, ?_⟩
      have ha3 := hne a (by omega)
      have hb3 := hne b hb
      replace e : (if g a = n then g (n + 1) else g a) = if g b = n then g (n + 1) else g b := e
      by_cases e1 : g a = n
      · by_cases e2 : g b = n
        · rw [e1, e2]
        · rw [if_pos e1, if_neg e2] at e
          exact absurd e.symm hb3
      · by_cases e2 : g b = n
        · rw [if_neg e1, if_pos e2] at e
          exact absurd e ha3
        · rw [if_neg e1, if_neg e2] at e
          exact e
/-- a class is met within so many steps, if at all -/
theorem chn_near {vm : Vm} {c p : ClassId} : ∀ {j : Nat}, chn vm c j = some p → ∃ i, i ≤ vm.classes.size ∧ chn vm c i = some p := by
  intro j
  induction j using Nat.strongRecOn with
  | _ j ih =>
    intro h
    by_cases hj : j ≤ vm.classes.size
    · exact ⟨j, hj, h⟩
    · have hd := chn_down h
      obtain ⟨a, b, hab, hb, e⟩ := pigeon vm.classes.size (fun i => (chn vm c i).getD 0) (fun i hi => by
        obtain ⟨q, hq, hlt⟩ := hd i (by omega)
        show (chn vm c i).getD 0 < _
        rw [hq]
        exact hlt)
      obtain ⟨qa, ha1, -⟩ := hd a (by omega)
      obtain ⟨qb, hb1, -⟩ := hd b (by omega)
      replace e : (chn vm c a).getD 0 = (chn vm c b).getD 0 := e
      rw [ha1, hb1] at e
      have e : qa = qb := e
      subst e
      refine ih (a + (j - b)) (by omega) ?_
      rw [chn_add, ha1, ← h, show j = b + (j - b) by omega, chn_add vm c b, hb1, show b + (j - b) - b = j - b by omega]
theorem own_chn {vm : Vm} {name desc : String} : ∀ (n : Nat) (c : ClassId), lookupInSuperclasses vm name desc n c = none → ∀ i q, i < n → chn vm c i = some q → ownMethod vm name desc q = none
  | 0, c, _, i, q, hi, _ => absurd hi (by omega)
  | n + 1, c, h, i, q, hi, hq => by
    unfold lookupInSuperclasses at h
    cases hk : vm.classes[c]? with
    | none =>
      cases i with
      | zero => cases hq; unfold ownMethod; rw [hk]; rfl
      | succ i => rw [chn_shift, hk] at hq; cases hq
    | some k =>
      simp only [hk, Option.bind_eq_bind, Option.bind_some] at h
      cases hf : k.findMethod name desc with
      | some j => rw [hf] at h; cases h
      | none =>
        rw [hf] at h
        cases i with
        | zero => cases hq; unfold ownMethod; rw [hk, Option.bind_some, hf]; rfl
        | succ i =>
          rw [chn_shift, hk, Option.bind_some] at hq
          cases hs : k.super with
          | none => rw [hs] at hq; cases hq
          | some c' =>
            rw [hs] at hq h
            exact own_chn n c' h i q (by omega) hq
theorem sup_chn {vm : Vm} : ∀ (n : Nat) (c p : ClassId), p ∈ vm.superclassesAux n c → ∃ j, chn vm c (j + 1) = some p
  | 0, c, p, h => by simp [Vm.superclassesAux] at h
  | n + 1, c, p, h => by
    cases hk : vm.classes[c]? with
    | none => simp [Vm.superclassesAux, hk] at h
    | some k =>
      cases hs : k.super with
      | none => simp [Vm.superclassesAux, hk, hs] at h
      | some q =>
        have e : vm.superclassesAux (n + 1) c = q :: vm.superclassesAux n q := by simp [Vm.superclassesAux, hk, hs]
        rw [e] at h
        rcases List.mem_cons.mp h with h | h
        · subst h
          exact ⟨0, by rw [chn_shift, hk, Option.bind_some, hs]; rfl⟩
        · obtain ⟨j, hj⟩ := sup_chn n q p h
          exact ⟨j + 1, by rw [chn_shift, hk, Option.bind_some, hs]; exact hj⟩
theorem sel_none {vm : Vm} {mR : MethodId} {name desc : String} : ∀ (n : Nat) (c : ClassId), lookupInSuperclasses vm name desc n c = none → selectInSuperclasses vm mR name desc n c = none
  | 0, c, _ => rfl
  | n + 1, c, h => by
    unfold lookupInSuperclasses at h
    unfold selectInSuperclasses
    cases hk : vm.classes[c]? with
    | none => rfl
    | some k =>
      simp only [hk, Option.bind_eq_bind, Option.bind_some] at h ⊢
      cases hf : k.findMethod name desc with
      | some j => rw [hf] at h; cases h
      | none =>
        rw [hf] at h
        cases hs : k.super with
        | none => rfl
        | some c' =>
          rw [hs] at h
          exact sel_none n c' h
theorem ls_default {A : Array Value} {s : State} {n : String} (hno : n ≠ "<init>") (hd : (Cond.landsInDefault RX4 ⟨RX4, n, dSM⟩ ⟨RX14, n, dSM⟩).before A s = true) (hsame : (Cond.sameMethod RX4 RX14 n dSM).before A s = true) (hinst : (Cond.instanceMethod ⟨RX14, n, dSM⟩).before A s = true) : gDl n s := by
  obtain ⟨cn, ck, r0, hcn, hck, hni, hf, hn⟩ := Cond.sameMethod_found hsame
  obtain ⟨mk, methM, hnamed, hmethM, hstM, habM⟩ := Cond.instanceMethod_spec hinst
  have hn : s.methodNamed? ⟨RX14, n, dSM⟩ = some r0 := hn
  cases hnamed.symm.trans hn
  obtain ⟨hrn, hrd⟩ := name_of_methodNamed hnamed hmethM
  have hf : s.methodFound? RX4 n dSM = some r0 := hf
  refine ⟨cn, r0, hcn, hnamed, ?_⟩
  have hpoly : ∀ y, signaturePolymorphic ck y = false := by
    intro y
    obtain ⟨z, hz, hname⟩ := Vm.findClass_spec hcn
    cases hck.symm.trans hz
    unfold signaturePolymorphic
    simp [hname, RX4]
  have hup := ((State.methodFound?_class hcn hck hni hpoly r0).mp hf).1
  by_cases hsome : (lookupInSuperclasses s.vm n dSM (s.vm.classes.size + 1) cn).isSome = true
  · exact lookupSpecial_of_lookupUp hck hni hup hsome hmethM hstM
  · have hnone : lookupInSuperclasses s.vm n dSM (s.vm.classes.size + 1) cn = none := by simpa using hsome
    have hab : superclassMethods s.vm cn n dSM = [] := by
      unfold superclassMethods
      refine List.filterMap_eq_nil_iff.mpr (fun p hp => ?_)
      obtain ⟨j, hj⟩ := sup_chn _ cn p hp
      obtain ⟨i, hi, hq⟩ := chn_near hj
      exact own_chn _ cn hnone i p (by omega) hq
    have hown : ownMethod s.vm n dSM cn = none := own_chn _ cn hnone 0 cn (by omega) rfl
    simp only [Cond.before, Cond.holds, Cond.value, hcn, hf, hnamed, hmethM, Option.map_some] at hd
    unfold selectMethod at hd
    rw [hmethM] at hd
    dsimp only at hd
    have hrn : methM.name = n := hrn
    have hrd : methM.desc = dSM := hrd
    rw [hrn, hrd, sel_none _ cn hnone] at hd
    unfold lookupSpecial
    have hown : ((s.vm.classes[cn]?.bind fun x => x.findMethod n dSM).map fun i => (⟨cn, i⟩ : MethodId)) = none := hown
    simp only [hab, hown, Option.toList_none, List.filter_nil, List.append_nil, List.find?_nil]
    split at hd
    · rename_i m' hsel
      simp only [beq_iff_eq, Option.some.injEq, Bool.and_eq_true, decide_eq_true_eq] at hd
      obtain ⟨⟨⟨⟨rfl, hif⟩, hpr⟩, -⟩, -⟩ := hd
      have hpr : methM.isPrivate = false := by simpa using hpr
      rw [hpr] at hsel
      simp only [Bool.false_eq_true, if_false] at hsel
      split at hsel
      · cases hsel
      · split at hsel
        · rename_i hz
          simp [hif] at hz
        · exact hsel
    · simp at hd

section VSD
variable {p : Program} {l : Launch} {e : Env} {R : Room} {s : State} {m : MethodId} {args : Array Value} {below : List Frame} {meth : Method} {c : Code}
theorem va_callSUD {T : State} {locs : List Loc} {cells slots : Nat} (X : Stand p l e R s m args below meth c T locs cells slots) (hexec : p.tables.exec = Jvm.exec) {own : String} {index : Nat} {n : String} {bytes : ByteArray} {maxL : Nat} {ret : Option FieldType} (hno : n ≠ "<init>")
    (hown : s.vm.findClass own = some m.cls) (hlink : (Cond.methodLink own index ⟨RX4, n, dSM⟩).before args s = true) (hsame : (Cond.sameMethod RX4 RX14 n dSM).before args s = true) (hsup : (Cond.superclass own RX4).before args s = true) (hdl : gDl n s)
    (hinst : (Cond.instanceMethod ⟨RX14, n, dSM⟩).before args s = true) (hcode : (Cond.code ⟨RX14, n, dSM⟩ bytes maxL ret).before args s = true)
    {W : Nat} {Pre : Pt → Array Value → Prop} {Post : Pt → Array Value → Option Value → Pt → Prop} (hK : Back l R p e below s args ⟨RX14, n, dSM⟩ 3 W Pre Post)
    {b : Addr} {cellB : Cell} {kB : Class} (hcell : T.heap[b]? = some cellB) (hobj : cellB.vm.isStatics = false) (hkB : s.vm.classes[cellB.cls]? = some kB)
    {g : JFrame} (hg : g.method = m) (hsize : g.locals.size = c.maxLocals) {argsL rest : List Value} (hlen : ∀ sig, parseMethodDescriptor dSM = some sig → argsL.length = sig.parameters.length)
    (hstack : g.stack = argsL.reverse ++ .ref b :: rest) (hW : 2 * g.monitorRoom + (rest.map fun v => v.category).sum ≤ W) (hdg : decode c.code g.pc = .ok (.invokespecial index, 3))
    (hpre : ∀ vm₁, s.WarmedH vm₁ → Pre ⟨T.setVm vm₁, locs, cells, slots⟩ (Value.ref b :: argsL).toArray) :
    ∃ (v : Option Value) (vm₁ : Vm) (B : Pt), s.WarmedH vm₁ ∧ Stand p l e R s m args below meth c B.U B.locs B.cells B.slots ∧ Post ⟨T.setVm vm₁, locs, cells, slots⟩ (Value.ref b :: argsL).toArray v B ∧
      ∀ target, Steps p.tables e below (B.U.setTop { g with pc := g.pc + 3, stack := v.toList ++ rest }) target → Steps p.tables e below (T.setTop g) target := by
  obtain ⟨mk, methM, hnamed, hmethM, hstM, habM⟩ := Cond.instanceMethod_spec hinst
  obtain ⟨methM', cM, hmethM', -, -, -, -, -, -, hsigM⟩ := Cond.code_spec hnamed hcode
  cases hmethM.symm.trans hmethM'
  obtain ⟨ps, dk, kp, hps, hdk, hkp, hsuper, -, -, hnid⟩ := Cond.superclass_spec hown hsup
  obtain ⟨cn, r0, g1, g2, g3⟩ := hdl
  cases g1.symm.trans hps
  cases g2.symm.trans hnamed
  have hpl : e.platform.magicAccessors = ({} : Platform).magicAccessors := by rw [X.admits.platform]
  obtain ⟨cn', ck, r1, hcn', hck, hni, hf, hn1⟩ := Cond.sameMethod_found hsame
  have hn1 : s.methodNamed? ⟨RX14, n, dSM⟩ = some r1 := hn1
  cases hnamed.symm.trans hn1
  cases hps.symm.trans hcn'
  obtain ⟨ci, hl, hright⟩ := Cond.methodLink_specUp hown hps hck hni hf hlink e.platform hpl (by rw [X.admits.platform])
  obtain ⟨kr, hkr, -⟩ := className_of_methodNamed hnamed
  obtain ⟨hrn, hrd⟩ := name_of_methodNamed hnamed hmethM
  have hrn : methM.name = n := hrn
  have hrd : methM.desc = dSM := hrd
  obtain ⟨dk₀, cfile, nt, _, _, ck₀, _, _, hd₀, hcf, hcp, -⟩ := hl.here
  cases hdk.symm.trans hd₀
  subst hg
  obtain ⟨vm', hW', st⟩ := Steps.invokeSuperColdArgs (tb := p.tables) (e := e) (s₀ := s) (U := T) (f := g) (args := argsL) (rest := rest) (a := b) (cell := cellB) (m := mk) X.here hexec hdg X.warmed hl hright hdk hcf hcp hmethM hck
    (by rw [hrn]; simp [hno]) hstM (by rw [hrn, hrd, hsuper]; simpa using g3) hnid hkr habM (hlen _ hsigM) hstack hcell (fun z h => by rw [h] at hobj; cases hobj) hkB
  have X₁ := X.noted hW'
  obtain ⟨v, B, X', hpost, hsteps⟩ := hK _ meth c ⟨T.setVm vm', locs, cells, slots⟩ { g with stack := rest } (.invokespecial index) mk (Value.ref b :: argsL).toArray X₁ rfl hsize hdg hW (X₁.named hnamed) (hpre vm' X₁.warmed)
  exact ⟨v, vm', B, X₁.warmed, X', hpost, fun target h => st _ (hsteps.trans h)⟩
end VSD
theorem dSM_len : ∀ sig, parseMethodDescriptor dSM = some sig → 2 = sig.parameters.length := by
  intro sig h
  have e : (parseMethodDescriptor dSM).map (fun d => d.parameters.length) = some 2 := by decide +kernel
  rw [h] at e
  exact (Option.some.inj e).symm

section RZ
variable {p : Program} {l : Launch} {e : Env} {Rm : Room} {s : State} {m : MethodId} {args : Array Value} {below : List Frame} {meth : Method} {c : Code} {H : Heap} {locs : List Loc} {cells slots : Nat} {Q : State → Prop}
variable {cc : ByteArray} {nl pc : Nat} {ls : Array Slot} {rest : List Value} {own : String} {D : va_G} {dA : Nat → ClassId} {A : Nat → Prop} {H0 : Heap} {N : Nat} {ad : Nat → Nat} {K : gK} {I : mG} {R : gR}
theorem M_run5 {rm : Room} {st0 : List Value} {a : Array Value} {post : Option Value → gS → Prop} (hr : va_Run5 p l e Rm s m args below meth c H locs cells slots rm.cells rm.slots (F0 m pc ls st0) rest (gQ D dA N ad K H.size post a) (nA (List.range N) ad H.size)) (hw : gw D dA A H0 (List.range N) ad K I R H locs)
    (kk : ∀ (v : Option Value) (N' : Nat) (ad' : Nat → Nat) (K' : gK) (I' : mG) (R' : gR) (H' : Heap) (locs' : List Loc), post v (N', ad', K', I', R') → gGo N ad K (N', ad', K', I', R') → gw D dA A H0 (List.range N') ad' K' I' R' H' locs' → W p l e Rm s m args below meth c H' locs' (cells + rm.cells) (slots + rm.slots) Q (F0 m (pc + 5) ls (v.toList ++ rest))) : W p l e Rm s m args below meth c H locs cells slots Q (F0 m pc ls st0) := by
  intro T hT X
  obtain ⟨v, st₀, t, T', L, h0, X', hL, e1, e2, ⟨⟨v', S, hv, hp, hb, hg⟩, hz, hk⟩, st⟩ := hr T hT X
  cases hv
  rw [h0] at hz hk
  have hS := hw.1.2.2.1
  have hA : ∀ q, nA (List.range N) ad H.size q → A q := fun q h => hw.1.free q h
  obtain ⟨t2, a1, b1⟩ := kk v S.1 S.2.1 S.2.2.1 S.2.2.2.1 S.2.2.2.2 T'.heap (locs ++ L) hp hg ⟨⟨by rw [e1]; exact hb.1, hb.2.1.weaken (fun _ _ _ h => hA _ h),
    ⟨Nat.le_trans hS.1 (by rw [e1]; exact hz), fun q h1 h2 => by rw [e1, hk q (Nat.lt_of_lt_of_le h1 hS.1) (fun z => h2 (hA q z))]; exact hS.2.1 q h1 h2, fun q hq => by
      rcases List.mem_append.mp hq with h | h
      · exact hS.2.2 q h
      · exact hA _ (hL q h)⟩, hw.1.2.2.2⟩, hb.2.2⟩ T' rfl X'
  exact ⟨t2, st t2 a1, b1⟩
/-- an interface's method, found in the object's class -/
theorem F_M (hC : CallFix p m c cc nl s args lw_all own) (hl : ls.size = nl) (hK : va_K D cCl (cTy dA) s) (hX : gX s) (hw : gw D dA A H0 (List.range N) ad K I R H locs) {C : String} {T : u_T} {n0 ci : Nat} (hn0 : n0 < N) (hk0 : (K n0).1 = ci) (hc20 : ci < 20) (hc : cCl[ci]? = some (C, T, gN ci)) {x y : MethodName} {bytes : ByteArray} {maxL index count n : Nat} {ret : Option FieldType} {rm : Room} {as : List Value} {post : Option Value → gS → Prop} (hM : gM l y (ws_ y bytes maxL ret) rm (.ref (ad n0) :: as) N ad K I R post)
    (hT : GoodIn lw_all (va_wsF own index C x y (ws_ y bytes maxL ret))) (hF : va_Fw C x y s) (hd : x.cls ≠ "java/lang/invoke/MethodHandle" ∧ x.cls ≠ "java/lang/invoke/VarHandle" ∧ (parseMethodDescriptor x.desc).map (fun d => d.parameters.length) = some n) (hR : rm.frames + 1 ≤ Rm.frames ∧ 8 + (maxL + 11) + rm.locals ≤ Rm.locals)
    (hn : as.length = n) {st0 : List Value} (hst0 : st0 = as.reverse ++ .ref (ad n0) :: rest) (hW : (rest.map fun v => v.category).sum ≤ 8) (hdg : decode cc pc = .ok (.invokeinterface index count, 5)) (hf : cells + rm.cells ≤ Rm.cells ∧ slots + rm.slots ≤ Rm.slots)
    (kk : ∀ (v : Option Value) (N' : Nat) (ad' : Nat → Nat) (K' : gK) (I' : mG) (R' : gR) (H' : Heap) (locs' : List Loc), post v (N', ad', K', I', R') → gGo N ad K (N', ad', K', I', R') → gw D dA A H0 (List.range N') ad' K' I' R' H' locs' → W p l e Rm s m args below meth c H' locs' (cells + rm.cells) (slots + rm.slots) Q (F0 m (pc + 5) ls (v.toList ++ rest))) : W p l e Rm s m args below meth c H locs cells slots Q (F0 m pc ls st0) :=
  M_run5 (va_runF (As := as) (rest := rest) (hK.1 ci _ hc).2 hC (hM D dA H.size) (va_cwF n hC.2.2.2.2 hT rfl rfl rfl hF hd hR) ⟨fun a U g mk q => ⟨q.1, q.2.moved (V := U.calling g mk a) rfl rfl⟩, g_recv hK hw (List.mem_range.mpr hn0) hk0 hc20 hc, fun U hU hWm => ⟨rfl, by rw [hU], hK.moved hWm.alike, hX.warm hWm, by rw [hU]; exact hw.1.1, hw.1.2.1.weaken (fun _ _ _ _ => trivial), hw.2⟩⟩ rfl hn hl hst0 (lv_room hW) hdg hf) hw kk
/-- a virtual call, the method linked in a class above -/
theorem Z_U (hC : CallFix p m c cc nl s args lw_all own) (hl : ls.size = nl) (hK : va_K D cCl (cTy dA) s) (hX : gX s) (hZ : gZ s) (hst : ∀ (q : Nat) (cell : Cell), s.heap[q]? = some cell → cell.vm.isStatics = true → ¬ A q) (hw : gw D dA A s.heap (List.range N) ad K I R H locs) {C : String} {T : u_T} {n0 ci : Nat} (hn0 : n0 < N) (hk0 : (K n0).1 = ci) (hc20 : ci < 20) (hc : cCl[ci]? = some (C, T, gN ci)) {owner : String} {x y : MethodName} {bytes : ByteArray} {maxL index n : Nat} {ret : Option FieldType} {rm : Room} {as : List Value} {post : Option Value → gS → Prop} (hM : gMZ l y (ws_ y bytes maxL ret) rm (.ref (ad n0) :: as) N ad K I R post) (cw : va_CU Rm s args own C owner index x y bytes maxL ret (ws_ y bytes maxL ret) rm rm.cells rm.slots n)
    (hn : as.length = n) {st0 : List Value} (hst0 : st0 = as.reverse ++ .ref (ad n0) :: rest) (hW : (rest.map fun v => v.category).sum ≤ 8) (hdg : decode cc pc = .ok (.invokevirtual index, 3)) (hf : cells + rm.cells ≤ Rm.cells ∧ slots + rm.slots ≤ Rm.slots)
    (kk : ∀ (v : Option Value) (N' : Nat) (ad' : Nat → Nat) (K' : gK) (I' : mG) (R' : gR) (H' : Heap) (locs' : List Loc), post v (N', ad', K', I', R') → gGo N ad K (N', ad', K', I', R') → gw D dA A s.heap (List.range N') ad' K' I' R' H' locs' → W p l e Rm s m args below meth c H' locs' (cells + rm.cells) (slots + rm.slots) Q (F0 m (pc + 3) ls (v.toList ++ rest))) : W p l e Rm s m args below meth c H locs cells slots Q (F0 m pc ls st0) :=
  M_run (va_runU (As := as) (rest := rest) hC (hM D dA H.size) cw ⟨fun a U g mk q => ⟨q.1, q.2.moved (V := U.calling g mk a) rfl rfl⟩, g_recv hK hw (List.mem_range.mpr hn0) hk0 hc20 hc, fun U hU hWm => ⟨rfl, ⟨by rw [hU], hK.moved hWm.alike, hX.warm hWm, by rw [hU]; exact hw.1.1, hw.1.2.1.weaken (fun _ _ _ _ => trivial), hw.2⟩, hZ.keep hWm (fun q cell hq hs => by rw [hU, hw.1.2.2.1.2.1 q (Array.getElem?_eq_some_iff.mp hq).1 (hst q cell hq hs)]; exact hq)⟩⟩ rfl hn hl hst0 (lv_room hW) hdg hf) hw kk
theorem Z_SU (hC : CallFix p m c cc nl s args lw_all own) (hl : ls.size = nl) (hK : va_K D cCl (cTy dA) s) (hX : gX s) (hZ : gZ s) (hst : ∀ (q : Nat) (cell : Cell), s.heap[q]? = some cell → cell.vm.isStatics = true → ¬ A q) (hw : gw D dA A s.heap (List.range N) ad K I R H locs) {C : String} {T : u_T} {n0 ci : Nat} (hn0 : n0 < N) (hk0 : (K n0).1 = ci) (hc20 : ci < 20) (hc : cCl[ci]? = some (C, T, gN ci)) {y : MethodName} {bytes : ByteArray} {maxL index n : Nat} {ret : Option FieldType} {rm : Room} {as : List Value} {post : Option Value → gS → Prop} (hM : gMZ l y (ws_ y bytes maxL ret) rm (.ref (ad n0) :: as) N ad K I R post) (hT : GoodIn lw_all (va_wsSU own index y (ws_ y bytes maxL ret))) (hd : y.name ≠ "<init>" ∧ (parseMethodDescriptor y.desc).map (fun d => d.parameters.length) = some n) (hR : rm.frames + 1 ≤ Rm.frames ∧ 8 + (maxL + 11) + rm.locals ≤ Rm.locals)
    (hn : as.length = n) {st0 : List Value} (hst0 : st0 = as.reverse ++ .ref (ad n0) :: rest) (hW : (rest.map fun v => v.category).sum ≤ 8) (hdg : decode cc pc = .ok (.invokespecial index, 3)) (hf : cells + rm.cells ≤ Rm.cells ∧ slots + rm.slots ≤ Rm.slots)
    (kk : ∀ (v : Option Value) (N' : Nat) (ad' : Nat → Nat) (K' : gK) (I' : mG) (R' : gR) (H' : Heap) (locs' : List Loc), post v (N', ad', K', I', R') → gGo N ad K (N', ad', K', I', R') → gw D dA A s.heap (List.range N') ad' K' I' R' H' locs' → W p l e Rm s m args below meth c H' locs' (cells + rm.cells) (slots + rm.slots) Q (F0 m (pc + 3) ls (v.toList ++ rest))) : W p l e Rm s m args below meth c H locs cells slots Q (F0 m pc ls st0) :=
  M_run (va_runSU (As := as) (rest := rest) (hK.1 ci _ hc).2 hC (hM D dA H.size) (va_cwSU n hC.2.2.2.2 hT rfl rfl rfl hd hR) ⟨fun a U g mk q => ⟨q.1, q.2.moved (V := U.calling g mk a) rfl rfl⟩, g_recv hK hw (List.mem_range.mpr hn0) hk0 hc20 hc, fun U hU hWm => ⟨rfl, ⟨by rw [hU], hK.moved hWm.alike, hX.warm hWm, by rw [hU]; exact hw.1.1, hw.1.2.1.weaken (fun _ _ _ _ => trivial), hw.2⟩, hZ.keep hWm (fun q cell hq hs => by rw [hU, hw.1.2.2.1.2.1 q (Array.getElem?_eq_some_iff.mp hq).1 (hst q cell hq hs)]; exact hq)⟩⟩ rfl hn hl hst0 (lv_room hW) hdg hf) hw kk
theorem cu_D {C nm : String} {y : MethodName} {bytes : ByteArray} {maxL index : Nat} {rm : Room} (ht : ∀ w ∈ lw_all, w.before args s = true) (hZ : gZ s) (h1 : Cond.methodLink own index ⟨RX4, nm, dSM⟩ ∈ defaultWords_1) (h2 : Cond.sameMethod RX4 RX14 nm dSM ∈ defaultWords_1) {b0 : ByteArray} {m0 : Nat} {r0 : Option FieldType} (h3 : Cond.instanceMethod ⟨RX14, nm, dSM⟩ ∈ lw_all) (h4 : Cond.code ⟨RX14, nm, dSM⟩ b0 m0 r0 ∈ lw_all) (h5 : Cond.selects C ⟨RX14, nm, dSM⟩ y ∈ lw_all) (h6 : Cond.instanceMethod y ∈ lw_all) (h7 : Cond.initialized y.cls ∈ lw_all) (h8 : Cond.code y bytes maxL (some .int) ∈ lw_all) (hR : rm.frames + 1 ≤ Rm.frames ∧ 8 + (maxL + 11) + rm.locals ≤ Rm.locals) :
    va_CU Rm s args own C RX14 index ⟨RX4, nm, dSM⟩ y bytes maxL (some .int) (ws_ y bytes maxL (some .int)) rm rm.cells rm.slots 2 := by
  have hs : (Cond.sameMethod RX4 RX14 nm dSM).before args s = true := va_Nw.use rfl (hZ.2.2.2.2.2.1 _ h2)
  refine ⟨⟨rfl, rfl, hR.1, hR.2, pay_in ht (lw_meth h8), List.mem_cons_self⟩, ht _ h8, ht _ h7, by decide, dSM_len, va_Nw.use rfl (hZ.2.2.2.2.2.1 _ h1), hs, va_Decl.of (ht _ h3) (ht _ h4), ?_, ht _ h6⟩
  obtain ⟨cn, ck, r1, hcn, hck, hni, hf, hn⟩ := Cond.sameMethod_found hs
  have hn : s.methodNamed? ⟨RX14, nm, dSM⟩ = some r1 := hn
  have hf2 : s.methodFound? RX14 nm dSM = some r1 := State.methodFound?_of_named hn (show RX14 ≠ _ ∧ RX14 ≠ _ from by decide)
  have hf : s.methodFound? RX4 nm dSM = some r1 := hf
  have h := ht _ h5
  simp only [Cond.before, Cond.holds, Cond.value] at h ⊢
  rw [hf2] at h
  rw [hf]
  exact h
end RZ

/-! what asking leaves: of numbers only those of trails and rows of ints change -/
def kW (K : gK) (I I' : mG) (R R' : gR) : Prop := ∀ n, n < 17 ∨ 23 ≤ n → R' n = R n ∧ ((K n).1 ≠ 3 → (K n).1 ≠ 20 → I' n = I n)
theorem kW.rf {K : gK} {I : mG} {R : gR} : kW K I I R R := fun _ _ => ⟨rfl, fun _ _ => rfl⟩
theorem kW.tr {K : gK} {I I1 I2 : mG} {R R1 R2 : gR} (h1 : kW K I I1 R R1) (h2 : kW K I1 I2 R1 R2) : kW K I I2 R R2 := fun n hn => ⟨((h2 n hn).1).trans (h1 n hn).1, fun a b => ((h2 n hn).2 a b).trans ((h1 n hn).2 a b)⟩
theorem kW.off {K : gK} {I I1 : mG} {R R1 : gR} (h : pOff 17 I I1 R R1) : kW K I I1 R R1 := fun n hn => ⟨(h.1 n (by omega)).2, fun _ _ => (h.1 n (by omega)).1⟩
def askR (N : Nat) (K : gK) (I : mG) (R : gR) (w h q t : Nat) : Prop := R 14 q = some w ∧ R 0 9 = some t ∧ 44 ≤ h ∧ h < N ∧ (K h).1 = 9 ∧ I h 0 = nI q ∧ R h 1 = some 0
theorem askR.keep {N : Nat} {K : gK} {I I' : mG} {R R' : gR} {w h q t : Nat} (a : askR N K I R w h q t) (k : kW K I I' R R') : askR N K I' R' w h q t := by
  obtain ⟨a1, a2, a3, a4, a5, a6, a7⟩ := a
  have eh := k h (Or.inr (by omega))
  exact ⟨by rw [(k 14 (by omega)).1]; exact a1, by rw [(k 0 (by omega)).1]; exact a2, a3, a4, a5, by rw [eh.2 (by omega) (by omega)]; exact a6, by rw [eh.1]; exact a7⟩
/-- the work that is asked -/
theorem askR.wk {N : Nat} {K : gK} {I : mG} {R : gR} {G : mG} {b : Bool} {w h q t : Nat} (a : askR N K I R w h q t) (hw : wcR N K I R G b) (hq : q < 16) : ∃ k, w < N ∧ 1 ≤ k ∧ k ≤ 5 ∧ (K w).1 = 3 + k ∧ G 6 (9 + q) = nI k ∧ I w 0 = nI q ∧ I w 1 = G 6 (25 + q) := by
  rcases (hw.ps.2.2.2 q hq).2.2.2 with ⟨z1, -⟩ | ⟨w', k, z1, z2, z3, z4, z5, z6, z7, z8⟩
  · have := a.1; rw [show (14 : Nat) = 11 + 3 from rfl, z1] at this; cases this
  · have e := a.1
    rw [show (14 : Nat) = 11 + 3 from rfl, z1] at e
    cases e
    exact ⟨k, List.mem_range.mp z2, z3, z4, z5, z6, z7, z8⟩
theorem pass_k {N : Nat} {K : gK} {R : gR} {p : Nat} (h : isPass (List.range N) K R p) : ∀ j, j < 6 → (K (p + j)).1 = 2 ∨ (K (p + j)).1 = 20 ∨ (K (p + j)).1 = 32 := by
  obtain ⟨-, ⟨k0, k1, k2, k3, k4, k5⟩, -⟩ := h
  intro j hj
  match j, hj with
  | 0, _ => exact Or.inl k0
  | 1, _ => exact Or.inr (Or.inl (by rw [k1]))
  | 2, _ => exact Or.inr (Or.inl (by rw [k2]))
  | 3, _ => exact Or.inr (Or.inr (by rw [k3]))
  | 4, _ => exact Or.inr (Or.inl (by rw [k4]))
  | 5, _ => exact Or.inr (Or.inl (by rw [k5]))
/-- the trail changes -/
theorem wcR.trl {N : Nat} {K : gK} {I I' : mG} {R : gR} {G G' : mG} {b : Bool} {t bb : Nat} (h : wcR N K I R G b) (ht : R 0 9 = some t) (hb : R t 0 = some bb) (ho : ∀ n, n < N → n ≠ t → n ≠ bb → I' n = I n) (hT : wTra N K I' R G') (hG : ∀ n, n ≠ 27 → n ≠ 0 → G' n = G n) (hG0 : ∀ k, k ≠ 27 → G' 0 k = G 0 k) : wcR N K I' R G' b := by
  obtain ⟨f, hp, ⟨p1, p2, p3, p4⟩, ac, im, sh, tr, ta⟩ := h
  have h44 : 44 ≤ N := f.1
  obtain ⟨t', bb', m, a1, a2, a3, a4, a5, a6, a7, a8, a9, a10, a11, a12, a13, a14⟩ := tr
  have e1 : t' = t := Option.some.inj (a1.symm.trans ht)
  subst e1
  have e2 : bb' = bb := Option.some.inj (a5.symm.trans hb)
  subst e2
  have a8' : (K bb').1 = 20 := by rw [a8]
  have ha : agr (fun n => n = t' ∨ n = bb') N K I R K I' R := fun n hn => ⟨rfl, fun hx => ⟨ho n hn (fun z => hx (Or.inl z)) (fun z => hx (Or.inr z)), rfl⟩⟩
  have e0 : I' 0 = I 0 := ho 0 (by omega) (by omega) (by omega)
  have hw : wkS N K I I' := fun w k hw hk k1 k5 => ho w hw (fun z => by rw [z] at hk; omega) (fun z => by rw [z] at hk; omega)
  have hpx : ∀ i p j, i < 28 → plc R i = some p → j < 6 → ¬ (p + j = t' ∨ p + j = bb') := fun i p j hi hpp hj z => by
    rcases z with z | z
    · rcases pass_k (hp.at hi hpp) j hj with q | q | q <;> (rw [z] at q; omega)
    · have := a13 i p hi hpp; omega
  have h27 : ∀ n, 27 ≤ n → n < 44 → ¬ (n = t' ∨ n = bb') := fun n h1 h2 z => by
    have hk : (K n).1 = 32 ∨ (K n).1 = 4 := by
      by_cases e : n = 27
      · rw [e, f.2.2.2.1.1]; exact Or.inl rfl
      · have := (f.2.2.2.1.2 (n - 28) (by omega)).2.1
        rw [show 28 + (n - 28) = n by omega] at this
        exact Or.inr this
    rcases z with z | z <;> (rw [z] at hk; omega)
  have hg : ∀ n, n ≠ 27 → n ≠ 0 → G' n = G n := hG
  refine ⟨f.ag (Nat.le_refl _) ha (fun _ _ => rfl) (by omega) h27, hp, ⟨?_, ?_, ?_, ?_⟩, ?_, ?_, ?_, hT, ?_⟩
  · rw [hg 6 (by decide) (by decide)]
    exact p1.ag (Nat.le_refl _) (fun _ _ => rfl) (fun j hj => ⟨ho _ (by omega) (by omega) (by omega), rfl⟩) hw
  · rw [ho 11 (by omega) (by omega) (by omega)]; exact p2
  · rw [hG0 4 (by decide)]; exact p3
  · rw [hg 6 (by decide) (by decide)]; exact p4
  · have := ac.ag hp (Nat.le_refl _) ha (by rw [e0]) (fun k p z => z) hw (fun k p j hk hpp hj => hpx (2 + k) p j (by omega) (by rw [plc_p hk]; exact hpp) hj)
    unfold wAct actV at this ⊢
    rw [hG0 22 (by decide), hg 22 (by decide) (by decide)]
    exact this
  · have := im.ag hp (Nat.le_refl _) ha rfl hw (fun k p j hk hpp hj => hpx (26 + k) p j (by omega) (by rw [plc_i]; exact hpp) hj)
    unfold wImg imgV at this ⊢
    rw [hg 25 (by decide) (by decide), hg 26 (by decide) (by decide)]
    exact this
  · have := sh.ag (Nat.le_refl _) h44 ha (fun a _ q => q) (fun k hk z => by omega) (fun k a hk hpp z => by
      rcases z with z | z
      · have := sh.lane hk hpp; rw [z] at this; omega
      · rw [z] at hpp; exact a14 k hk hpp)
    unfold wShe shR at this ⊢
    rw [hg 1 (by decide) (by decide), hg 2 (by decide) (by decide), hg 3 (by decide) (by decide)]
    exact this
  · unfold wTap at ta ⊢
    rw [e0, ho 10 (by omega) (by omega) (by omega), hG0 8 (by decide), hG0 9 (by decide), hG0 3 (by decide), hg 8 (by decide) (by decide)]
    exact ta
/-- a trail is begun -/
theorem wcR.newT {N : Nat} {K : gK} {I : mG} {R : gR} {G : mG} {b : Bool} {I0 I1 : Nat → Int32} (h : wcR N K I R G b) (h0 : I0 1 = nI 0) {R0 : Nat → Option Nat} (hR0 : R0 0 = some (N + 1)) : wcR (N + 2) (va_up (va_up K N (3, 0)) (N + 1) (20, 16)) (va_up (va_up I N I0) (N + 1) I1) (r2 (va_up (va_up R N R0) (N + 1) (fun _ => none)) 0 9 (some N)) (g2 G 0 27 (nI 0)) b := by
  have h44 := h.ge
  obtain ⟨f, hp, ⟨p1, p2, p3, p4⟩, ac, im, sh, tr, ta⟩ := h
  have oK : ∀ n, n < N → va_up (va_up K N (3, 0)) (N + 1) (20, 16) n = K n := fun n hn => by rw [va_up_ne _ _ (by omega), va_up_ne _ _ (by omega)]
  have oI : ∀ n, n < N → va_up (va_up I N I0) (N + 1) I1 n = I n := fun n hn => by rw [va_up_ne _ _ (by omega), va_up_ne _ _ (by omega)]
  have oR : ∀ n, n < N → n ≠ 0 → r2 (va_up (va_up R N R0) (N + 1) (fun _ => none)) 0 9 (some N) n = R n := fun n hn h0 => by rw [r2_ne _ _ _ _ h0, va_up_ne _ _ (by omega), va_up_ne _ _ (by omega)]
  have oR0 : ∀ k, k ≠ 9 → r2 (va_up (va_up R N R0) (N + 1) (fun _ => none)) 0 9 (some N) 0 k = R 0 k := fun k hk => by rw [r2_ap, if_neg (fun z => hk z.2), va_up_ne _ _ (by omega), va_up_ne _ _ (by omega)]
  have ha : agr (fun n => n = 0) N K I R _ _ _ := fun n hn => ⟨oK n hn, fun hx => ⟨oI n hn, oR n hn hx⟩⟩
  have e23 := oR 23 (by omega) (by omega)
  have e24 := oR 24 (by omega) (by omega)
  have hw : wkS N K I _ := fun w k hw hk k1 k5 => oI w hw
  have hp11 : ∀ i p j, i < 28 → plc R i = some p → j < 6 → p + j ≠ 0 := fun i p j hi hpp hj z => by
    have hk := pass_k (hp.at hi hpp) j hj
    have := f.2.1
    rw [z] at hk
    omega
  have hG : ∀ n, n ≠ 0 → g2 G 0 27 (nI 0) n = G n := fun n hn => g2_ne _ _ _ hn
  have hG0 : ∀ k, k ≠ 27 → g2 G 0 27 (nI 0) 0 k = G 0 k := fun k hk => by rw [g2_ap, if_neg (fun z => hk z.2)]
  have hsp : ∀ a, sep R a → sep (r2 (va_up (va_up R N R0) (N + 1) (fun _ => none)) 0 9 (some N)) a := fun a q => q.ag e23 e24
  refine ⟨f.ag (by omega) ha (fun k hk => oR0 k (by omega)) (by omega) (fun n h1 h2 => by omega), hp.ag (by omega) ha e23 e24 (fun i p hi hpp => oR p (by have := (hp.at hi hpp).lt; omega) (hp11 i p 0 hi hpp (by decide))), ⟨?_, ?_, ?_, ?_⟩, ?_, ?_, ?_, ?_, ?_⟩
  · rw [hG 6 (by decide)]
    exact p1.ag (by omega) oK (fun j hj => ⟨oI _ (by omega), oR _ (by omega) (by omega)⟩) hw
  · rw [oI 11 (by omega)]; exact p2
  · rw [hG0 4 (by decide)]; exact p3
  · rw [hG 6 (by decide)]; exact p4
  · have := ac.ag (N' := N + 2) hp (by omega) ha (by rw [oI 0 (by omega)]) (fun k p z => by rw [e23]; exact z) hw (fun k p j hk hpp hj => hp11 (2 + k) p j (by omega) (by rw [plc_p hk]; exact hpp) hj)
    unfold wAct actV at this ⊢
    rw [hG0 22 (by decide), hG 22 (by decide)]
    exact this
  · have := im.ag (N' := N + 2) hp (by omega) ha e24 hw (fun k p j hk hpp hj => hp11 (26 + k) p j (by omega) (by rw [plc_i]; exact hpp) hj)
    unfold wImg imgV at this ⊢
    rw [hG 25 (by decide), hG 26 (by decide)]
    exact this
  · have := sh.ag (N' := N + 2) (by omega) h44 ha (fun a _ q => hsp a q) (fun k hk z => by omega) (fun k a hk hpp z => by have := sh.lane hk hpp; omega)
    unfold wShe shR at this ⊢
    rw [hG 1 (by decide), hG 2 (by decide), hG 3 (by decide)]
    exact this
  · refine ⟨N, N + 1, 0, by rw [r2_ap, if_pos ⟨rfl, rfl⟩], by omega, by omega, ?_, ?_, by omega, by omega, va_up_self _ _ _, by omega, ?_, ?_, fun i hi => absurd hi (by omega), ?_, fun k hk z => ?_⟩
    · rw [va_up_ne _ _ (by omega), va_up_self]
    · rw [r2_ne _ _ _ _ (by omega), va_up_ne _ _ (by omega), va_up_self]; exact hR0
    · rw [va_up_ne _ _ (by omega), va_up_self]; exact h0
    · rw [g2_ap, if_pos ⟨rfl, rfl⟩]
    · refine hsp _ (fun i p hi hpp => ?_)
      have := (hp.at hi hpp).lt
      omega
    · rw [oR _ (by omega) (by omega)] at z
      have := sh.lane hk z
      omega
  · unfold wTap at ta ⊢
    rw [oI 0 (by omega), oI 10 (by omega), hG0 8 (by decide), hG0 9 (by decide), hG0 3 (by decide), hG 8 (by decide)]
    exact ta
theorem beg_s {G : mG} {m : Nat} {x : Int32} (e : G 0 27 = nI m) (h : m < 16) : beginG G x = g2 (g2 G 27 m x) 0 27 (nI (m + 1)) := by
  unfold beginG
  rw [e, ix_nI (by omega), if_pos h]
theorem beg_e {G : mG} {m : Nat} {x : Int32} (e : G 0 27 = nI m) (h1 : m ≤ 16) (h : ¬ m < 16) : beginG G x = G := by
  unfold beginG
  rw [e, ix_nI (by omega), if_neg h]
theorem wcR.beg {N : Nat} {K : gK} {I : mG} {R : gR} {G : mG} {b : Bool} {t bb m : Nat} {x : Int32} (h : wcR N K I R G b) (ht : R 0 9 = some t) (hb : R t 0 = some bb) (hm : G 0 27 = nI m) (h16 : m < 16) : wcR N K (g2 (g2 I t 1 (nI (m + 1))) bb m x) R (beginG G x) b := by
  rw [beg_s hm h16]
  obtain ⟨t', bb', m', a1, a2, a3, a4, a5, a6, a7, a8, a9, a10, a11, a12, a13, a14⟩ := h.2.2.2.2.2.2.1
  have e1 : t' = t := Option.some.inj (a1.symm.trans ht)
  subst e1
  have e2 : bb' = bb := Option.some.inj (a5.symm.trans hb)
  subst e2
  have e3 : m' = m := nI_inj (a11.symm.trans hm) (by omega) (by omega)
  subst e3
  have hne : t' ≠ bb' := fun e => by rw [e, a8] at a4; cases a4
  refine h.trl ht hb (fun n hn h1 h2 => by rw [g2_ne _ _ _ h2, g2_ne _ _ _ h1]) ⟨t', bb', m' + 1, a1, a2, a3, a4, a5, a6, a7, a8, by omega, ?_, ?_, fun i hi => ?_, a13, a14⟩ (fun n h1 h2 => by rw [g2_ne _ _ _ h2, g2_ne _ _ _ h1]) (fun k hk => by rw [g2_ap, if_neg (fun z => hk z.2), g2_ne _ _ _ (by decide)])
  · rw [g2_ne _ _ _ hne, g2_ap, if_pos ⟨rfl, rfl⟩]
  · rw [g2_ap, if_pos ⟨rfl, rfl⟩]
  · rw [g2_ne _ _ _ (show (27 : Nat) ≠ 0 by decide)]
    by_cases e : i = m'
    · rw [e, g2_at, g2_at]
    · rw [g2_ap, if_neg (fun z => e z.2), g2_ne _ _ _ (Ne.symm hne), g2_ap, if_neg (fun z => e z.2)]
      exact a12 i (by omega)
