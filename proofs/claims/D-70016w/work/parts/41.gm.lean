/-! ===== contracts that may make cells: the names are 0 .. N - 1, a new cell takes the next (by gen/w41.py) ===== -/
abbrev gS : Type := Nat × (Nat → Nat) × gK × mG × gR
/-- what was there is where it was, of its kind -/
def gGo (N : Nat) (ad : Nat → Nat) (K : gK) (S : gS) : Prop := N ≤ S.1 ∧ ∀ n, n < N → S.2.1 n = ad n ∧ S.2.2.1 n = K n
theorem gGo.rf {N : Nat} {ad : Nat → Nat} {K : gK} {I : mG} {R : gR} : gGo N ad K (N, ad, K, I, R) := ⟨Nat.le_refl _, fun _ _ => ⟨rfl, rfl⟩⟩
theorem gGo.tr {N N1 : Nat} {ad ad1 : Nat → Nat} {K K1 : gK} {I1 : mG} {R1 : gR} {S : gS} (h : gGo N ad K (N1, ad1, K1, I1, R1)) (h2 : gGo N1 ad1 K1 S) : gGo N ad K S :=
  ⟨Nat.le_trans h.1 h2.1, fun n hn => ⟨((h2.2 n (Nat.lt_of_lt_of_le hn h.1)).1).trans (h.2 n hn).1, ((h2.2 n (Nat.lt_of_lt_of_le hn h.1)).2).trans (h.2 n hn).2⟩⟩
theorem gGo.to {N : Nat} {ad : Nat → Nat} {K : gK} {N1 : Nat} {ad1 : Nat → Nat} {K1 : gK} {I1 I2 : mG} {R1 R2 : gR} (h : gGo N ad K (N1, ad1, K1, I1, R1)) : gGo N ad K (N1, ad1, K1, I2, R2) := h
abbrev gW (D : va_G) (dA : Nat → ClassId) (A : Nat → Prop) (H0 : Heap) (N : Nat) (ad : Nat → Nat) (K : gK) (I : mG) (R : gR) (H : Heap) (locs : List Loc) : Prop := gw D dA A H0 (List.range N) ad K I R H locs
def gQ (D : va_G) (dA : Nat → ClassId) (N : Nat) (ad : Nat → Nat) (K : gK) (sz : Nat) (post : Option Value → gS → Prop) : Array Value → State → Outcome → State → Prop := fun _ st oc t =>
  (∃ (v : Option Value) (S : gS), oc = .returned v ∧ post v S ∧ gEnd D dA (nA (List.range N) ad sz) (List.range S.1) S.2.1 S.2.2.1 S.2.2.2.1 S.2.2.2.2 t ∧ gGo N ad K S) ∧ va_F (nA (List.range N) ad sz) st t
def gM (l : Launch) (y : MethodName) (ws : List Cond) (rm : Room) (as : List Value) (N : Nat) (ad : Nat → Nat) (K : gK) (I : mG) (R : gR) (post : Option Value → gS → Prop) : Prop :=
  ∀ (D : va_G) (dA : Nat → ClassId) (sz : Nat), Met l y ws rm (va_Pc as (gPre D dA (List.range N) ad K I R sz)) (gQ D dA N ad K sz post) rm.cells rm.slots (nA (List.range N) ad sz)
theorem gM.of {l : Launch} {y : MethodName} {cc : ByteArray} {nl : Nat} {ret : Option FieldType} {rm : Room} {as : List Value} {N : Nat} {ad : Nat → Nat} {K : gK} {I : mG} {R : gR} {post : Option Value → gS → Prop} (hy : plainName y.cls = true) (hn : (lg_sl as).length ≤ nl)
    (body : ∀ (D : va_G) (dA : Nat → ClassId) (p : Program) (e : Env) (s : State) (m : MethodId) (args : Array Value) (below : List Frame) (meth : Method) (c : Code) (ls : Array Slot), CallFix p m c cc nl s args lw_all y.cls → meth.locks = false → meth.sig.returnType = ret → meth.name = y.name → va_K D cCl (cTy dA) s → gX s → lv_has ls nl (lv_args 0 as) → gw D dA (nA (List.range N) ad s.heap.size) s.heap (List.range N) ad K I R s.heap [] →
      W p l e rm s m args below meth c s.heap [] 0 0 (MQ below (gQ D dA N ad K s.heap.size post) args s rm.cells rm.slots (nA (List.range N) ad s.heap.size)) (F0 m 0 ls [])) : gM l y (ws_ y cc nl ret) rm as N ad K I R post := by
  intro D dA sz
  refine Met.ofW (cc := cc) (maxL := nl) (ret := ret) hy rfl ?_
  intro p e s m args below meth c s₁ B hml hv
  obtain ⟨rfl, hsz, hK, hX, hP, hD, hc⟩ := hv
  subst hsz
  have hts := atoms_spec (ws := ws_ y cc nl ret) B.pre
  have hts : ∀ w ∈ lw_all, w.before as.toArray s = true := fun w h => hts w (List.mem_cons_of_mem _ h)
  have hown : s.vm.findClass y.cls = some m.cls := findClass_of_methodNamed B.named
  have hl := lv_entry as (n := nl) hn
  rw [lg_entry_eq]
  exact body D dA p e s m _ below meth c _ ⟨B.exec, B.bytes, hml, hown, hts⟩ B.notSynchronized B.returns (name_of_methodNamed B.named B.method).1 hK hX hl ⟨nw.start hP hD, hc⟩
theorem gM.ofI {l : Launch} {y : MethodName} {cc : ByteArray} {nl : Nat} {ty : FieldType} {rm : Room} {as : List Value} {N : Nat} {ad : Nat → Nat} {K : gK} {I : mG} {R : gR} {post : Int32 → mG × gR → Prop} (h : gI l y cc nl ty rm as (List.range N) ad K I R post) (hc : rm.cells = 0) (hs : rm.slots = 0) : gM l y (ws_ y cc nl (some ty)) rm as N ad K I R (fun v S => ∃ r I' R', v = some (.int r) ∧ S = (N, ad, K, I', R') ∧ post r (I', R')) := by
  intro D dA sz
  rw [hc, hs]
  refine Met.weak (h D dA sz) (fun _ _ q => q) ?_ (fun _ q => q)
  rintro a st o t hp ⟨⟨r, S, ho, hq, hb⟩, hF⟩
  exact ⟨⟨some (.int r), (N, ad, K, S.1, S.2), ho, ⟨r, S.1, S.2, rfl, rfl, hq⟩, hb, gGo.rf⟩, hF⟩
theorem gM.ofV {l : Launch} {y : MethodName} {cc : ByteArray} {nl : Nat} {rm : Room} {as : List Value} {N : Nat} {ad : Nat → Nat} {K : gK} {I : mG} {R : gR} {post : mG × gR → Prop} (h : gV l y cc nl rm as (List.range N) ad K I R post) (hc : rm.cells = 0) (hs : rm.slots = 0) : gM l y (ws_ y cc nl none) rm as N ad K I R (fun v S => ∃ I' R', v = none ∧ S = (N, ad, K, I', R') ∧ post (I', R')) := by
  intro D dA sz
  rw [hc, hs]
  refine Met.weak (h D dA sz) (fun _ _ q => q) ?_ (fun _ q => q)
  rintro a st o t hp ⟨⟨S, ho, hq, hb⟩, hF⟩
  exact ⟨⟨none, (N, ad, K, S.1, S.2), ho, ⟨S.1, S.2, rfl, rfl, hq⟩, hb, gGo.rf⟩, hF⟩
/-- what a new name does to what is there: nothing -/
theorem gE_ext {dA : Nat → ClassId} {kd : Nat × Nat} {I : Nat → Int32} {R : Nat → Option Nat} {ad ad' : Nat → Nat} (h : ∀ i j, R i = some j → ad' j = ad j) : gE dA kd I R ad' = gE dA kd I R ad := by
  have e : ∀ i, (R i).map ad' = (R i).map ad := by
    intro i
    cases hz : R i with
    | none => rfl
    | some j => show some (ad' j) = some (ad j); rw [h i j hz]
  unfold gE gF gfv
  split
  · congr 2
    apply List.map_congr_left
    intro k _
    rw [e k]
  · split
    · rfl
    · have e2 : (fun i => (R i).map ad') = fun i => (R i).map ad := funext e
      rw [e2]
theorem gw_push {D : va_G} {dA : Nat → ClassId} {A : Nat → Prop} {H0 : Heap} {N : Nat} {ad : Nat → Nat} {K : gK} {I : mG} {R : gR} {H H1 : Heap} {locs locs1 : List Loc} (hw : gw D dA A H0 (List.range N) ad K I R H locs) {q : Nat} {kd : Nat × Nat} {x : va_E} (hx : ∀ ad' : Nat → Nat, x = gE dA kd (fun _ => nI 0) (fun _ => none) ad') (hP : va_P D cCl (nL (List.range N) (gCt dA K I R ad) ad ++ [(q, x)]) H1) (hD : va_D A (nL (List.range N) (gCt dA K I R ad) ad ++ [(q, x)])) (hS : va_S A H0 H1 locs1) :
    gw D dA A H0 (List.range (N + 1)) (va_up ad N q) (va_up K N kd) (va_up I N (fun _ => nI 0)) (va_up R N (fun _ => none)) H1 locs1 := by
  have hnot : N ∉ List.range N := by simp
  have e1 : nL (List.range N) (gCt dA K I R ad) ad ++ [(q, x)] = nL (List.range (N + 1)) (gCt dA (va_up K N kd) (va_up I N (fun _ => nI 0)) (va_up R N (fun _ => none)) (va_up ad N q)) (va_up ad N q) := by
    rw [nL_push hnot, List.range_succ]
    apply nL_congr
    intro n hn
    refine ⟨?_, rfl⟩
    by_cases e : n = N
    · subst e
      rw [va_up_self]
      show x = gE dA (va_up K n kd n) (va_up I n (fun _ => nI 0) n) (va_up R n (fun _ => none) n) _
      rw [va_up_self, va_up_self, va_up_self]
      exact hx _
    · rw [va_up_ne _ _ e]
      show gE dA (K n) (I n) (R n) ad = gE dA (va_up K N kd n) (va_up I N (fun _ => nI 0) n) (va_up R N (fun _ => none) n) _
      rw [va_up_ne _ _ e, va_up_ne _ _ e, va_up_ne _ _ e]
      refine (gE_ext ?_).symm
      intro i j hj
      have hn' : n ∈ List.range N := by
        rcases List.mem_append.mp hn with h | h
        · exact h
        · exact absurd (List.mem_singleton.mp h) e
      have : j ∈ List.range N := hw.2 n i j hn' hj
      exact va_up_ne _ _ (by have := List.mem_range.mp this; omega)
  rw [e1] at hP hD
  refine ⟨⟨hP, hD, hS, hw.1.2.2.2⟩, ?_⟩
  intro n i j hn hj
  by_cases e : n = N
  · subst e
    rw [va_up_self] at hj
    cases hj
  · rw [va_up_ne _ _ e] at hj
    have hn' : n ∈ List.range N := List.mem_range.mpr (by have := List.mem_range.mp hn; omega)
    have := List.mem_range.mp (hw.2 n i j hn' hj)
    exact List.mem_range.mpr (by omega)
section GMR
variable {p : Program} {l : Launch} {e : Env} {Rm : Room} {s : State} {m : MethodId} {args : Array Value} {below : List Frame} {meth : Method} {c : Code} {H : Heap} {locs : List Loc} {cells slots : Nat} {Q : State → Prop}
variable {cc : ByteArray} {nl pc : Nat} {ls : Array Slot} {rest : List Value} {D : va_G} {dA : Nat → ClassId} {A : Nat → Prop} {H0 : Heap} {N : Nat} {ad : Nat → Nat} {K : gK} {I : mG} {R : gR} {own : String}
theorem W.more {k n : Nat} {g : JFrame} (h1 : cells ≤ k) (h2 : slots ≤ n) (kk : W p l e Rm s m args below meth c H locs k n Q g) : W p l e Rm s m args below meth c H locs cells slots Q g := fun T hT X => kk T hT (stand_widen X h1 h2)
theorem W.loopC {α : Type} (I : Array Slot → α → Heap → List Loc → Prop) (pc : Nat) (st : α → List Value) (μ : α → Nat) (cl sl : α → Nat)
    (hs : ∀ ls a H locs, I ls a H locs → (∀ ls' a' H' locs', I ls' a' H' locs' → μ a' < μ a → W p l e Rm s m args below meth c H' locs' (cl a') (sl a') Q (F0 m pc ls' (st a'))) → W p l e Rm s m args below meth c H locs (cl a) (sl a) Q (F0 m pc ls (st a)))
    (a : α) {ls : Array Slot} (h : I ls a H locs) : W p l e Rm s m args below meth c H locs (cl a) (sl a) Q (F0 m pc ls (st a)) := by
  have key : ∀ n : Nat, ∀ (ls : Array Slot) (a : α) (H : Heap) (locs : List Loc), μ a < n → I ls a H locs → W p l e Rm s m args below meth c H locs (cl a) (sl a) Q (F0 m pc ls (st a)) := by
    intro n
    induction n with
    | zero => intro ls a H locs h; omega
    | succ n ih =>
      intro ls a H locs hn hI
      exact hs ls a H locs hI (fun ls' a' H' locs' hI' hlt => ih ls' a' H' locs' (by omega) hI')
  exact key (μ a + 1) ls a H locs (by omega) h
theorem M_iret (hC : CallFix p m c cc nl s args lw_all own) (hlk : meth.locks = false) {N0 : Nat} {ad0 : Nat → Nat} {K0 : gK} {rc rs : Nat} (hw : gw D dA (nA (List.range N0) ad0 s.heap.size) s.heap (List.range N) ad K I R H locs) (hg : gGo N0 ad0 K0 (N, ad, K, I, R)) {post : Option Value → gS → Prop} (hc : cells ≤ rc ∧ slots ≤ rs) {ty : FieldType} (hr : meth.sig.returnType = some ty) {v : Int32} (hn : narrow ty (.int v) = .int v) (hq : post (some (.int v)) (N, ad, K, I, R)) (hdg : decode cc pc = .ok (.ireturn, 1)) : W p l e Rm s m args below meth c H locs cells slots (MQ below (gQ D dA N0 ad0 K0 s.heap.size post) args s rc rs (nA (List.range N0) ad0 s.heap.size)) (F0 m pc ls [.int v]) :=
  W.more hc.1 hc.2 (W.zret hC.1 hC.2.1 hr hn (fun t ht hW => ⟨⟨some (.int v), (N, ad, K, I, R), rfl, hq, ⟨by rw [ht]; exact hw.1.1, hw.1.2.1, hw.2⟩, hg⟩, hw.1.2.2.1.F ht⟩) hw.1.2.2.1.2.2 hdg hlk)
theorem M_vret (hC : CallFix p m c cc nl s args lw_all own) (hlk : meth.locks = false) {N0 : Nat} {ad0 : Nat → Nat} {K0 : gK} {rc rs : Nat} (hw : gw D dA (nA (List.range N0) ad0 s.heap.size) s.heap (List.range N) ad K I R H locs) (hg : gGo N0 ad0 K0 (N, ad, K, I, R)) {post : Option Value → gS → Prop} (hc : cells ≤ rc ∧ slots ≤ rs) (hr : meth.sig.returnType = none) (hq : post none (N, ad, K, I, R)) (hdg : decode cc pc = .ok (.return_, 1)) : W p l e Rm s m args below meth c H locs cells slots (MQ below (gQ D dA N0 ad0 K0 s.heap.size post) args s rc rs (nA (List.range N0) ad0 s.heap.size)) (F0 m pc ls []) :=
  W.more hc.1 hc.2 (W.vret hC.1 hC.2.1 hr (fun t ht hW => ⟨⟨none, (N, ad, K, I, R), rfl, hq, ⟨by rw [ht]; exact hw.1.1, hw.1.2.1, hw.2⟩, hg⟩, hw.1.2.2.1.F ht⟩) hw.1.2.2.1.2.2 hdg hlk)
theorem M_aret (hC : CallFix p m c cc nl s args lw_all own) (hlk : meth.locks = false) {N0 : Nat} {ad0 : Nat → Nat} {K0 : gK} {rc rs : Nat} (hw : gw D dA (nA (List.range N0) ad0 s.heap.size) s.heap (List.range N) ad K I R H locs) (hg : gGo N0 ad0 K0 (N, ad, K, I, R)) {post : Option Value → gS → Prop} (hc : cells ≤ rc ∧ slots ≤ rs) {rt : FieldType} (hr : meth.sig.returnType = some rt) (hrt : (∃ n, rt = .object n) ∨ ∃ t, rt = .array t) {v : Value} (hv : v = .null ∨ ∃ a, v = .ref a) (hq : post (some v) (N, ad, K, I, R)) (hdg : decode cc pc = .ok (.areturn, 1)) : W p l e Rm s m args below meth c H locs cells slots (MQ below (gQ D dA N0 ad0 K0 s.heap.size post) args s rc rs (nA (List.range N0) ad0 s.heap.size)) (F0 m pc ls [v]) :=
  W.more hc.1 hc.2 (W.aret hC.1 hC.2.1 hr hrt hv (fun t ht hW => ⟨⟨some v, (N, ad, K, I, R), rfl, hq, ⟨by rw [ht]; exact hw.1.1, hw.1.2.1, hw.2⟩, hg⟩, hw.1.2.2.1.F ht⟩) hw.1.2.2.1.2.2 hdg hlk)
/-- behind a call -/
theorem M_run {rm : Room} {st0 : List Value} {a : Array Value} {post : Option Value → gS → Prop} (hr : va_Run p l e Rm s m args below meth c H locs cells slots rm.cells rm.slots (F0 m pc ls st0) rest (gQ D dA N ad K H.size post a) (nA (List.range N) ad H.size)) (hw : gw D dA A H0 (List.range N) ad K I R H locs)
    (kk : ∀ (v : Option Value) (N' : Nat) (ad' : Nat → Nat) (K' : gK) (I' : mG) (R' : gR) (H' : Heap) (locs' : List Loc), post v (N', ad', K', I', R') → gGo N ad K (N', ad', K', I', R') → gw D dA A H0 (List.range N') ad' K' I' R' H' locs' → W p l e Rm s m args below meth c H' locs' (cells + rm.cells) (slots + rm.slots) Q (F0 m (pc + 3) ls (v.toList ++ rest))) : W p l e Rm s m args below meth c H locs cells slots Q (F0 m pc ls st0) := by
  intro T hT X
  obtain ⟨v, st₀, t, T', L, h0, X', hL, e1, e2, ⟨⟨v', S, hv, hp, hb, hg⟩, hz, hk⟩, st⟩ := hr T hT X
  cases hv
  rw [h0] at hz hk
  have hS := hw.1.2.2.1
  have hA : ∀ q, nA (List.range N) ad H.size q → A q := fun q h => hw.1.free q h
  obtain ⟨t2, a1, b1⟩ := kk v S.1 S.2.1 S.2.2.1 S.2.2.2.1 S.2.2.2.2 T'.heap (locs ++ L) hp hg ⟨⟨by rw [e1]; exact hb.1, hb.2.1.weaken (fun _ _ _ h => hA _ h),
    ⟨Nat.le_trans hS.1 (by rw [e1]; exact hz), fun q h1 h2 => by rw [e1, hk q (Nat.lt_of_lt_of_le h1 hS.1) (fun z => h2 (hA q z))]; exact hS.2.1 q h1 h2, fun q hq => by
      rcases List.mem_append.mp hq with h | h
      · exact hS.2.2 q h
      · exact hA _ (hL q h)⟩, hw.1.2.2.2⟩, hb.2.2⟩ T' rfl X'
  exact ⟨t2, st t2 a1, b1⟩
/-- a call on an object of its own class -/
theorem M_V (hC : CallFix p m c cc nl s args lw_all own) (hl : ls.size = nl) (hK : va_K D cCl (cTy dA) s) (hX : gX s) (hw : gw D dA A H0 (List.range N) ad K I R H locs) {C : String} {T : u_T} {n0 ci : Nat} (hn0 : n0 < N) (hk0 : (K n0).1 = ci) (hc20 : ci < 20) (hc : cCl[ci]? = some (C, T, gN ci)) {y : MethodName} {bytes : ByteArray} {maxL index n : Nat} {ret : Option FieldType} {rm : Room} {as : List Value} {post : Option Value → gS → Prop} (hM : gM l y (ws_ y bytes maxL ret) rm (.ref (ad n0) :: as) N ad K I R post)
    (hT : GoodIn lw_all (wsV own index C y (ws_ y bytes maxL ret))) (hd : y.cls = C ∧ y.cls ≠ "java/lang/invoke/MethodHandle" ∧ y.cls ≠ "java/lang/invoke/VarHandle" ∧ (parseMethodDescriptor y.desc).map (fun d => d.parameters.length) = some n) (hR : rm.frames + 1 ≤ Rm.frames ∧ 8 + (maxL + 11) + rm.locals ≤ Rm.locals)
    (hn : as.length = n) {st0 : List Value} (hst : st0 = as.reverse ++ .ref (ad n0) :: rest) (hW : (rest.map fun v => v.category).sum ≤ 8) (hdg : decode cc pc = .ok (.invokevirtual index, 3)) (hf : cells + rm.cells ≤ Rm.cells ∧ slots + rm.slots ≤ Rm.slots)
    (kk : ∀ (v : Option Value) (N' : Nat) (ad' : Nat → Nat) (K' : gK) (I' : mG) (R' : gR) (H' : Heap) (locs' : List Loc), post v (N', ad', K', I', R') → gGo N ad K (N', ad', K', I', R') → gw D dA A H0 (List.range N') ad' K' I' R' H' locs' → W p l e Rm s m args below meth c H' locs' (cells + rm.cells) (slots + rm.slots) Q (F0 m (pc + 3) ls (v.toList ++ rest))) : W p l e Rm s m args below meth c H locs cells slots Q (F0 m pc ls st0) :=
  M_run (va_runV (As := as) (rest := rest) hC (hM D dA H.size) (cwV n hC.2.2.2.2 hT rfl rfl rfl hd hR) ⟨fun a U g mk q => ⟨q.1, q.2.moved (V := U.calling g mk a) rfl rfl⟩, g_recv hK hw (List.mem_range.mpr hn0) hk0 hc20 hc, fun U hU hWm => ⟨rfl, by rw [hU], hK.moved hWm.alike, hX.warm hWm, by rw [hU]; exact hw.1.1, hw.1.2.1.weaken (fun _ _ _ _ => trivial), hw.2⟩⟩ rfl hn hl hst (lv_room hW) hdg hf) hw kk
/-- .. of a nest mate's private method -/
theorem M_VN (hC : CallFix p m c cc nl s args lw_all own) (hl : ls.size = nl) (hK : va_K D cCl (cTy dA) s) (hX : gX s) (hw : gw D dA A H0 (List.range N) ad K I R H locs) {host : String} {C : String} {T : u_T} {n0 ci : Nat} (hn0 : n0 < N) (hk0 : (K n0).1 = ci) (hc20 : ci < 20) (hc : cCl[ci]? = some (C, T, gN ci)) {y : MethodName} {bytes : ByteArray} {maxL index n : Nat} {ret : Option FieldType} {rm : Room} {as : List Value} {post : Option Value → gS → Prop} (hM : gM l y (ws_ y bytes maxL ret) rm (.ref (ad n0) :: as) N ad K I R post)
    (h1 : Cond.methodLinkNest own index y host ∈ lw_tbl) (h2 : Cond.instanceMethod y ∈ lw_all) (h2b : Cond.selects C y y ∈ lw_all) (h3 : Cond.initialized y.cls ∈ lw_all) (h4 : Cond.code y bytes maxL ret ∈ lw_all) (hd : y.cls ≠ "java/lang/invoke/MethodHandle" ∧ y.cls ≠ "java/lang/invoke/VarHandle" ∧ (parseMethodDescriptor y.desc).map (fun d => d.parameters.length) = some n) (hR : rm.frames + 1 ≤ Rm.frames ∧ 8 + (maxL + 11) + rm.locals ≤ Rm.locals)
    (hn : as.length = n) {st0 : List Value} (hst : st0 = as.reverse ++ .ref (ad n0) :: rest) (hW : (rest.map fun v => v.category).sum ≤ 8) (hdg : decode cc pc = .ok (.invokevirtual index, 3)) (hf : cells + rm.cells ≤ Rm.cells ∧ slots + rm.slots ≤ Rm.slots)
    (kk : ∀ (v : Option Value) (N' : Nat) (ad' : Nat → Nat) (K' : gK) (I' : mG) (R' : gR) (H' : Heap) (locs' : List Loc), post v (N', ad', K', I', R') → gGo N ad K (N', ad', K', I', R') → gw D dA A H0 (List.range N') ad' K' I' R' H' locs' → W p l e Rm s m args below meth c H' locs' (cells + rm.cells) (slots + rm.slots) Q (F0 m (pc + 3) ls (v.toList ++ rest))) : W p l e Rm s m args below meth c H locs cells slots Q (F0 m pc ls st0) :=
  M_run (va_runVN (As := as) (rest := rest) hC (hM D dA H.size) (⟨va_cnB n hC.2.2.2.2 (lw_meth h4) rfl rfl rfl (hX _ h1 rfl) (hC.2.2.2.2 _ h3) hd hR, hC.2.2.2.2 _ h2, hC.2.2.2.2 _ h2b⟩) ⟨fun a U g mk q => ⟨q.1, q.2.moved (V := U.calling g mk a) rfl rfl⟩, g_recv hK hw (List.mem_range.mpr hn0) hk0 hc20 hc, fun U hU hWm => ⟨rfl, by rw [hU], hK.moved hWm.alike, hX.warm hWm, by rw [hU]; exact hw.1.1, hw.1.2.1.weaken (fun _ _ _ _ => trivial), hw.2⟩⟩ rfl hn hl hst (lv_room hW) hdg hf) hw kk
/-- a static call -/
theorem M_S (hC : CallFix p m c cc nl s args lw_all own) (hl : ls.size = nl) (hK : va_K D cCl (cTy dA) s) (hX : gX s) (hw : gw D dA A H0 (List.range N) ad K I R H locs)  {y : MethodName} {bytes : ByteArray} {maxL index n : Nat} {ret : Option FieldType} {rm : Room} {as : List Value} {post : Option Value → gS → Prop} (hM : gM l y (ws_ y bytes maxL ret) rm as N ad K I R post)
    (hT : GoodIn lw_all (va_wsS own index y (ws_ y bytes maxL ret))) (hd : y.cls ≠ "java/lang/invoke/MethodHandle" ∧ y.cls ≠ "java/lang/invoke/VarHandle" ∧ (parseMethodDescriptor y.desc).map (fun d => d.parameters.length) = some n) (hR : rm.frames + 1 ≤ Rm.frames ∧ 8 + (maxL + 11) + rm.locals ≤ Rm.locals)
    (hn : as.length = n) {st0 : List Value} (hst : st0 = as.reverse ++ rest) (hW : (rest.map fun v => v.category).sum ≤ 8) (hdg : decode cc pc = .ok (.invokestatic index, 3)) (hf : cells + rm.cells ≤ Rm.cells ∧ slots + rm.slots ≤ Rm.slots)
    (kk : ∀ (v : Option Value) (N' : Nat) (ad' : Nat → Nat) (K' : gK) (I' : mG) (R' : gR) (H' : Heap) (locs' : List Loc), post v (N', ad', K', I', R') → gGo N ad K (N', ad', K', I', R') → gw D dA A H0 (List.range N') ad' K' I' R' H' locs' → W p l e Rm s m args below meth c H' locs' (cells + rm.cells) (slots + rm.slots) Q (F0 m (pc + 3) ls (v.toList ++ rest))) : W p l e Rm s m args below meth c H locs cells slots Q (F0 m pc ls st0) :=
  M_run (va_runS (As := as) (rest := rest) hC (hM D dA H.size) (va_cwS n hC.2.2.2.2 hT rfl rfl rfl hd hR) ⟨fun a U g mk q => ⟨q.1, q.2.moved (V := U.calling g mk a) rfl rfl⟩, fun U hU hWm => ⟨rfl, by rw [hU], hK.moved hWm.alike, hX.warm hWm, by rw [hU]; exact hw.1.1, hw.1.2.1.weaken (fun _ _ _ _ => trivial), hw.2⟩⟩ rfl hn hl hst (lv_room hW) hdg hf) hw kk
/-- .. of a nest mate -/
theorem M_SN (hC : CallFix p m c cc nl s args lw_all own) (hl : ls.size = nl) (hK : va_K D cCl (cTy dA) s) (hX : gX s) (hw : gw D dA A H0 (List.range N) ad K I R H locs) {host : String} {y : MethodName} {bytes : ByteArray} {maxL index n : Nat} {ret : Option FieldType} {rm : Room} {as : List Value} {post : Option Value → gS → Prop} (hM : gM l y (ws_ y bytes maxL ret) rm as N ad K I R post)
    (h1 : Cond.methodLinkNest own index y host ∈ lw_tbl) (h2 : Cond.static y ∈ lw_all) (h3 : Cond.initialized y.cls ∈ lw_all) (h4 : Cond.code y bytes maxL ret ∈ lw_all) (hd : y.cls ≠ "java/lang/invoke/MethodHandle" ∧ y.cls ≠ "java/lang/invoke/VarHandle" ∧ (parseMethodDescriptor y.desc).map (fun d => d.parameters.length) = some n) (hR : rm.frames + 1 ≤ Rm.frames ∧ 8 + (maxL + 11) + rm.locals ≤ Rm.locals)
    (hn : as.length = n) {st0 : List Value} (hst : st0 = as.reverse ++ rest) (hW : (rest.map fun v => v.category).sum ≤ 8) (hdg : decode cc pc = .ok (.invokestatic index, 3)) (hf : cells + rm.cells ≤ Rm.cells ∧ slots + rm.slots ≤ Rm.slots)
    (kk : ∀ (v : Option Value) (N' : Nat) (ad' : Nat → Nat) (K' : gK) (I' : mG) (R' : gR) (H' : Heap) (locs' : List Loc), post v (N', ad', K', I', R') → gGo N ad K (N', ad', K', I', R') → gw D dA A H0 (List.range N') ad' K' I' R' H' locs' → W p l e Rm s m args below meth c H' locs' (cells + rm.cells) (slots + rm.slots) Q (F0 m (pc + 3) ls (v.toList ++ rest))) : W p l e Rm s m args below meth c H locs cells slots Q (F0 m pc ls st0) :=
  M_run (va_runSN (As := as) (rest := rest) hC (hM D dA H.size) (⟨va_cnB n hC.2.2.2.2 (lw_meth h4) rfl rfl rfl (hX _ h1 rfl) (hC.2.2.2.2 _ h3) hd hR, hC.2.2.2.2 _ h2, trivial⟩) ⟨fun a U g mk q => ⟨q.1, q.2.moved (V := U.calling g mk a) rfl rfl⟩, fun U hU hWm => ⟨rfl, by rw [hU], hK.moved hWm.alike, hX.warm hWm, by rw [hU]; exact hw.1.1, hw.1.2.1.weaken (fun _ _ _ _ => trivial), hw.2⟩⟩ rfl hn hl hst (lv_room hW) hdg hf) hw kk
/-- a constructor -/
theorem M_I (hC : CallFix p m c cc nl s args lw_all own) (hl : ls.size = nl) (hK : va_K D cCl (cTy dA) s) (hX : gX s) (hw : gw D dA A H0 (List.range N) ad K I R H locs) {n0 : Nat} {y : MethodName} {bytes : ByteArray} {maxL index n : Nat} {rm : Room} {as : List Value} {post : Option Value → gS → Prop} (hM : gM l y (ws_ y bytes maxL none) rm (.ref (ad n0) :: as) N ad K I R post)
    (h1 : Cond.methodLink own index y ∈ lw_all) (h2 : Cond.instanceMethod y ∈ lw_all) (h3 : Cond.initialized y.cls ∈ lw_all) (h4 : Cond.code y bytes maxL none ∈ lw_all) (hi : y.name = "<init>") (hd : y.cls ≠ "java/lang/invoke/MethodHandle" ∧ y.cls ≠ "java/lang/invoke/VarHandle" ∧ (parseMethodDescriptor y.desc).map (fun d => d.parameters.length) = some n) (hR : rm.frames + 1 ≤ Rm.frames ∧ 8 + (maxL + 11) + rm.locals ≤ Rm.locals)
    (hn : as.length = n) {st0 : List Value} (hst : st0 = as.reverse ++ .ref (ad n0) :: rest) (hW : (rest.map fun v => v.category).sum ≤ 8) (hdg : decode cc pc = .ok (.invokespecial index, 3)) (hf : cells + rm.cells ≤ Rm.cells ∧ slots + rm.slots ≤ Rm.slots)
    (kk : ∀ (v : Option Value) (N' : Nat) (ad' : Nat → Nat) (K' : gK) (I' : mG) (R' : gR) (H' : Heap) (locs' : List Loc), post v (N', ad', K', I', R') → gGo N ad K (N', ad', K', I', R') → gw D dA A H0 (List.range N') ad' K' I' R' H' locs' → W p l e Rm s m args below meth c H' locs' (cells + rm.cells) (slots + rm.slots) Q (F0 m (pc + 3) ls (v.toList ++ rest))) : W p l e Rm s m args below meth c H locs cells slots Q (F0 m pc ls st0) :=
  M_run (va_runI (As := as) (rest := rest) hC (hM D dA H.size) (⟨callB_of n hC.2.2.2.2 (lw_meth h4) rfl rfl rfl (hC.2.2.2.2 _ h3) (hC.2.2.2.2 _ h1) hd hR, hi, hC.2.2.2.2 _ h2⟩) ⟨fun a U g mk q => ⟨q.1, q.2.moved (V := U.calling g mk a) rfl rfl⟩, fun U hU hWm => ⟨rfl, by rw [hU], hK.moved hWm.alike, hX.warm hWm, by rw [hU]; exact hw.1.1, hw.1.2.1.weaken (fun _ _ _ _ => trivial), hw.2⟩⟩ rfl hn hl hst (lv_room hW) hdg hf) hw kk
/-- .. of a nest mate -/
theorem M_IN (hC : CallFix p m c cc nl s args lw_all own) (hl : ls.size = nl) (hK : va_K D cCl (cTy dA) s) (hX : gX s) (hw : gw D dA A H0 (List.range N) ad K I R H locs) {n0 : Nat} {host : String} {y : MethodName} {bytes : ByteArray} {maxL index n : Nat} {rm : Room} {as : List Value} {post : Option Value → gS → Prop} (hM : gM l y (ws_ y bytes maxL none) rm (.ref (ad n0) :: as) N ad K I R post)
    (h1 : Cond.methodLinkNest own index y host ∈ lw_tbl) (h2 : Cond.instanceMethod y ∈ lw_all) (h3 : Cond.initialized y.cls ∈ lw_all) (h4 : Cond.code y bytes maxL none ∈ lw_all) (hi : y.name = "<init>") (hd : y.cls ≠ "java/lang/invoke/MethodHandle" ∧ y.cls ≠ "java/lang/invoke/VarHandle" ∧ (parseMethodDescriptor y.desc).map (fun d => d.parameters.length) = some n) (hR : rm.frames + 1 ≤ Rm.frames ∧ 8 + (maxL + 11) + rm.locals ≤ Rm.locals)
    (hn : as.length = n) {st0 : List Value} (hst : st0 = as.reverse ++ .ref (ad n0) :: rest) (hW : (rest.map fun v => v.category).sum ≤ 8) (hdg : decode cc pc = .ok (.invokespecial index, 3)) (hf : cells + rm.cells ≤ Rm.cells ∧ slots + rm.slots ≤ Rm.slots)
    (kk : ∀ (v : Option Value) (N' : Nat) (ad' : Nat → Nat) (K' : gK) (I' : mG) (R' : gR) (H' : Heap) (locs' : List Loc), post v (N', ad', K', I', R') → gGo N ad K (N', ad', K', I', R') → gw D dA A H0 (List.range N') ad' K' I' R' H' locs' → W p l e Rm s m args below meth c H' locs' (cells + rm.cells) (slots + rm.slots) Q (F0 m (pc + 3) ls (v.toList ++ rest))) : W p l e Rm s m args below meth c H locs cells slots Q (F0 m pc ls st0) :=
  M_run (va_runIN (As := as) (rest := rest) hC (hM D dA H.size) (⟨va_cnB n hC.2.2.2.2 (lw_meth h4) rfl rfl rfl (hX _ h1 rfl) (hC.2.2.2.2 _ h3) hd hR, hi, hC.2.2.2.2 _ h2⟩) ⟨fun a U g mk q => ⟨q.1, q.2.moved (V := U.calling g mk a) rfl rfl⟩, fun U hU hWm => ⟨rfl, by rw [hU], hK.moved hWm.alike, hX.warm hWm, by rw [hU]; exact hw.1.1, hw.1.2.1.weaken (fun _ _ _ _ => trivial), hw.2⟩⟩ rfl hn hl hst (lv_room hW) hdg hf) hw kk
/-- a new object -/
theorem M_new (hC : CallFix p m c cc nl s args lw_all own) (hK : va_K D cCl (cTy dA) s) (hw : gw D dA A H0 (List.range N) ad K I R H locs) {C : String} {T : u_T} (ci : Nat) (hc20 : ci < 20) (hc : cCl[ci]? = some (C, T, gN ci)) (hin : ∀ w ∈ u_ws C T (gN ci), w ∈ lw_all) (ty : Nat → FieldType) (hty : ∀ k, k < gN ci → parseFieldDescriptor (T k).2.2.1 = some (ty k)) {index : Nat} (h1 : Cond.classLink own index C ∈ lw_all) (h2 : Cond.instantiable C (gN ci) ∈ lw_all) (h3 : Cond.initialized C ∈ lw_all)
    (hdf : ∀ j, j < gN ci → defaultValue (ty j) = if gRef ci j then .null else .int (nI 0)) (hcells : cells + 1 ≤ Rm.cells) (hslots : slots + gN ci ≤ Rm.slots) (hdg : decode cc pc = .ok (.new index, 3))
    (kk : ∀ (ad' : Nat → Nat) (H1 : Heap), (∀ n, n < N → ad' n = ad n) → gw D dA A H0 (List.range (N + 1)) ad' (va_up K N (ci, 0)) (va_up I N (fun _ => nI 0)) (va_up R N (fun _ => none)) H1 locs → W p l e Rm s m args below meth c H1 locs (cells + 1) (slots + gN ci) Q (F0 m (pc + 3) ls (.ref (ad' N) :: rest))) : W p l e Rm s m args below meth c H locs cells slots Q (F0 m pc ls rest) := by
  obtain ⟨hx, hb, -, ho, hts⟩ := hC
  have e0 : ∀ ad' : Nat → Nat, gF ci (fun _ => nI 0) (fun _ => none) ad = gF ci (fun _ => nI 0) (fun _ => none) ad' := fun ad' => rfl
  refine va_new hx hb hts hin ty hty ho (hts _ h1) (hts _ h2) (hts _ h3) hK hw.1.1 hw.1.2.1 hw.1.2.2.1 hw.1.2.2.2 hc (fs := gF ci (fun _ => nI 0) (fun _ => none) ad) (fun j hj => ?_) hcells hslots hdg (fun q H1 hP hD hS => ?_)
  · rw [hdf j hj]
    unfold vp_V
    rw [List.getD_eq_getElem?_getD, gF_get hj]
    rw [Option.getD_some]
    unfold gfv
    split <;> rfl
  · have hz := kk (va_up ad N q) H1 (fun n hn => va_up_ne _ _ (by omega)) (gw_push hw (kd := (ci, 0)) (fun ad' => (gE_o (kd := (ci, 0)) rfl hc20).symm) hP hD hS)
    rw [va_up_self] at hz
    exact hz
/-- a new row of numbers -/
theorem M_newa (hC : CallFix p m c cc nl s args lw_all own) (hK : va_K D cCl (cTy dA) s) (hw : gw D dA A H0 (List.range N) ad K I R H locs) {atype : ArrayType} {ty : FieldType} (hty : newarray.typeOf atype = ty) (harr : Cond.arrayClass ty ∈ lw_all) (t : Nat) (ht : t < 10) (hk0 : (cTy dA)[t]? = some (dA t, ty)) (hra : ∀ c, va_RA s c ty → s.vm.findClass ("[" ++ ty.toString) = some c) (hdv : defaultValue ty = .int (nI 0))
    {N' : Nat} (h31 : N' < 2 ^ 31) (hbytes : N' * componentBytes ty ≤ 536870912) (hcells : cells + 1 ≤ Rm.cells) (hslots : slots + N' ≤ Rm.slots) (hdg : decode cc pc = .ok (.newarray atype, 2))
    (kk : ∀ (ad' : Nat → Nat) (H1 : Heap), (∀ n, n < N → ad' n = ad n) → gw D dA A H0 (List.range (N + 1)) ad' (va_up K N (20 + t, N')) (va_up I N (fun _ => nI 0)) (va_up R N (fun _ => none)) H1 locs → W p l e Rm s m args below meth c H1 locs (cells + 1) (slots + N') Q (F0 m (pc + 2) ls (.ref (ad' N) :: rest))) : W p l e Rm s m args below meth c H locs cells slots Q (F0 m pc ls (.int (nI N') :: rest)) := by
  refine va_newaD hC hty harr hK hw.1.1 hw.1.2.1 hw.1.2.2.1 hw.1.2.2.2 t hk0 hra (a0 := (N', .inl (fun _ => nI 0))) (fun cA => by rw [vp_cell_i, hdv]) (nI_pos h31) (nI_clamp h31) hbytes hcells hslots hdg (fun q H1 hP hD hS => ?_)
  have hz := kk (va_up ad N q) H1 (fun n hn => va_up_ne _ _ (by omega)) (gw_push hw (kd := (20 + t, N')) (fun ad' => (gE_p (kd := (20 + t, N')) rfl ht).symm) hP hD hS)
  rw [va_up_self] at hz
  exact hz
/-- a new row of references -/
theorem M_newq (hC : CallFix p m c cc nl s args lw_all own) (hK : va_K D cCl (cTy dA) s) (hX : gX s) (hw : gw D dA A H0 (List.range N) ad K I R H locs) {C : String} {index : Nat} (h1 : Cond.classLink own index C ∈ lw_all) (hao : Cond.arrayOver (.object C) ∈ lw_tbl) (t : Nat) (hk0 : (cTy dA)[3 + t]? = some (dA (3 + t), .object C))
    {N' : Nat} (h31 : N' < 2 ^ 31) (hbytes : N' * 4 ≤ 536870912) (hcells : cells + 1 ≤ Rm.cells) (hslots : slots + N' ≤ Rm.slots) (hdg : decode cc pc = .ok (.anewarray index, 3))
    (kk : ∀ (ad' : Nat → Nat) (H1 : Heap), (∀ n, n < N → ad' n = ad n) → gw D dA A H0 (List.range (N + 1)) ad' (va_up K N (30 + t, N')) (va_up I N (fun _ => nI 0)) (va_up R N (fun _ => none)) H1 locs → W p l e Rm s m args below meth c H1 locs (cells + 1) (slots + N') Q (F0 m (pc + 3) ls (.ref (ad' N) :: rest))) : W p l e Rm s m args below meth c H locs cells slots Q (F0 m pc ls (.int (nI N') :: rest)) := by
  obtain ⟨hx, hb, -, ho, hts⟩ := hC
  refine va_newq hx hb ho (hts _ h1) (hX _ hao rfl) hK hw.1.1 hw.1.2.1 hw.1.2.2.1 hw.1.2.2.2 (nI_pos h31) (nI_clamp h31) hbytes hcells hslots hdg (fun q cA H1 hK1 hP hD hS => ?_)
  have e3 : cA = dA (3 + t) := by
    obtain ⟨kA, comp, -, -, -, g4⟩ := (hK1.2 (cTy dA).length (cA, .object C) (by simp)).2
    obtain ⟨kA', comp', -, -, -, g4'⟩ := (hK.2 (3 + t) _ hk0).2
    exact Option.some.inj (g4.symm.trans g4')
  subst e3
  have hz := kk (va_up ad N q) H1 (fun n hn => va_up_ne _ _ (by omega)) (gw_push hw (kd := (30 + t, N')) (fun ad' => (gE_r (dA := dA) (I := fun _ => nI 0) (R := fun _ => none) (ad := ad') (kd := (30 + t, N')) rfl).symm) hP hD hS)
  rw [va_up_self] at hz
  exact hz
end GMR
