/-! ===== a cast that fails ===== -/
theorem wk_pkg : ∀ n ∈ [RX4, RX5, RX9, RX10, RX11, RX12], packageOf n = "" ∧ (dotted n).toList.length ≤ 20 := by decide +kernel
theorem home_or {vm : Vm} (hm : (vm.modules.all fun m => m.loader.isSome || m.name == "java.base" || !(castPackages_1.any fun p => m.packages.contains p)) = true) {k : Class} (hl : k.loader = none) (hp : packageOf k.name = "") : vm.home k = "module java.base of loader 'bootstrap'" ∨ vm.home k = "unnamed module of loader 'bootstrap'" := by
  unfold Vm.home
  rw [hl]
  cases hmo : vm.moduleOf k with
  | none => exact Or.inr rfl
  | some mi =>
    left
    have hn : mi.name = "java.base" := by
      unfold Vm.moduleOf at hmo
      split at hmo
      · have h1 := List.find?_some hmo
        simpa using h1
      · have h1 := List.find?_some hmo
        have h2 := List.mem_of_find?_eq_some hmo
        have h3 := List.all_eq_true.mp hm mi h2
        rw [hl, hp] at h1
        simp only [Bool.and_eq_true, beq_iff_eq] at h1
        simp only [h1.1, Option.isSome_none, Bool.false_or, Bool.or_eq_true, beq_iff_eq] at h3
        rcases h3 with h3 | h3
        · exact h3
        · simp [castPackages_1] at h3
          have h4 := h1.2
          simp at h4
          exact absurd h4 h3.1
    show "module " ++ mi.name ++ " of loader " ++ _ = _
    rw [hn]
    rfl
theorem found_of {vm : Vm} {nm : String} {c : ClassId} {k : Class} (h : vm.findClass nm = some c) (hk : vm.classes[c]? = some k) : k.name = nm ∧ k.hidden = none ∧ k.loader = none := by
  obtain ⟨hlt, hp, _⟩ := Array.findIdx?_eq_some_iff_getElem.mp h
  have e : vm.classes[c] = k := by
    have := Array.getElem?_eq_getElem hlt
    rw [this] at hk
    exact Option.some.inj hk
  rw [e] at hp
  simp only [Bool.and_eq_true, beq_iff_eq, Option.isNone_iff_eq_none] at hp
  exact ⟨hp.1.1.1, hp.1.1.2, hp.2⟩
theorem cast_text {vm : Vm} (hm : (vm.modules.all fun m => m.loader.isSome || m.name == "java.base" || !(castPackages_1.any fun p => m.packages.contains p)) = true) {A B : String} {ca cb : ClassId} {ka kb : Class} (ha : vm.findClass A = some ca) (hka : vm.classes[ca]? = some ka) (hb : vm.findClass B = some cb) (hkb : vm.classes[cb]? = some kb) (hA : A ∈ [RX4, RX5, RX9, RX10, RX11, RX12]) (hB : B ∈ [RX4, RX5, RX9, RX10, RX11, RX12]) :
    (Op.checkcast.message vm ka kb == notModelled) = false ∧ (stringBytes (stringToUtf16 (Op.checkcast.message vm ka kb))).size ≤ 1000 := by
  obtain ⟨a1, a2, a3⟩ := found_of ha hka
  obtain ⟨b1, b2, b3⟩ := found_of hb hkb
  have hsa : ka.shown.toList.length ≤ 20 := by
    unfold Class.shown
    rw [a2, a1]
    exact (wk_pkg A hA).2
  have hsb : kb.shown.toList.length ≤ 20 := by
    unfold Class.shown
    rw [b2, b1]
    exact (wk_pkg B hB).2
  have l1 : "module java.base of loader 'bootstrap'".toList.length = 38 := by decide
  have l2 : "unnamed module of loader 'bootstrap'".toList.length = 36 := by decide
  have hha : (vm.home ka).toList.length ≤ 38 := by
    rcases home_or hm a3 (by rw [a1]; exact (wk_pkg A hA).1) with h | h <;> rw [h] <;> omega
  have hhb : (vm.home kb).toList.length ≤ 38 := by
    rcases home_or hm b3 (by rw [b1]; exact (wk_pkg B hB).1) with h | h <;> rw [h] <;> omega
  have hh : (vm.homes ka kb).toList.length ≤ 140 := by
    unfold Vm.homes
    split
    · show (toString "" ++ toString ka.shown ++ toString " and " ++ toString kb.shown ++ toString " are in " ++ toString (vm.home ka)).toList.length ≤ 140
      simp only [String.toList_append, List.length_append]
      have c0 : (toString "").toList.length = 0 := by decide
      have c1 : (toString " and ").toList.length = 5 := by decide
      have c2 : (toString " are in ").toList.length = 8 := by decide
      have c3 : (toString ka.shown).toList.length = ka.shown.toList.length := rfl
      have c4 : (toString kb.shown).toList.length = kb.shown.toList.length := rfl
      have c5 : (toString (vm.home ka)).toList.length = (vm.home ka).toList.length := rfl
      omega
    · show (toString "" ++ toString ka.shown ++ toString " is in " ++ toString (vm.home ka) ++ toString "; " ++ toString kb.shown ++ toString " is in " ++ toString (vm.home kb)).toList.length ≤ 140
      simp only [String.toList_append, List.length_append]
      have c0 : (toString "").toList.length = 0 := by decide
      have c1 : (toString " is in ").toList.length = 7 := by decide
      have c2 : (toString "; ").toList.length = 2 := by decide
      have c3 : (toString ka.shown).toList.length = ka.shown.toList.length := rfl
      have c4 : (toString kb.shown).toList.length = kb.shown.toList.length := rfl
      have c5 : (toString (vm.home ka)).toList.length = (vm.home ka).toList.length := rfl
      have c6 : (toString (vm.home kb)).toList.length = (vm.home kb).toList.length := rfl
      omega
  have e0 : Op.checkcast.message vm ka kb = toString "class " ++ toString ka.shown ++ toString " cannot be cast to class " ++ toString kb.shown ++ toString " (" ++ toString (vm.homes ka kb) ++ toString ")" := rfl
  refine ⟨?_, ?_⟩
  · rw [beq_eq_false_iff_ne]
    intro h
    have h2 := congrArg String.toList h
    rw [e0] at h2
    simp only [String.toList_append] at h2
    have h4 : notModelled.toList = '\u0000' :: " a message that is not modelled".toList := by decide
    have h5 : (toString "class ").toList = 'c' :: "lass ".toList := by decide
    rw [h4, h5] at h2
    simp only [List.cons_append, List.cons.injEq] at h2
    exact absurd h2.1 (by decide)
  · have q1 := stringBytes_size_le (stringToUtf16 (Op.checkcast.message vm ka kb))
    have q2 := utf16_size_le (Op.checkcast.message vm ka kb)
    have q3 : (Op.checkcast.message vm ka kb).toList.length ≤ 240 := by
      rw [e0]
      simp only [String.toList_append, List.length_append]
      have c1 : (toString "class ").toList.length = 6 := by decide
      have c2 : (toString " cannot be cast to class ").toList.length = 25 := by decide
      have c3 : (toString " (").toList.length = 2 := by decide
      have c4 : (toString ")").toList.length = 1 := by decide
      have c5 : (toString ka.shown).toList.length = ka.shown.toList.length := rfl
      have c6 : (toString kb.shown).toList.length = kb.shown.toList.length := rfl
      have c7 : (toString (vm.homes ka kb)).toList.length = (vm.homes ka kb).toList.length := rfl
      omega
    omega
section LC
variable {p : Program} {l : Launch} {e : Env} {Rm : Room} {s : State} {m : MethodId} {args : Array Value} {below : List Frame} {meth : Method} {c : Code} {rc rs : Nat}
variable {cc : ByteArray} {nl pc : Nat} {ls : Array Slot} {rest st : List Value} {own : String} {D : va_G} {dA : Nat → ClassId} {N : Nat} {ad : Nat → Nat} {K : gK} {I : mG} {R : gR}
theorem T_msgT {cls : String} {names : List String} (ok : armOk cls names) {tn : Nat} (htn : tn ≤ 4096) (hl0 : l.stackTraces = false) (hC : CallFix p m c cc nl s args lw_all own) (hlk : meth.locks = false) (htb : c.exceptionTable.toList = []) (hX : gX s) (hZ : gZ s) (hl : ls.size = nl) (hw : gw D dA (nA (List.range N) ad s.heap.size) s.heap (List.range N) ad K I R s.heap []) {post : Addr → gS → Prop} (hq : ∀ x, post x (N, ad, K, I, R)) (hr : 7 < Rm.frames ∧ (rest.map fun v => v.category).sum + 10240 ≤ Rm.locals ∧ 3 ≤ Rm.cells ∧ tn + 10 ≤ Rm.slots) (hk : 3 ≤ rc ∧ tn + 10 ≤ rs)
    (step : ∀ T, T.heap = s.heap → Stand p l e Rm s m args below meth c T [] 0 0 → ∃ T' text, T'.heap = s.heap ∧ (text == notModelled) = false ∧ (stringBytes (stringToUtf16 text)).size ≤ tn ∧ Stand p l e Rm s m args below meth c T' [] 0 0 ∧ ∀ tg, Steps p.tables e below ((T'.setTop (F0 m pc ls rest)).pushFrame (.throwNew cls (some text) none)) tg → Steps p.tables e below (T.setTop (F0 m pc ls st)) tg) : W p l e Rm s m args below meth c s.heap [] 0 0 (MQT below (gQT D dA N ad K s.heap.size cls post) args s rc rs (nA (List.range N) ad s.heap.size)) (F0 m pc ls st) := by
  intro T0 hT0 X0
  obtain ⟨T, text, hT, htx, hsz, X, step⟩ := step T0 hT0 X0
  have htr : e.platform.stackTraces = false := by rw [Example.NoTraceControls.admits_follows X.admits]; exact hl0
  obtain ⟨k1, k2, k3, k4, ⟨ps, k5⟩, k6, k7⟩ := ok
  obtain ⟨U, h1, h2, h3, h4, ⟨n, hn, h5⟩, cb, cs, ce, -, -, h6, -, -, KE⟩ := X.messageArmCells hC.1 htr (text := text) k1 k2 k3 k4 (arm_ok hC.2.2.2.2 hX hZ ps k5 k6) (fun x hx => by cases hx) htx (by rw [Launch.admits_arrayLengthLimit X.admits]; omega) (by rw [Launch.admits_maxHeapBytes X.admits]; show ¬ _ * 1 > _; omega) (g := F0 m pc ls rest) rfl (hl.trans hC.2.2.1.symm) rfl rfl (by rw [htb]; intro y hy; cases hy) (by omega) (by show 2 * 0 + (rest.map fun v => v.category).sum + 10240 ≤ _; omega) (by omega) (by omega) (by omega) hlk
  exact ⟨U, step U h1, T_end hw (hq _) h2 h3 h4 h5 (by omega) h6 KE.cls KE.vm⟩
theorem L_cast {a : Addr} {C nm : String} {index : Nat} (hcl : Cond.classLink own index nm ∈ lw_all) (hno : va_Nc C nm s) (hrv : ∃ cell : Cell, s.heap[a]? = some cell ∧ cell.vm.isStatics = false ∧ s.vm.findClass C = some cell.cls) (hA : C ∈ [RX4, RX5, RX9, RX10, RX11, RX12]) (hB : nm ∈ [RX4, RX5, RX9, RX10, RX11, RX12])
    (hl0 : l.stackTraces = false) (hC : CallFix p m c cc nl s args lw_all own) (hlk : meth.locks = false) (htb : c.exceptionTable.toList = []) (hX : gX s) (hZ : gZ s) (hl : ls.size = nl) (hw : gw D dA (nA (List.range N) ad s.heap.size) s.heap (List.range N) ad K I R s.heap []) {post : Addr → gS → Prop} (hq : ∀ x, post x (N, ad, K, I, R)) (hr : 7 < Rm.frames ∧ ((Value.ref a :: rest).map fun v => v.category).sum + 10240 ≤ Rm.locals ∧ 3 ≤ Rm.cells ∧ 1000 + 10 ≤ Rm.slots) (hk : 3 ≤ rc ∧ 1000 + 10 ≤ rs) (hdg : decode cc pc = .ok (.checkcast index, 3)) :
    W p l e Rm s m args below meth c s.heap [] 0 0 (MQT below (gQT D dA N ad K s.heap.size "java/lang/ClassCastException" post) args s rc rs (nA (List.range N) ad s.heap.size)) (F0 m pc ls (.ref a :: rest)) := by
  refine T_msgT (rest := .ref a :: rest) ok_cce (tn := 1000) (by decide) hl0 hC hlk htb hX hZ hl hw hq hr hk (fun T hT X => ?_)
  obtain ⟨hx, hb, -, hown, hts⟩ := hC
  obtain ⟨cell, hcell, hobj, hcls⟩ := hrv
  have hpl : e.platform.magicAccessors = ({} : Platform).magicAccessors := by rw [X.admits.platform]
  obtain ⟨c1, c2, w1, w2, w3⟩ := hno
  cases hcls.symm.trans w1
  obtain ⟨c', hc', hcl'⟩ := Cond.classLink_spec hown (hts _ hcl) e.platform hpl
  cases w2.symm.trans hc'
  obtain ⟨dk, _, _, kt, hd, _, _, _, _, hkt, _, hopen⟩ := hcl'.here
  have hcl₀ := X.warmed.classLinks hcl'
  have hW' : s.WarmedH (T.vm.noted m.cls index (.cls c2)) := X.warmed.noted hd hopen (State.rightAt_cls hcl')
  obtain ⟨ks, hks, -⟩ := Vm.findClass_spec hcls
  obtain ⟨ks', hks', -⟩ := hW'.alike.2.2 _ _ hks
  obtain ⟨kt', hkt', -⟩ := hW'.alike.2.2 _ _ hkt
  have hmod : ((T.vm.noted m.cls index (.cls c2)).modules.all fun m => m.loader.isSome || m.name == "java.base" || !(castPackages_1.any fun p => m.packages.contains p)) = true := by
    have e := hZ.2.2.2.1
    unfold modulesRight_1 at e
    rw [hW'.alike.1]
    exact e
  obtain ⟨t1, t2⟩ := cast_text hmod (by rw [hW'.alike.findClass]; exact hcls) hks' (by rw [hW'.alike.findClass]; exact w2) hkt' hA hB
  refine ⟨T.setVm (T.vm.noted m.cls index (.cls c2)), _, hT, t1, t2, X.noted hW', fun target hrest => ?_⟩
  jvm_step X.here [hx, hb, hdg, Op.checkcast.wp_cold (e := e) (s := T) (f := F0 m pc ls (.ref a :: rest)) (a := a) (rest := rest) X.here.top rfl (resolveClass_links e.toSetting hcl₀) hcl₀.ready,
    Op.checkcast.wp_ready (e := e) (s := T.setVm (T.vm.noted m.cls index (.cls c2))) (f := F0 m pc ls (.ref a :: rest)) X.here.top hcl₀.ready rfl]
  refine ⟨cell, by rw [hT]; exact hcell, VmData.noStatics_of hobj, ks', hks', kt', hkt', ?_⟩
  have h1 : (T.vm.noted m.cls index (Resolved.cls c2)).assignable cell.cls c2 = false := by rw [hW'.alike.assignable]; exact w3
  simp only [h1]
  exact hrest
end LC
