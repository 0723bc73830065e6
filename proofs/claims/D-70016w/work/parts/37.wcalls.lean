/-! ===== calls on works (by gen/w37.py) ===== -/
theorem Met.weak {l : Launch} {y : MethodName} {ws : List Cond} {rm : Room} {Pc Pc' : Array Value → State → Prop} {Qc Qc' : Array Value → State → Outcome → State → Prop} {mc ms : Nat} {free free' : Addr → Prop} (h : Met l y ws rm Pc Qc mc ms free) (hp : ∀ a U, Pc' a U → Pc a U) (hq : ∀ a st o t, Pc' a st → Qc a st o t → Qc' a st o t) (hf : ∀ a, free a → free' a) : Met l y ws rm Pc' Qc' mc ms free' := by
  intro p e h1 h2 h3 s m args below h4 h5 h6 h7
  obtain ⟨n, o, a1, a2, a3, a4, L, a5, a6⟩ := h p e h1 h2 h3 s m args below h4 h5 (hp _ _ h6) trivial
  exact ⟨n, o, a1, a2, a3, hq _ _ _ _ h6 a4, L, a5, fun q hq => hf _ (a6 q hq)⟩
theorem gI.ofp {l : Launch} {y : MethodName} {cc : ByteArray} {nl : Nat} {ty : FieldType} {rm : Room} {as : List Value} {r : Int32} (h : pS l y cc nl ty rm as r) (dom : List Nat) (ad : Nat → Nat) (K : gK) (I : mG) (R : gR) : gI l y cc nl ty rm as dom ad K I R (fun r' S => r' = r ∧ S = (I, R)) := by
  intro D dA sz
  refine Met.weak h (fun a U q => q.1) ?_ (fun a q => q.elim)
  rintro a st o t ⟨ha, hsz, hK, hX, hP, hD, hc⟩ ⟨ho, hh⟩
  refine ⟨⟨r, (I, R), ho, ⟨rfl, rfl⟩, ?_, nD_self hD, hc⟩, by rw [hh]; exact Nat.le_refl _, fun q _ _ => by rw [hh]⟩
  rw [hh]
  exact hP
theorem lw_U {own : String} {idx : Nat} {C owner : String} {x y : MethodName} {b : ByteArray} {L : Nat} {r : Option FieldType} (h1 : Cond.methodLink own idx x ∈ lw_all) (h2 : Cond.sameMethod x.cls owner x.name x.desc ∈ lw_all) (h3 : Cond.selects C x y ∈ lw_all) (h4 : Cond.instanceMethod y ∈ lw_all) (h5 : Cond.initialized y.cls ∈ lw_all) (h6 : Cond.code y b L r ∈ lw_all) : GoodIn lw_all (va_wsU own idx C owner x y (ws_ y b L r)) := by
  refine lw_app ?_ (lw_meth h6)
  intro w hw
  simp only [List.mem_cons, List.not_mem_nil, or_false] at hw
  rcases hw with e | e | e | e | e
  · rw [e]; exact h1
  · rw [e]; exact h2
  · rw [e]; exact h3
  · rw [e]; exact h4
  · rw [e]; exact h5
theorem lw_SU {own : String} {idx : Nat} {y : MethodName} {b : ByteArray} {L : Nat} {r : Option FieldType} (h1 : Cond.methodLink own idx y ∈ lw_all) (h2 : Cond.sameMethod y.cls y.cls y.name y.desc ∈ lw_all) (h3 : Cond.superclass own y.cls ∈ lw_all) (h4 : Cond.instanceMethod y ∈ lw_all) (h5 : Cond.initialized y.cls ∈ lw_all) (h6 : Cond.code y b L r ∈ lw_all) : GoodIn lw_all (va_wsSU own idx y (ws_ y b L r)) := by
  refine lw_app ?_ (lw_meth h6)
  intro w hw
  simp only [List.mem_cons, List.not_mem_nil, or_false] at hw
  rcases hw with e | e | e | e | e
  · rw [e]; exact h1
  · rw [e]; exact h2
  · rw [e]; exact h3
  · rw [e]; exact h4
  · rw [e]; exact h5
theorem va_cwSU2 {R : Room} {s : State} {args : Array Value} {own : String} {index maxL mc ms : Nat} {x y : MethodName} {bytes : ByteArray} {ret : Option FieldType} {rm : Room} (n : Nat) (ht : ∀ w ∈ lw_all, w.before args s = true) (h1 : Cond.methodLink own index x ∈ lw_all) (h2 : Cond.sameMethod x.cls y.cls x.name x.desc ∈ lw_all) (h3 : Cond.superclass own x.cls ∈ lw_all) (h3b : Cond.superclass x.cls y.cls ∈ lw_all) (h4 : Cond.instanceMethod y ∈ lw_all) (h5 : Cond.initialized y.cls ∈ lw_all) (h6 : Cond.code y bytes maxL ret ∈ lw_all) (hxy : x.name = y.name ∧ x.desc = y.desc) (hrc : rm.cells = mc) (hrs : rm.slots = ms)
    (hd : y.name ≠ "<init>" ∧ (parseMethodDescriptor y.desc).map (fun d => d.parameters.length) = some n) (hR : rm.frames + 1 ≤ R.frames ∧ 8 + (maxL + 11) + rm.locals ≤ R.locals) : va_CS2 R s args own index x y bytes maxL ret (ws_ y bytes maxL ret) rm mc ms n := by
  refine ⟨⟨hrc, hrs, hR.1, hR.2, pay_in ht (lw_meth h6), List.mem_cons_self⟩, hxy, ht _ h1, ht _ h2, ht _ h3, ht _ h3b, ht _ h4, ht _ h5, ht _ h6, hd.1, fun sig h => ?_⟩
  have h2 := hd.2
  rw [h] at h2
  exact (Option.some.inj h2).symm
section GV2
variable {p : Program} {l : Launch} {e : Env} {Rm : Room} {s : State} {m : MethodId} {args : Array Value} {below : List Frame} {meth : Method} {c : Code} {H : Heap} {locs : List Loc} {cells slots : Nat} {Q : State → Prop}
variable {cc : ByteArray} {nl pc : Nat} {ls : Array Slot} {rest : List Value} {D : va_G} {dA : Nat → ClassId} {A : Nat → Prop} {H0 : Heap} {dom : List Nat} {ad : Nat → Nat} {K : gK} {I : mG} {R : gR} {own : String}
/-- a virtual call: x (of the class owner) as the object's class runs it -/
theorem g_virt {C : String} {T : u_T} (hC : CallFix p m c cc nl s args lw_all own) (hl : ls.size = nl) (hK : va_K D cCl (cTy dA) s) (hX : gX s) (hw : gw D dA A H0 dom ad K I R H locs) {n0 ci : Nat} (hn0 : n0 ∈ dom) (hk0 : (K n0).1 = ci) (hc20 : ci < 20) (hc : cCl[ci]? = some (C, T, gN ci)) {owner : String} {x y : MethodName} {bytes : ByteArray} {maxL index n : Nat} {ty : FieldType} {rm : Room} {as : List Value} {post : Int32 → mG × gR → Prop} (hM : gI l y bytes maxL ty rm (.ref (ad n0) :: as) dom ad K I R post) (cw : va_CU Rm s args own C owner index x y bytes maxL (some ty) (ws_ y bytes maxL (some ty)) rm 0 0 n)
    (hn : as.length = n) {st0 : List Value} (hst : st0 = as.reverse ++ .ref (ad n0) :: rest) (hW : (rest.map fun v => v.category).sum ≤ 8) (hdg : decode cc pc = .ok (.invokevirtual index, 3)) (hf : cells ≤ Rm.cells ∧ slots ≤ Rm.slots)
    (kk : ∀ (r : Int32) (I' : mG) (R' : gR) (H' : Heap) (locs' : List Loc), post r (I', R') → gw D dA A H0 dom ad K I' R' H' locs' → W p l e Rm s m args below meth c H' locs' cells slots Q (F0 m (pc + 3) ls (.int r :: rest))) : W p l e Rm s m args below meth c H locs cells slots Q (F0 m pc ls st0) := by
  refine va_calli (va_runU (As := as) (rest := rest) hC (hM D dA H.size) cw ⟨fun a U g mk q => ⟨q.1, q.2.moved (V := U.calling g mk a) rfl rfl⟩, g_recv hK hw hn0 hk0 hc20 hc, fun U hU hWm => ⟨rfl, by rw [hU], hK.moved hWm.alike, hX.warm hWm, by rw [hU]; exact hw.1.1, hw.1.2.1.weaken (fun _ _ _ _ => trivial), hw.2⟩⟩ rfl hn hl hst (lv_room hW) hdg hf) hw.1.2.2.1 (fun q _ h => hw.1.free q h) hw.1.free (fun r S t H1 locs1 ht hvm hq hB hz1 hk1 hS => ?_)
  refine kk r S.1 S.2 H1 locs1 hq ⟨⟨?_, hB.2.1.weaken (fun _ _ _ h => hw.1.free _ h), hS, hw.1.2.2.2⟩, hB.2.2⟩
  rw [← ht]
  exact hB.1
theorem g_sup {C : String} {T : u_T} (hC : CallFix p m c cc nl s args lw_all own) (hl : ls.size = nl) (hK : va_K D cCl (cTy dA) s) (hX : gX s) (hw : gw D dA A H0 dom ad K I R H locs) {n0 ci : Nat} (hn0 : n0 ∈ dom) (hk0 : (K n0).1 = ci) (hc20 : ci < 20) (hc : cCl[ci]? = some (C, T, gN ci)) {y : MethodName} {bytes : ByteArray} {maxL index n : Nat} {ty : FieldType} {rm : Room} {as : List Value} {post : Int32 → mG × gR → Prop} (hM : gI l y bytes maxL ty rm (.ref (ad n0) :: as) dom ad K I R post)
    (hT : GoodIn lw_all (va_wsSU own index y (ws_ y bytes maxL (some ty)))) (hrc : rm.cells = 0) (hrs : rm.slots = 0) (hd : y.name ≠ "<init>" ∧ (parseMethodDescriptor y.desc).map (fun d => d.parameters.length) = some n) (hR : rm.frames + 1 ≤ Rm.frames ∧ 8 + (maxL + 11) + rm.locals ≤ Rm.locals)
    (hn : as.length = n) {st0 : List Value} (hst : st0 = as.reverse ++ .ref (ad n0) :: rest) (hW : (rest.map fun v => v.category).sum ≤ 8) (hdg : decode cc pc = .ok (.invokespecial index, 3)) (hf : cells ≤ Rm.cells ∧ slots ≤ Rm.slots)
    (kk : ∀ (r : Int32) (I' : mG) (R' : gR) (H' : Heap) (locs' : List Loc), post r (I', R') → gw D dA A H0 dom ad K I' R' H' locs' → W p l e Rm s m args below meth c H' locs' cells slots Q (F0 m (pc + 3) ls (.int r :: rest))) : W p l e Rm s m args below meth c H locs cells slots Q (F0 m pc ls st0) := by
  refine va_calli (va_runSU (As := as) (rest := rest) (hK.1 ci _ hc).2 hC (hM D dA H.size) (va_cwSU n hC.2.2.2.2 hT rfl hrc hrs hd hR) ⟨fun a U g mk q => ⟨q.1, q.2.moved (V := U.calling g mk a) rfl rfl⟩, g_recv hK hw hn0 hk0 hc20 hc, fun U hU hWm => ⟨rfl, by rw [hU], hK.moved hWm.alike, hX.warm hWm, by rw [hU]; exact hw.1.1, hw.1.2.1.weaken (fun _ _ _ _ => trivial), hw.2⟩⟩ rfl hn hl hst (lv_room hW) hdg hf) hw.1.2.2.1 (fun q _ h => hw.1.free q h) hw.1.free (fun r S t H1 locs1 ht hvm hq hB hz1 hk1 hS => ?_)
  refine kk r S.1 S.2 H1 locs1 hq ⟨⟨?_, hB.2.1.weaken (fun _ _ _ h => hw.1.free _ h), hS, hw.1.2.2.2⟩, hB.2.2⟩
  rw [← ht]
  exact hB.1
theorem g_sup2 {C : String} {T : u_T} (hC : CallFix p m c cc nl s args lw_all own) (hl : ls.size = nl) (hK : va_K D cCl (cTy dA) s) (hX : gX s) (hw : gw D dA A H0 dom ad K I R H locs) {n0 ci : Nat} (hn0 : n0 ∈ dom) (hk0 : (K n0).1 = ci) (hc20 : ci < 20) (hc : cCl[ci]? = some (C, T, gN ci)) {x y : MethodName} {bytes : ByteArray} {maxL index n : Nat} {ty : FieldType} {rm : Room} {as : List Value} {post : Int32 → mG × gR → Prop} (hM : gI l y bytes maxL ty rm (.ref (ad n0) :: as) dom ad K I R post)
    (hT : va_CS2 Rm s args own index x y bytes maxL (some ty) (ws_ y bytes maxL (some ty)) rm 0 0 n)
    (hn : as.length = n) {st0 : List Value} (hst : st0 = as.reverse ++ .ref (ad n0) :: rest) (hW : (rest.map fun v => v.category).sum ≤ 8) (hdg : decode cc pc = .ok (.invokespecial index, 3)) (hf : cells ≤ Rm.cells ∧ slots ≤ Rm.slots)
    (kk : ∀ (r : Int32) (I' : mG) (R' : gR) (H' : Heap) (locs' : List Loc), post r (I', R') → gw D dA A H0 dom ad K I' R' H' locs' → W p l e Rm s m args below meth c H' locs' cells slots Q (F0 m (pc + 3) ls (.int r :: rest))) : W p l e Rm s m args below meth c H locs cells slots Q (F0 m pc ls st0) := by
  refine va_calli (va_runSU2 (As := as) (rest := rest) (hK.1 ci _ hc).2 hC (hM D dA H.size) hT ⟨fun a U g mk q => ⟨q.1, q.2.moved (V := U.calling g mk a) rfl rfl⟩, g_recv hK hw hn0 hk0 hc20 hc, fun U hU hWm => ⟨rfl, by rw [hU], hK.moved hWm.alike, hX.warm hWm, by rw [hU]; exact hw.1.1, hw.1.2.1.weaken (fun _ _ _ _ => trivial), hw.2⟩⟩ rfl hn hl hst (lv_room hW) hdg hf) hw.1.2.2.1 (fun q _ h => hw.1.free q h) hw.1.free (fun r S t H1 locs1 ht hvm hq hB hz1 hk1 hS => ?_)
  refine kk r S.1 S.2 H1 locs1 hq ⟨⟨?_, hB.2.1.weaken (fun _ _ _ h => hw.1.free _ h), hS, hw.1.2.2.2⟩, hB.2.2⟩
  rw [← ht]
  exact hB.1
end GV2
set_option maxHeartbeats 4000000 in
theorem tX12_north (l : Launch) (dom : List Nat) (ad : Nat → Nat) (K : gK) (I : mG) (R : gR) (w : Nat) (x z : Int32) (h0 : w ∈ dom) (h1 : (K w).1 = 8) : gI l yX12_north cX12_north 3 .int ({ frames := 1, cells := 0, slots := 0, locals := 22 } : Room) [.ref (ad w), .int x, .int z] dom ad K I R (fun r S => r = (if irem z (nI 2) = nI 1 then nI 0 else x) ∧ S = (I, R)) := by
  refine gI.of (by decide) (Nat.le_of_ble_eq_true rfl) ?_
  intro D dA p e s m below meth cd ls hC hlk hr hK hX hl hw
  have hl : lv_has ls 3 [(0, .ref (ad w)), (1, .int x), (2, .int z)] := hl
  refine lv_iload_n hC.1 hC.2.1 dX12_north_0 rfl (lv_at hl 2 rfl) ?_
  refine lv_iconst (v := (nI 2)) hC.1 hC.2.1 dX12_north_1 (by decide) ?_
  refine lv_irem hC.1 hC.2.1 dX12_north_2 (by decide) ?_
  refine lv_iconst (v := (nI 1)) hC.1 hC.2.1 dX12_north_3 (by decide) ?_
  refine lv_icmp_ne (tgt := 11) hC.1 hC.2.1 dX12_north_4 (by decide) (fun c4 => ?_) (fun c4 => ?_)
  · refine lv_aload_n hC.1 hC.2.1 dX12_north_11 rfl (lv_at hl 0 rfl) ?_
    refine lv_iload_n hC.1 hC.2.1 dX12_north_12 rfl (lv_at hl 1 rfl) ?_
    refine lv_iload_n hC.1 hC.2.1 dX12_north_13 rfl (lv_at hl 2 rfl) ?_
    refine g_sup (n := 2) (C := RX12) (T := TX12) hC hl.1 hK hX hw h0 h1 (by decide) rfl (gI.ofp (tX11_north l (ad w) x z) dom ad K I R) (lw_SU q808 q1498 q687 q799 q86 q800) rfl rfl (by decide +kernel) ⟨by decide, by decide⟩ rfl rfl (Nat.le_of_ble_eq_true rfl) dX12_north_14 ⟨Nat.zero_le _, Nat.zero_le _⟩ ?_
    rintro r2 I2 R2 H locs ⟨hr2, hS2⟩ hw
    rw [hr2]
    replace hw := hw.eq (Prod.mk.inj hS2).1 (Prod.mk.inj hS2).2
    exact g_iret hC hlk hr hw rfl ⟨by rw [if_neg (show ¬ irem z (nI 2) = nI 1 from c4)], rfl⟩ dX12_north_17
  · refine lv_iconst (v := (nI 0)) hC.1 hC.2.1 dX12_north_7 (by decide) ?_
    refine lv_goto (tgt := 17) hC.1 hC.2.1 dX12_north_8 (by decide) ?_
    exact g_iret hC hlk hr hw rfl ⟨by rw [if_pos (show irem z (nI 2) = nI 1 from c4)], rfl⟩ dX12_north_17
set_option maxHeartbeats 4000000 in
theorem tX9_on (l : Launch) (dom : List Nat) (ad : Nat → Nat) (K : gK) (I : mG) (R : gR) (w : Nat) (x z : Int32) (h0 : w ∈ dom) (h1 : (K w).1 = 5) : gI l yX9_on cX9_on 3 .int ({ frames := 1, cells := 0, slots := 0, locals := 22 } : Room) [.ref (ad w), .int x, .int z] dom ad K I R (fun r S => r = nI 0 + x / nI 2 ∧ S = (I, R)) := by
  refine gI.of (by decide) (Nat.le_of_ble_eq_true rfl) ?_
  intro D dA p e s m below meth cd ls hC hlk hr hK hX hl hw
  have hl : lv_has ls 3 [(0, .ref (ad w)), (1, .int x), (2, .int z)] := hl
  refine lv_aload_n hC.1 hC.2.1 dX9_on_0 rfl (lv_at hl 0 rfl) ?_
  refine lv_iload_n hC.1 hC.2.1 dX9_on_1 rfl (lv_at hl 1 rfl) ?_
  refine lv_iload_n hC.1 hC.2.1 dX9_on_2 rfl (lv_at hl 2 rfl) ?_
  refine g_sup2 (n := 2) (C := RX9) (T := TX9) hC hl.1 hK hX hw h0 h1 (by decide) rfl (gI.ofp (tX4_on l (ad w) x z) dom ad K I R) (va_cwSU2 2 hC.2.2.2.2 q785 q786 q660 q201 q779 q64 q794 ⟨rfl, rfl⟩ rfl rfl (by decide +kernel) ⟨by decide, by decide⟩) rfl rfl (Nat.le_of_ble_eq_true rfl) dX9_on_3 ⟨Nat.zero_le _, Nat.zero_le _⟩ ?_
  rintro r2 I2 R2 H locs ⟨hr2, hS2⟩ hw
  rw [hr2]
  replace hw := hw.eq (Prod.mk.inj hS2).1 (Prod.mk.inj hS2).2
  refine lv_iload_n hC.1 hC.2.1 dX9_on_6 rfl (lv_at hl 1 rfl) ?_
  refine lv_iconst (v := (nI 2)) hC.1 hC.2.1 dX9_on_7 (by decide) ?_
  refine lv_idiv hC.1 hC.2.1 dX9_on_8 (by decide) ?_
  refine lv_iadd hC.1 hC.2.1 dX9_on_9 ?_
  exact g_iret hC hlk hr hw rfl ⟨rfl, rfl⟩ dX9_on_10
set_option maxHeartbeats 4000000 in
theorem tX10_on (l : Launch) (dom : List Nat) (ad : Nat → Nat) (K : gK) (I : mG) (R : gR) (w : Nat) (x : Int32) (b : Bool) (h0 : w ∈ dom) (h1 : (K w).1 = 6) : gI l yX10_on cX10_on 3 .int ({ frames := 1, cells := 0, slots := 0, locals := 22 } : Room) [.ref (ad w), .int x, .int (bI b)] dom ad K I R (fun r S => r = (if b = true then x else nI 0) ∧ S = (I, R)) := by
  refine gI.of (by decide) (Nat.le_of_ble_eq_true rfl) ?_
  intro D dA p e s m below meth cd ls hC hlk hr hK hX hl hw
  have hl : lv_has ls 3 [(0, .ref (ad w)), (1, .int x), (2, .int (bI b))] := hl
  refine lv_iload_n hC.1 hC.2.1 dX10_on_0 rfl (lv_at hl 2 rfl) ?_
  refine k_beq (tgt := 8) hC dX10_on_1 (by decide) (fun c1 => ?_) (fun c1 => ?_)
  · refine lv_aload_n hC.1 hC.2.1 dX10_on_8 rfl (lv_at hl 0 rfl) ?_
    refine lv_iload_n hC.1 hC.2.1 dX10_on_9 rfl (lv_at hl 1 rfl) ?_
    refine lv_iload_n hC.1 hC.2.1 dX10_on_10 rfl (lv_at hl 2 rfl) ?_
    refine g_sup2 (n := 2) (C := RX10) (T := TX10) hC hl.1 hK hX hw h0 h1 (by decide) rfl (gI.ofp (tX4_on l (ad w) x (bI b)) dom ad K I R) (va_cwSU2 2 hC.2.2.2.2 q791 q786 q669 q201 q779 q64 q794 ⟨rfl, rfl⟩ rfl rfl (by decide +kernel) ⟨by decide, by decide⟩) rfl rfl (Nat.le_of_ble_eq_true rfl) dX10_on_11 ⟨Nat.zero_le _, Nat.zero_le _⟩ ?_
    rintro r2 I2 R2 H locs ⟨hr2, hS2⟩ hw
    rw [hr2]
    replace hw := hw.eq (Prod.mk.inj hS2).1 (Prod.mk.inj hS2).2
    exact g_iret hC hlk hr hw rfl ⟨by rw [if_neg (by rw [c1]; decide)], rfl⟩ dX10_on_14
  · refine lv_iload_n hC.1 hC.2.1 dX10_on_4 rfl (lv_at hl 1 rfl) ?_
    refine lv_goto (tgt := 14) hC.1 hC.2.1 dX10_on_5 (by decide) ?_
    exact g_iret hC hlk hr hw rfl ⟨by rw [if_pos c1], rfl⟩ dX10_on_14
set_option maxHeartbeats 4000000 in
theorem tX4_cell (l : Launch) (dom : List Nat) (ad : Nat → Nat) (K : gK) (I : mG) (R : gR) (w : Nat) (h0 : w ∈ dom) (k : Nat) (h1 : (K w).1 = 3 + k) (h2 : 1 ≤ k ∧ k ≤ 5) : gI l yX4_cell cX4_cell 1 .int ({ frames := 0, cells := 0, slots := 0, locals := 0 } : Room) [.ref (ad w)] dom ad K I R (fun r S => r = I w 0 ∧ S = (I, R)) := by
  refine gI.of (by decide) (Nat.le_of_ble_eq_true rfl) ?_
  intro D dA p e s m below meth cd ls hC hlk hr hK hX hl hw
  have hl : lv_has ls 1 [(0, .ref (ad w))] := hl
  refine lv_aload_n hC.1 hC.2.1 dX4_cell_0 rfl (lv_at hl 0 rfl) ?_
  have hk : k = 1 ∨ k = 2 ∨ k = 3 ∨ k = 4 ∨ k = 5 := by omega
  rcases hk with rfl | rfl | rfl | rfl | rfl
  · refine g_get (C := RX5) (T := TX5) (ref := RX4) hC hK hw h0 h1 (by decide) rfl in_X5 0 (by decide) q195 (fun x h => h) (v := .int (I w 0)) rfl dX4_cell_1 ?_
    exact g_iret hC hlk hr hw rfl ⟨rfl, rfl⟩ dX4_cell_4
  · refine g_get (C := RX9) (T := TX9) (ref := RX4) hC hK hw h0 h1 (by decide) rfl in_X9 0 (by decide) q195 (fun x h => h) (v := .int (I w 0)) rfl dX4_cell_1 ?_
    exact g_iret hC hlk hr hw rfl ⟨rfl, rfl⟩ dX4_cell_4
  · refine g_get (C := RX10) (T := TX10) (ref := RX4) hC hK hw h0 h1 (by decide) rfl in_X10 0 (by decide) q195 (fun x h => h) (v := .int (I w 0)) rfl dX4_cell_1 ?_
    exact g_iret hC hlk hr hw rfl ⟨rfl, rfl⟩ dX4_cell_4
  · refine g_get (C := RX11) (T := TX11) (ref := RX4) hC hK hw h0 h1 (by decide) rfl in_X11 0 (by decide) q195 (fun x h => h) (v := .int (I w 0)) rfl dX4_cell_1 ?_
    exact g_iret hC hlk hr hw rfl ⟨rfl, rfl⟩ dX4_cell_4
  · refine g_get (C := RX12) (T := TX12) (ref := RX4) hC hK hw h0 h1 (by decide) rfl in_X12 0 (by decide) q195 (fun x h => h) (v := .int (I w 0)) rfl dX4_cell_1 ?_
    exact g_iret hC hlk hr hw rfl ⟨rfl, rfl⟩ dX4_cell_4
set_option maxHeartbeats 4000000 in
theorem tX4_holds (l : Launch) (dom : List Nat) (ad : Nat → Nat) (K : gK) (I : mG) (R : gR) (w : Nat) (h0 : w ∈ dom) (k : Nat) (h1 : (K w).1 = 3 + k) (h2 : 1 ≤ k ∧ k ≤ 5) : gI l yX4_holds cX4_holds 1 .int ({ frames := 0, cells := 0, slots := 0, locals := 0 } : Room) [.ref (ad w)] dom ad K I R (fun r S => r = I w 1 ∧ S = (I, R)) := by
  refine gI.of (by decide) (Nat.le_of_ble_eq_true rfl) ?_
  intro D dA p e s m below meth cd ls hC hlk hr hK hX hl hw
  have hl : lv_has ls 1 [(0, .ref (ad w))] := hl
  refine lv_aload_n hC.1 hC.2.1 dX4_holds_0 rfl (lv_at hl 0 rfl) ?_
  have hk : k = 1 ∨ k = 2 ∨ k = 3 ∨ k = 4 ∨ k = 5 := by omega
  rcases hk with rfl | rfl | rfl | rfl | rfl
  · refine g_get (C := RX5) (T := TX5) (ref := RX4) hC hK hw h0 h1 (by decide) rfl in_X5 1 (by decide) q196 (fun x h => h) (v := .int (I w 1)) rfl dX4_holds_1 ?_
    exact g_iret hC hlk hr hw rfl ⟨rfl, rfl⟩ dX4_holds_4
  · refine g_get (C := RX9) (T := TX9) (ref := RX4) hC hK hw h0 h1 (by decide) rfl in_X9 1 (by decide) q196 (fun x h => h) (v := .int (I w 1)) rfl dX4_holds_1 ?_
    exact g_iret hC hlk hr hw rfl ⟨rfl, rfl⟩ dX4_holds_4
  · refine g_get (C := RX10) (T := TX10) (ref := RX4) hC hK hw h0 h1 (by decide) rfl in_X10 1 (by decide) q196 (fun x h => h) (v := .int (I w 1)) rfl dX4_holds_1 ?_
    exact g_iret hC hlk hr hw rfl ⟨rfl, rfl⟩ dX4_holds_4
  · refine g_get (C := RX11) (T := TX11) (ref := RX4) hC hK hw h0 h1 (by decide) rfl in_X11 1 (by decide) q196 (fun x h => h) (v := .int (I w 1)) rfl dX4_holds_1 ?_
    exact g_iret hC hlk hr hw rfl ⟨rfl, rfl⟩ dX4_holds_4
  · refine g_get (C := RX12) (T := TX12) (ref := RX4) hC hK hw h0 h1 (by decide) rfl in_X12 1 (by decide) q196 (fun x h => h) (v := .int (I w 1)) rfl dX4_holds_1 ?_
    exact g_iret hC hlk hr hw rfl ⟨rfl, rfl⟩ dX4_holds_4
def onK (k : Nat) (v : Int32) (b : Bool) : Int32 := if k = 2 then nI 0 + v / nI 2 else if k = 3 then (if b = true then v else nI 0) else nI 0
def nrK (k : Nat) (v h : Int32) : Int32 := if k = 4 then v else if k = 5 then (if irem h (nI 2) = nI 1 then nI 0 else v) else v / nI 2
section WC
variable {p : Program} {l : Launch} {e : Env} {Rm : Room} {s : State} {m : MethodId} {args : Array Value} {below : List Frame} {meth : Method} {c : Code} {H : Heap} {locs : List Loc} {cells slots : Nat} {Q : State → Prop}
variable {cc : ByteArray} {nl pc : Nat} {ls : Array Slot} {rest : List Value} {D : va_G} {dA : Nat → ClassId} {A : Nat → Prop} {H0 : Heap} {dom : List Nat} {ad : Nat → Nat} {K : gK} {I : mG} {R : gR}
theorem w_on (hC : CallFix p m c cc nl s args lw_all RX2) (hl : ls.size = nl) (hK : va_K D cCl (cTy dA) s) (hX : gX s) (hw : gw D dA A H0 dom ad K I R H locs) {w k : Nat} (hn0 : w ∈ dom) (hk0 : (K w).1 = 3 + k) (hk1 : 1 ≤ k ∧ k ≤ 5) {v : Int32} {b : Bool} (hR : 2 ≤ Rm.frames ∧ 44 ≤ Rm.locals) (hW : (rest.map fun v => v.category).sum ≤ 8) (hdg : decode cc pc = .ok (.invokevirtual 57, 3)) (hf : cells ≤ Rm.cells ∧ slots ≤ Rm.slots)
    (kk : ∀ (H' : Heap) (locs' : List Loc), gw D dA A H0 dom ad K I R H' locs' → W p l e Rm s m args below meth c H' locs' cells slots Q (F0 m (pc + 3) ls (.int (onK k v b) :: rest))) : W p l e Rm s m args below meth c H locs cells slots Q (F0 m pc ls (.int (bI b) :: .int v :: .ref (ad w) :: rest)) := by
  have hk : k = 1 ∨ k = 2 ∨ k = 3 ∨ k = 4 ∨ k = 5 := by omega
  rcases hk with rfl | rfl | rfl | rfl | rfl
  · refine g_virt (n := 2) (owner := RX4) (x := ⟨RX4, "on", "(IZ)I"⟩) (C := RX5) (T := TX5) hC hl hK hX hw hn0 hk0 (by decide) rfl (gI.ofp (tX4_on l (ad w) v (bI b)) dom ad K I R) (va_cwA 2 hC.2.2.2.2 (lw_U q778 q780 q793 q779 q64 q794) rfl rfl rfl (hX _ q787 rfl) (by decide +kernel) ⟨by simp only; omega, by simp only; omega⟩) rfl rfl hW hdg hf ?_
    rintro r2 I2 R2 H2 locs2 ⟨hr2, hS2⟩ hw2
    rw [hr2]
    exact kk H2 locs2 (hw2.eq (Prod.mk.inj hS2).1 (Prod.mk.inj hS2).2)
  · refine g_virt (n := 2) (owner := RX4) (x := ⟨RX4, "on", "(IZ)I"⟩) (C := RX9) (T := TX9) hC hl hK hX hw hn0 hk0 (by decide) rfl (tX9_on l dom ad K I R w v (bI b) hn0 hk0) (va_cwA 2 hC.2.2.2.2 (lw_U q778 q780 q782 q783 q84 q784) rfl rfl rfl (hX _ q787 rfl) (by decide +kernel) ⟨by simp only; omega, by simp only; omega⟩) rfl rfl hW hdg hf ?_
    rintro r2 I2 R2 H2 locs2 ⟨hr2, hS2⟩ hw2
    rw [hr2]
    exact kk H2 locs2 (hw2.eq (Prod.mk.inj hS2).1 (Prod.mk.inj hS2).2)
  · refine g_virt (n := 2) (owner := RX4) (x := ⟨RX4, "on", "(IZ)I"⟩) (C := RX10) (T := TX10) hC hl hK hX hw hn0 hk0 (by decide) rfl (tX10_on l dom ad K I R w v b hn0 hk0) (va_cwA 2 hC.2.2.2.2 (lw_U q778 q780 q788 q789 q85 q790) rfl rfl rfl (hX _ q787 rfl) (by decide +kernel) ⟨by simp only; omega, by simp only; omega⟩) rfl rfl hW hdg hf ?_
    rintro r2 I2 R2 H2 locs2 ⟨hr2, hS2⟩ hw2
    rw [hr2]
    exact kk H2 locs2 (hw2.eq (Prod.mk.inj hS2).1 (Prod.mk.inj hS2).2)
  · refine g_virt (n := 2) (owner := RX4) (x := ⟨RX4, "on", "(IZ)I"⟩) (C := RX11) (T := TX11) hC hl hK hX hw hn0 hk0 (by decide) rfl (gI.ofp (tX4_on l (ad w) v (bI b)) dom ad K I R) (va_cwA 2 hC.2.2.2.2 (lw_U q778 q780 q781 q779 q64 q794) rfl rfl rfl (hX _ q787 rfl) (by decide +kernel) ⟨by simp only; omega, by simp only; omega⟩) rfl rfl hW hdg hf ?_
    rintro r2 I2 R2 H2 locs2 ⟨hr2, hS2⟩ hw2
    rw [hr2]
    exact kk H2 locs2 (hw2.eq (Prod.mk.inj hS2).1 (Prod.mk.inj hS2).2)
  · refine g_virt (n := 2) (owner := RX4) (x := ⟨RX4, "on", "(IZ)I"⟩) (C := RX12) (T := TX12) hC hl hK hX hw hn0 hk0 (by decide) rfl (gI.ofp (tX4_on l (ad w) v (bI b)) dom ad K I R) (va_cwA 2 hC.2.2.2.2 (lw_U q778 q780 q792 q779 q64 q794) rfl rfl rfl (hX _ q787 rfl) (by decide +kernel) ⟨by simp only; omega, by simp only; omega⟩) rfl rfl hW hdg hf ?_
    rintro r2 I2 R2 H2 locs2 ⟨hr2, hS2⟩ hw2
    rw [hr2]
    exact kk H2 locs2 (hw2.eq (Prod.mk.inj hS2).1 (Prod.mk.inj hS2).2)
theorem w_north (hC : CallFix p m c cc nl s args lw_all RX2) (hl : ls.size = nl) (hK : va_K D cCl (cTy dA) s) (hX : gX s) (hw : gw D dA A H0 dom ad K I R H locs) {w k : Nat} (hn0 : w ∈ dom) (hk0 : (K w).1 = 3 + k) (hk1 : 1 ≤ k ∧ k ≤ 5) {v h : Int32} (hR : 2 ≤ Rm.frames ∧ 44 ≤ Rm.locals) (hW : (rest.map fun v => v.category).sum ≤ 8) (hdg : decode cc pc = .ok (.invokevirtual 61, 3)) (hf : cells ≤ Rm.cells ∧ slots ≤ Rm.slots)
    (kk : ∀ (H' : Heap) (locs' : List Loc), gw D dA A H0 dom ad K I R H' locs' → W p l e Rm s m args below meth c H' locs' cells slots Q (F0 m (pc + 3) ls (.int (nrK k v h) :: rest))) : W p l e Rm s m args below meth c H locs cells slots Q (F0 m pc ls (.int h :: .int v :: .ref (ad w) :: rest)) := by
  have hk : k = 1 ∨ k = 2 ∨ k = 3 ∨ k = 4 ∨ k = 5 := by omega
  rcases hk with rfl | rfl | rfl | rfl | rfl
  · refine g_virt (n := 2) (owner := RX4) (x := ⟨RX4, "north", "(II)I"⟩) (C := RX5) (T := TX5) hC hl hK hX hw hn0 hk0 (by decide) rfl (gI.ofp (tX5_north l (ad w) v h) dom ad K I R) (va_cwA 2 hC.2.2.2.2 (lw_U q795 q797 q809 q802 q65 q803) rfl rfl rfl (hX _ q796 rfl) (by decide +kernel) ⟨by simp only; omega, by simp only; omega⟩) rfl rfl hW hdg hf ?_
    rintro r2 I2 R2 H2 locs2 ⟨hr2, hS2⟩ hw2
    rw [hr2]
    exact kk H2 locs2 (hw2.eq (Prod.mk.inj hS2).1 (Prod.mk.inj hS2).2)
  · refine g_virt (n := 2) (owner := RX4) (x := ⟨RX4, "north", "(II)I"⟩) (C := RX9) (T := TX9) hC hl hK hX hw hn0 hk0 (by decide) rfl (gI.ofp (tX5_north l (ad w) v h) dom ad K I R) (va_cwA 2 hC.2.2.2.2 (lw_U q795 q797 q801 q802 q65 q803) rfl rfl rfl (hX _ q796 rfl) (by decide +kernel) ⟨by simp only; omega, by simp only; omega⟩) rfl rfl hW hdg hf ?_
    rintro r2 I2 R2 H2 locs2 ⟨hr2, hS2⟩ hw2
    rw [hr2]
    exact kk H2 locs2 (hw2.eq (Prod.mk.inj hS2).1 (Prod.mk.inj hS2).2)
  · refine g_virt (n := 2) (owner := RX4) (x := ⟨RX4, "north", "(II)I"⟩) (C := RX10) (T := TX10) hC hl hK hX hw hn0 hk0 (by decide) rfl (gI.ofp (tX5_north l (ad w) v h) dom ad K I R) (va_cwA 2 hC.2.2.2.2 (lw_U q795 q797 q804 q802 q65 q803) rfl rfl rfl (hX _ q796 rfl) (by decide +kernel) ⟨by simp only; omega, by simp only; omega⟩) rfl rfl hW hdg hf ?_
    rintro r2 I2 R2 H2 locs2 ⟨hr2, hS2⟩ hw2
    rw [hr2]
    exact kk H2 locs2 (hw2.eq (Prod.mk.inj hS2).1 (Prod.mk.inj hS2).2)
  · refine g_virt (n := 2) (owner := RX4) (x := ⟨RX4, "north", "(II)I"⟩) (C := RX11) (T := TX11) hC hl hK hX hw hn0 hk0 (by decide) rfl (gI.ofp (tX11_north l (ad w) v h) dom ad K I R) (va_cwA 2 hC.2.2.2.2 (lw_U q795 q797 q798 q799 q86 q800) rfl rfl rfl (hX _ q796 rfl) (by decide +kernel) ⟨by simp only; omega, by simp only; omega⟩) rfl rfl hW hdg hf ?_
    rintro r2 I2 R2 H2 locs2 ⟨hr2, hS2⟩ hw2
    rw [hr2]
    exact kk H2 locs2 (hw2.eq (Prod.mk.inj hS2).1 (Prod.mk.inj hS2).2)
  · refine g_virt (n := 2) (owner := RX4) (x := ⟨RX4, "north", "(II)I"⟩) (C := RX12) (T := TX12) hC hl hK hX hw hn0 hk0 (by decide) rfl (tX12_north l dom ad K I R w v h hn0 hk0) (va_cwA 2 hC.2.2.2.2 (lw_U q795 q797 q805 q806 q87 q807) rfl rfl rfl (hX _ q796 rfl) (by decide +kernel) ⟨by simp only; omega, by simp only; omega⟩) rfl rfl hW hdg hf ?_
    rintro r2 I2 R2 H2 locs2 ⟨hr2, hS2⟩ hw2
    rw [hr2]
    exact kk H2 locs2 (hw2.eq (Prod.mk.inj hS2).1 (Prod.mk.inj hS2).2)
theorem w_holdsP (hC : CallFix p m c cc nl s args lw_all RX2) (hl : ls.size = nl) (hK : va_K D cCl (cTy dA) s) (hX : gX s) (hw : gw D dA A H0 dom ad K I R H locs) {w k : Nat} (hn0 : w ∈ dom) (hk0 : (K w).1 = 3 + k) (hk1 : 1 ≤ k ∧ k ≤ 5) (hR : 1 ≤ Rm.frames ∧ 20 ≤ Rm.locals) (hW : (rest.map fun v => v.category).sum ≤ 8) (hdg : decode cc pc = .ok (.invokevirtual 76, 3)) (hf : cells ≤ Rm.cells ∧ slots ≤ Rm.slots)
    (kk : ∀ (H' : Heap) (locs' : List Loc), gw D dA A H0 dom ad K I R H' locs' → W p l e Rm s m args below meth c H' locs' cells slots Q (F0 m (pc + 3) ls (.int (I w 1) :: rest))) : W p l e Rm s m args below meth c H locs cells slots Q (F0 m pc ls (.ref (ad w) :: rest)) := by
  have hk : k = 1 ∨ k = 2 ∨ k = 3 ∨ k = 4 ∨ k = 5 := by omega
  rcases hk with rfl | rfl | rfl | rfl | rfl
  · refine g_virt (n := 0) (owner := RX4) (x := ⟨RX4, "holds", "()I"⟩) (C := RX5) (T := TX5) hC hl hK hX hw hn0 hk0 (by decide) rfl (tX4_holds l dom ad K I R w hn0 1 hk0 hk1) (va_cwU 0 hC.2.2.2.2 (lw_U q814 q816 q821 q815 q64 q822) rfl rfl rfl rfl (by decide +kernel) ⟨by simp only; omega, by simp only; omega⟩) rfl rfl hW hdg hf ?_
    rintro r2 I2 R2 H2 locs2 ⟨hr2, hS2⟩ hw2
    rw [hr2]
    exact kk H2 locs2 (hw2.eq (Prod.mk.inj hS2).1 (Prod.mk.inj hS2).2)
  · refine g_virt (n := 0) (owner := RX4) (x := ⟨RX4, "holds", "()I"⟩) (C := RX9) (T := TX9) hC hl hK hX hw hn0 hk0 (by decide) rfl (tX4_holds l dom ad K I R w hn0 2 hk0 hk1) (va_cwU 0 hC.2.2.2.2 (lw_U q814 q816 q818 q815 q64 q822) rfl rfl rfl rfl (by decide +kernel) ⟨by simp only; omega, by simp only; omega⟩) rfl rfl hW hdg hf ?_
    rintro r2 I2 R2 H2 locs2 ⟨hr2, hS2⟩ hw2
    rw [hr2]
    exact kk H2 locs2 (hw2.eq (Prod.mk.inj hS2).1 (Prod.mk.inj hS2).2)
  · refine g_virt (n := 0) (owner := RX4) (x := ⟨RX4, "holds", "()I"⟩) (C := RX10) (T := TX10) hC hl hK hX hw hn0 hk0 (by decide) rfl (tX4_holds l dom ad K I R w hn0 3 hk0 hk1) (va_cwU 0 hC.2.2.2.2 (lw_U q814 q816 q819 q815 q64 q822) rfl rfl rfl rfl (by decide +kernel) ⟨by simp only; omega, by simp only; omega⟩) rfl rfl hW hdg hf ?_
    rintro r2 I2 R2 H2 locs2 ⟨hr2, hS2⟩ hw2
    rw [hr2]
    exact kk H2 locs2 (hw2.eq (Prod.mk.inj hS2).1 (Prod.mk.inj hS2).2)
  · refine g_virt (n := 0) (owner := RX4) (x := ⟨RX4, "holds", "()I"⟩) (C := RX11) (T := TX11) hC hl hK hX hw hn0 hk0 (by decide) rfl (tX4_holds l dom ad K I R w hn0 4 hk0 hk1) (va_cwU 0 hC.2.2.2.2 (lw_U q814 q816 q817 q815 q64 q822) rfl rfl rfl rfl (by decide +kernel) ⟨by simp only; omega, by simp only; omega⟩) rfl rfl hW hdg hf ?_
    rintro r2 I2 R2 H2 locs2 ⟨hr2, hS2⟩ hw2
    rw [hr2]
    exact kk H2 locs2 (hw2.eq (Prod.mk.inj hS2).1 (Prod.mk.inj hS2).2)
  · refine g_virt (n := 0) (owner := RX4) (x := ⟨RX4, "holds", "()I"⟩) (C := RX12) (T := TX12) hC hl hK hX hw hn0 hk0 (by decide) rfl (tX4_holds l dom ad K I R w hn0 5 hk0 hk1) (va_cwU 0 hC.2.2.2.2 (lw_U q814 q816 q820 q815 q64 q822) rfl rfl rfl rfl (by decide +kernel) ⟨by simp only; omega, by simp only; omega⟩) rfl rfl hW hdg hf ?_
    rintro r2 I2 R2 H2 locs2 ⟨hr2, hS2⟩ hw2
    rw [hr2]
    exact kk H2 locs2 (hw2.eq (Prod.mk.inj hS2).1 (Prod.mk.inj hS2).2)
theorem w_kind (hC : CallFix p m c cc nl s args lw_all RX0) (hl : ls.size = nl) (hK : va_K D cCl (cTy dA) s) (hX : gX s) (hw : gw D dA A H0 dom ad K I R H locs) {w k : Nat} (hn0 : w ∈ dom) (hk0 : (K w).1 = 3 + k) (hk1 : 1 ≤ k ∧ k ≤ 5) (hR : 1 ≤ Rm.frames ∧ 20 ≤ Rm.locals) (hW : (rest.map fun v => v.category).sum ≤ 8) (hdg : decode cc pc = .ok (.invokevirtual 211, 3)) (hf : cells ≤ Rm.cells ∧ slots ≤ Rm.slots)
    (kk : ∀ (H' : Heap) (locs' : List Loc), gw D dA A H0 dom ad K I R H' locs' → W p l e Rm s m args below meth c H' locs' cells slots Q (F0 m (pc + 3) ls (.int (nI k) :: rest))) : W p l e Rm s m args below meth c H locs cells slots Q (F0 m pc ls (.ref (ad w) :: rest)) := by
  have hk : k = 1 ∨ k = 2 ∨ k = 3 ∨ k = 4 ∨ k = 5 := by omega
  rcases hk with rfl | rfl | rfl | rfl | rfl
  · refine g_virt (n := 0) (owner := RX4) (x := ⟨RX4, "kind", "()I"⟩) (C := RX5) (T := TX5) hC hl hK hX hw hn0 hk0 (by decide) rfl (gI.ofp (tX5_kind l (ad w)) dom ad K I R) (va_cwA 0 hC.2.2.2.2 (lw_U q731 q733 q746 q747 q65 q748) rfl rfl rfl (hX _ q732 rfl) (by decide +kernel) ⟨by simp only; omega, by simp only; omega⟩) rfl rfl hW hdg hf ?_
    rintro r2 I2 R2 H2 locs2 ⟨hr2, hS2⟩ hw2
    rw [hr2]
    exact kk H2 locs2 (hw2.eq (Prod.mk.inj hS2).1 (Prod.mk.inj hS2).2)
  · refine g_virt (n := 0) (owner := RX4) (x := ⟨RX4, "kind", "()I"⟩) (C := RX9) (T := TX9) hC hl hK hX hw hn0 hk0 (by decide) rfl (gI.ofp (tX9_kind l (ad w)) dom ad K I R) (va_cwA 0 hC.2.2.2.2 (lw_U q731 q733 q737 q738 q84 q739) rfl rfl rfl (hX _ q732 rfl) (by decide +kernel) ⟨by simp only; omega, by simp only; omega⟩) rfl rfl hW hdg hf ?_
    rintro r2 I2 R2 H2 locs2 ⟨hr2, hS2⟩ hw2
    rw [hr2]
    exact kk H2 locs2 (hw2.eq (Prod.mk.inj hS2).1 (Prod.mk.inj hS2).2)
  · refine g_virt (n := 0) (owner := RX4) (x := ⟨RX4, "kind", "()I"⟩) (C := RX10) (T := TX10) hC hl hK hX hw hn0 hk0 (by decide) rfl (gI.ofp (tX10_kind l (ad w)) dom ad K I R) (va_cwA 0 hC.2.2.2.2 (lw_U q731 q733 q740 q741 q85 q742) rfl rfl rfl (hX _ q732 rfl) (by decide +kernel) ⟨by simp only; omega, by simp only; omega⟩) rfl rfl hW hdg hf ?_
    rintro r2 I2 R2 H2 locs2 ⟨hr2, hS2⟩ hw2
    rw [hr2]
    exact kk H2 locs2 (hw2.eq (Prod.mk.inj hS2).1 (Prod.mk.inj hS2).2)
  · refine g_virt (n := 0) (owner := RX4) (x := ⟨RX4, "kind", "()I"⟩) (C := RX11) (T := TX11) hC hl hK hX hw hn0 hk0 (by decide) rfl (gI.ofp (tX11_kind l (ad w)) dom ad K I R) (va_cwA 0 hC.2.2.2.2 (lw_U q731 q733 q734 q735 q86 q736) rfl rfl rfl (hX _ q732 rfl) (by decide +kernel) ⟨by simp only; omega, by simp only; omega⟩) rfl rfl hW hdg hf ?_
    rintro r2 I2 R2 H2 locs2 ⟨hr2, hS2⟩ hw2
    rw [hr2]
    exact kk H2 locs2 (hw2.eq (Prod.mk.inj hS2).1 (Prod.mk.inj hS2).2)
  · refine g_virt (n := 0) (owner := RX4) (x := ⟨RX4, "kind", "()I"⟩) (C := RX12) (T := TX12) hC hl hK hX hw hn0 hk0 (by decide) rfl (gI.ofp (tX12_kind l (ad w)) dom ad K I R) (va_cwA 0 hC.2.2.2.2 (lw_U q731 q733 q743 q744 q87 q745) rfl rfl rfl (hX _ q732 rfl) (by decide +kernel) ⟨by simp only; omega, by simp only; omega⟩) rfl rfl hW hdg hf ?_
    rintro r2 I2 R2 H2 locs2 ⟨hr2, hS2⟩ hw2
    rw [hr2]
    exact kk H2 locs2 (hw2.eq (Prod.mk.inj hS2).1 (Prod.mk.inj hS2).2)
theorem w_holds (hC : CallFix p m c cc nl s args lw_all RX0) (hl : ls.size = nl) (hK : va_K D cCl (cTy dA) s) (hX : gX s) (hw : gw D dA A H0 dom ad K I R H locs) {w k : Nat} (hn0 : w ∈ dom) (hk0 : (K w).1 = 3 + k) (hk1 : 1 ≤ k ∧ k ≤ 5) (hR : 1 ≤ Rm.frames ∧ 20 ≤ Rm.locals) (hW : (rest.map fun v => v.category).sum ≤ 8) (hdg : decode cc pc = .ok (.invokevirtual 241, 3)) (hf : cells ≤ Rm.cells ∧ slots ≤ Rm.slots)
    (kk : ∀ (H' : Heap) (locs' : List Loc), gw D dA A H0 dom ad K I R H' locs' → W p l e Rm s m args below meth c H' locs' cells slots Q (F0 m (pc + 3) ls (.int (I w 1) :: rest))) : W p l e Rm s m args below meth c H locs cells slots Q (F0 m pc ls (.ref (ad w) :: rest)) := by
  have hk : k = 1 ∨ k = 2 ∨ k = 3 ∨ k = 4 ∨ k = 5 := by omega
  rcases hk with rfl | rfl | rfl | rfl | rfl
  · refine g_virt (n := 0) (owner := RX4) (x := ⟨RX4, "holds", "()I"⟩) (C := RX5) (T := TX5) hC hl hK hX hw hn0 hk0 (by decide) rfl (tX4_holds l dom ad K I R w hn0 1 hk0 hk1) (va_cwU 0 hC.2.2.2.2 (lw_U q842 q816 q821 q815 q64 q822) rfl rfl rfl rfl (by decide +kernel) ⟨by simp only; omega, by simp only; omega⟩) rfl rfl hW hdg hf ?_
    rintro r2 I2 R2 H2 locs2 ⟨hr2, hS2⟩ hw2
    rw [hr2]
    exact kk H2 locs2 (hw2.eq (Prod.mk.inj hS2).1 (Prod.mk.inj hS2).2)
  · refine g_virt (n := 0) (owner := RX4) (x := ⟨RX4, "holds", "()I"⟩) (C := RX9) (T := TX9) hC hl hK hX hw hn0 hk0 (by decide) rfl (tX4_holds l dom ad K I R w hn0 2 hk0 hk1) (va_cwU 0 hC.2.2.2.2 (lw_U q842 q816 q818 q815 q64 q822) rfl rfl rfl rfl (by decide +kernel) ⟨by simp only; omega, by simp only; omega⟩) rfl rfl hW hdg hf ?_
    rintro r2 I2 R2 H2 locs2 ⟨hr2, hS2⟩ hw2
    rw [hr2]
    exact kk H2 locs2 (hw2.eq (Prod.mk.inj hS2).1 (Prod.mk.inj hS2).2)
  · refine g_virt (n := 0) (owner := RX4) (x := ⟨RX4, "holds", "()I"⟩) (C := RX10) (T := TX10) hC hl hK hX hw hn0 hk0 (by decide) rfl (tX4_holds l dom ad K I R w hn0 3 hk0 hk1) (va_cwU 0 hC.2.2.2.2 (lw_U q842 q816 q819 q815 q64 q822) rfl rfl rfl rfl (by decide +kernel) ⟨by simp only; omega, by simp only; omega⟩) rfl rfl hW hdg hf ?_
    rintro r2 I2 R2 H2 locs2 ⟨hr2, hS2⟩ hw2
    rw [hr2]
    exact kk H2 locs2 (hw2.eq (Prod.mk.inj hS2).1 (Prod.mk.inj hS2).2)
  · refine g_virt (n := 0) (owner := RX4) (x := ⟨RX4, "holds", "()I"⟩) (C := RX11) (T := TX11) hC hl hK hX hw hn0 hk0 (by decide) rfl (tX4_holds l dom ad K I R w hn0 4 hk0 hk1) (va_cwU 0 hC.2.2.2.2 (lw_U q842 q816 q817 q815 q64 q822) rfl rfl rfl rfl (by decide +kernel) ⟨by simp only; omega, by simp only; omega⟩) rfl rfl hW hdg hf ?_
    rintro r2 I2 R2 H2 locs2 ⟨hr2, hS2⟩ hw2
    rw [hr2]
    exact kk H2 locs2 (hw2.eq (Prod.mk.inj hS2).1 (Prod.mk.inj hS2).2)
  · refine g_virt (n := 0) (owner := RX4) (x := ⟨RX4, "holds", "()I"⟩) (C := RX12) (T := TX12) hC hl hK hX hw hn0 hk0 (by decide) rfl (tX4_holds l dom ad K I R w hn0 5 hk0 hk1) (va_cwU 0 hC.2.2.2.2 (lw_U q842 q816 q820 q815 q64 q822) rfl rfl rfl rfl (by decide +kernel) ⟨by simp only; omega, by simp only; omega⟩) rfl rfl hW hdg hf ?_
    rintro r2 I2 R2 H2 locs2 ⟨hr2, hS2⟩ hw2
    rw [hr2]
    exact kk H2 locs2 (hw2.eq (Prod.mk.inj hS2).1 (Prod.mk.inj hS2).2)
theorem w_cell (hC : CallFix p m c cc nl s args lw_all RX0) (hl : ls.size = nl) (hK : va_K D cCl (cTy dA) s) (hX : gX s) (hw : gw D dA A H0 dom ad K I R H locs) {w k : Nat} (hn0 : w ∈ dom) (hk0 : (K w).1 = 3 + k) (hk1 : 1 ≤ k ∧ k ≤ 5) (hR : 1 ≤ Rm.frames ∧ 20 ≤ Rm.locals) (hW : (rest.map fun v => v.category).sum ≤ 8) (hdg : decode cc pc = .ok (.invokevirtual 316, 3)) (hf : cells ≤ Rm.cells ∧ slots ≤ Rm.slots)
    (kk : ∀ (H' : Heap) (locs' : List Loc), gw D dA A H0 dom ad K I R H' locs' → W p l e Rm s m args below meth c H' locs' cells slots Q (F0 m (pc + 3) ls (.int (I w 0) :: rest))) : W p l e Rm s m args below meth c H locs cells slots Q (F0 m pc ls (.ref (ad w) :: rest)) := by
  have hk : k = 1 ∨ k = 2 ∨ k = 3 ∨ k = 4 ∨ k = 5 := by omega
  rcases hk with rfl | rfl | rfl | rfl | rfl
  · refine g_virt (n := 0) (owner := RX4) (x := ⟨RX4, "cell", "()I"⟩) (C := RX5) (T := TX5) hC hl hK hX hw hn0 hk0 (by decide) rfl (tX4_cell l dom ad K I R w hn0 1 hk0 hk1) (va_cwU 0 hC.2.2.2.2 (lw_U q970 q972 q977 q971 q64 q978) rfl rfl rfl rfl (by decide +kernel) ⟨by simp only; omega, by simp only; omega⟩) rfl rfl hW hdg hf ?_
    rintro r2 I2 R2 H2 locs2 ⟨hr2, hS2⟩ hw2
    rw [hr2]
    exact kk H2 locs2 (hw2.eq (Prod.mk.inj hS2).1 (Prod.mk.inj hS2).2)
  · refine g_virt (n := 0) (owner := RX4) (x := ⟨RX4, "cell", "()I"⟩) (C := RX9) (T := TX9) hC hl hK hX hw hn0 hk0 (by decide) rfl (tX4_cell l dom ad K I R w hn0 2 hk0 hk1) (va_cwU 0 hC.2.2.2.2 (lw_U q970 q972 q974 q971 q64 q978) rfl rfl rfl rfl (by decide +kernel) ⟨by simp only; omega, by simp only; omega⟩) rfl rfl hW hdg hf ?_
    rintro r2 I2 R2 H2 locs2 ⟨hr2, hS2⟩ hw2
    rw [hr2]
    exact kk H2 locs2 (hw2.eq (Prod.mk.inj hS2).1 (Prod.mk.inj hS2).2)
  · refine g_virt (n := 0) (owner := RX4) (x := ⟨RX4, "cell", "()I"⟩) (C := RX10) (T := TX10) hC hl hK hX hw hn0 hk0 (by decide) rfl (tX4_cell l dom ad K I R w hn0 3 hk0 hk1) (va_cwU 0 hC.2.2.2.2 (lw_U q970 q972 q975 q971 q64 q978) rfl rfl rfl rfl (by decide +kernel) ⟨by simp only; omega, by simp only; omega⟩) rfl rfl hW hdg hf ?_
    rintro r2 I2 R2 H2 locs2 ⟨hr2, hS2⟩ hw2
    rw [hr2]
    exact kk H2 locs2 (hw2.eq (Prod.mk.inj hS2).1 (Prod.mk.inj hS2).2)
  · refine g_virt (n := 0) (owner := RX4) (x := ⟨RX4, "cell", "()I"⟩) (C := RX11) (T := TX11) hC hl hK hX hw hn0 hk0 (by decide) rfl (tX4_cell l dom ad K I R w hn0 4 hk0 hk1) (va_cwU 0 hC.2.2.2.2 (lw_U q970 q972 q973 q971 q64 q978) rfl rfl rfl rfl (by decide +kernel) ⟨by simp only; omega, by simp only; omega⟩) rfl rfl hW hdg hf ?_
    rintro r2 I2 R2 H2 locs2 ⟨hr2, hS2⟩ hw2
    rw [hr2]
    exact kk H2 locs2 (hw2.eq (Prod.mk.inj hS2).1 (Prod.mk.inj hS2).2)
  · refine g_virt (n := 0) (owner := RX4) (x := ⟨RX4, "cell", "()I"⟩) (C := RX12) (T := TX12) hC hl hK hX hw hn0 hk0 (by decide) rfl (tX4_cell l dom ad K I R w hn0 5 hk0 hk1) (va_cwU 0 hC.2.2.2.2 (lw_U q970 q972 q976 q971 q64 q978) rfl rfl rfl rfl (by decide +kernel) ⟨by simp only; omega, by simp only; omega⟩) rfl rfl hW hdg hf ?_
    rintro r2 I2 R2 H2 locs2 ⟨hr2, hS2⟩ hw2
    rw [hr2]
    exact kk H2 locs2 (hw2.eq (Prod.mk.inj hS2).1 (Prod.mk.inj hS2).2)
end WC
