/-! ===== where the machine throws ===== -/
abbrev lwz : List Cond := uStk :: uSen :: lw_tbl
def armW : Cond → Bool
  | .castable .. => true
  | .declares .. => true
  | .laysStatic .. => true
  | w => goodWord w
theorem arm_ok {args : Array Value} {s : State} (ht : ∀ w ∈ lw_all, w.before args s = true) (hX : gX s) (hZ : gZ s) {L : List Cond} (ps : List Nat) (hp : L = ps.filterMap (fun i => lwz[i]?)) (hg : L.all (fun w => armW w || decide (w = uStk) || decide (w = uSen)) = true) : ∀ a ∈ L, a.before args s = true := by
  intro a ha
  have hkeep : ∀ (q : Nat) (cell : Cell), s.heap[q]? = some cell → cell.vm.isStatics = true → s.heap[q]? = some cell := fun _ _ h _ => h
  have hw := List.all_eq_true.mp hg a ha
  by_cases h1 : a = uStk
  · rw [h1]; exact ref_keep hZ.2.1 (Vm.Alike.refl _) hkeep
  by_cases h2 : a = uSen
  · rw [h2]; exact ref_keep hZ.2.2.1 (Vm.Alike.refl _) hkeep
  have hw : armW a = true := by simpa [h1, h2] using hw
  rw [hp] at ha
  obtain ⟨i, -, hi⟩ := List.mem_filterMap.mp ha
  have hm : a ∈ lwz := List.mem_of_getElem? hi
  rcases List.mem_cons.mp hm with h3 | hm
  · exact absurd h3 h1
  rcases List.mem_cons.mp hm with h3 | hm
  · exact absurd h3 h2
  by_cases hgw : goodWord a = true
  · exact ht a (lw_g hm hgw)
  · cases a with
    | castable x y => exact va_Nw.use rfl (hX _ hm rfl)
    | declares x => exact va_Nw.use rfl (hX _ hm rfl)
    | laysStatic x y z => exact lay_keep (hZ.2.2.2.2.1 x y z hm) (Vm.Alike.refl _) hkeep
    | _ => exact absurd hw hgw
theorem same0 {s U : State} {k n : Nat} (h : s.sameButNew ({ U with vm := s.vm } : State) [] k n) : s.heap.size ≤ U.heap.size ∧ ∀ q, q < s.heap.size → U.heap[q]? = s.heap[q]? := by
  refine ⟨h.2.1, fun q hq => ?_⟩
  obtain ⟨c', h1, h2, h3, h4⟩ := h.2.2.2.2.2 q _ (Array.getElem?_eq_getElem hq)
  have e : c'.slots = (s.heap[q]).slots := Array.ext_getElem? (fun i => h4 i (by simp))
  show U.heap[q]? = _
  have h1' : U.heap[q]? = some c' := h1
  rw [h1', Array.getElem?_eq_getElem hq, h2, e]
theorem npe_ps : Bundle.npeArmAtoms 8 = ([69, 323, 264, 285, 288, 290, 324, 325, 99, 100, 258, 263, 286, 293, 317, 294, 318, 295, 319, 259, 260, 261, 262, 320, 282, 272, 273, 367, 369, 279, 280, 381, 358, 359, 360, 361, 310, 361, 362, 363, 364, 312, 364, 365, 366, 324, 314, 74, 277, 379, 380, 271, 375, 376, 378, 0, 1, 291, 321, 373] : List Nat).filterMap (fun i => lwz[i]?) := by decide +kernel
theorem npe_all : (Bundle.npeArmAtoms 8).all (fun w => armW w || decide (w = uStk) || decide (w = uSen)) = true := by decide +kernel
/-- what a machine's throw with a text leans on -/
def armOk (cls : String) (names : List String) : Prop := Bundle.fit cls = true ∧ (∀ n ∈ names, Bundle.fit n = true) ∧ (cls == "java/lang/StackOverflowError") = false ∧ (cls == "java/lang/OutOfMemoryError") = false ∧ (∃ ps : List Nat, Bundle.messageArmAtoms cls names = ps.filterMap (fun i => lwz[i]?)) ∧ (Bundle.messageArmAtoms cls names).all (fun w => armW w || decide (w = uStk) || decide (w = uSen)) = true ∧ names.length ≤ 3
theorem ok_idx : armOk "java/lang/ArrayIndexOutOfBoundsException" ["java/lang/IndexOutOfBoundsException", "java/lang/RuntimeException", "java/lang/Exception"] := ⟨by decide +kernel, by decide +kernel, by decide +kernel, by decide +kernel, ⟨[69, 323, 264, 285, 288, 290, 324, 325, 99, 100, 258, 263, 286, 293, 317, 294, 318, 295, 319, 259, 260, 261, 262, 320, 256, 257, 292, 320, 384, 385, 386, 387, 399, 387, 388, 389, 250, 311, 250, 251, 252, 253, 313, 253, 254, 255, 256, 315, 73, 326, 166, 327, 329, 328, 330, 76, 383, 397, 400, 267, 392, 393, 395, 391, 0, 1, 291, 321, 390], by decide +kernel⟩, by decide +kernel, by decide⟩
theorem ok_neg : armOk "java/lang/NegativeArraySizeException" ["java/lang/RuntimeException", "java/lang/Exception"] := ⟨by decide +kernel, by decide +kernel, by decide +kernel, by decide +kernel, ⟨[69, 323, 264, 285, 288, 290, 324, 325, 99, 100, 258, 263, 286, 293, 317, 294, 318, 295, 319, 259, 260, 261, 262, 320, 256, 257, 292, 320, 247, 248, 249, 250, 311, 250, 251, 252, 253, 313, 253, 254, 255, 256, 315, 73, 326, 166, 327, 329, 328, 330, 72, 246, 309, 316, 270, 300, 302, 306, 298, 0, 1, 291, 321, 296], by decide +kernel⟩, by decide +kernel, by decide⟩
theorem ok_ase : armOk "java/lang/ArrayStoreException" ["java/lang/RuntimeException", "java/lang/Exception"] := ⟨by decide +kernel, by decide +kernel, by decide +kernel, by decide +kernel, ⟨[69, 323, 264, 285, 288, 290, 324, 325, 99, 100, 258, 263, 286, 293, 317, 294, 318, 295, 319, 259, 260, 261, 262, 320, 256, 257, 292, 320, 418, 419, 420, 250, 311, 250, 251, 252, 253, 313, 253, 254, 255, 256, 315, 73, 326, 166, 327, 329, 328, 330, 77, 417, 428, 429, 268, 423, 424, 426, 422, 0, 1, 291, 321, 421], by decide +kernel⟩, by decide +kernel, by decide⟩
theorem ok_cce : armOk "java/lang/ClassCastException" ["java/lang/RuntimeException", "java/lang/Exception"] := ⟨by decide +kernel, by decide +kernel, by decide +kernel, by decide +kernel, ⟨[69, 323, 264, 285, 288, 290, 324, 325, 99, 100, 258, 263, 286, 293, 317, 294, 318, 295, 319, 259, 260, 261, 262, 320, 256, 257, 292, 320, 957, 958, 959, 250, 311, 250, 251, 252, 253, 313, 253, 254, 255, 256, 315, 73, 326, 166, 327, 329, 328, 330, 91, 956, 967, 968, 269, 962, 963, 965, 961, 0, 1, 291, 321, 960], by decide +kernel⟩, by decide +kernel, by decide⟩
section LF
variable {p : Program} {l : Launch} {e : Env} {Rm : Room} {s : State} {m : MethodId} {args : Array Value} {below : List Frame} {meth : Method} {c : Code} {rc rs : Nat}
variable {cc : ByteArray} {nl pc : Nat} {ls : Array Slot} {rest st : List Value} {own : String} {D : va_G} {dA : Nat → ClassId} {N : Nat} {ad : Nat → Nat} {K : gK} {I : mG} {R : gR}
theorem T_end {C : String} {post : Addr → gS → Prop} (hw : gw D dA (nA (List.range N) ad s.heap.size) s.heap (List.range N) ad K I R s.heap []) {U : State} {x : Addr} (hq : post x (N, ad, K, I, R)) (h2 : U.status = .running) (h3 : Ended U below (.threw x)) (h4 : s.WarmedH U.vm) {k n : Nat} (h5 : s.sameButNew ({ U with vm := s.vm } : State) [] k n) (hk : k ≤ rc ∧ n ≤ rs) {ce : Cell} (h6 : U.heap[x]? = some ce) (h7 : s.vm.findClass C = some ce.cls) (h8 : ce.vm = .none) : MQT below (gQT D dA N ad K s.heap.size C post) args s rc rs (nA (List.range N) ad s.heap.size) U := by
  have hs := same0 h5
  refine ⟨.threw x, h2, h3, ⟨⟨x, (N, ad, K, I, R), rfl, ⟨ce, h6, by rw [h8]; rfl, by rw [h4.alike.findClass]; exact h7⟩, hq, ⟨fun i q hi => ?_, hw.1.2.1, hw.2⟩, gGo.rf⟩, hs.1, fun q h1 _ => hs.2 q h1⟩, [], ⟨⟨x, rfl⟩, h4, h5.weaken (fun _ h _ => h) hk.1 hk.2⟩, fun q hq => by cases hq⟩
  have hz := hw.1.1 i q hi
  exact hz.kept (hs.2 q.1 hz.lt)
theorem T_npe (hl0 : l.stackTraces = false) (hC : CallFix p m c cc nl s args lw_all own) (hlk : meth.locks = false) (htb : c.exceptionTable.toList = []) (hX : gX s) (hZ : gZ s) (hl : ls.size = nl) (hw : gw D dA (nA (List.range N) ad s.heap.size) s.heap (List.range N) ad K I R s.heap []) {post : Addr → gS → Prop} (hq : ∀ x, post x (N, ad, K, I, R)) (hr : 7 < Rm.frames ∧ (rest.map fun v => v.category).sum + 10240 ≤ Rm.locals ∧ 1 ≤ Rm.cells ∧ 8 ≤ Rm.slots) (hk : 1 ≤ rc ∧ 8 ≤ rs)
    (step : ∀ T, Stand p l e Rm s m args below meth c T [] 0 0 → ∀ tg, Steps p.tables e below ((T.setTop (F0 m pc ls rest)).pushFrame (.throwNew "java/lang/NullPointerException" none none)) tg → Steps p.tables e below (T.setTop (F0 m pc ls st)) tg) : W p l e Rm s m args below meth c s.heap [] 0 0 (MQT below (gQT D dA N ad K s.heap.size "java/lang/NullPointerException" post) args s rc rs (nA (List.range N) ad s.heap.size)) (F0 m pc ls st) := by
  intro T hT X
  have htr : e.platform.stackTraces = false := by rw [Example.NoTraceControls.admits_follows X.admits]; exact hl0
  obtain ⟨U, h1, h2, h3, h4, h5, ce, h6, KE⟩ := X.npeArm hC.1 htr (n := 8) (arm_ok hC.2.2.2.2 hX hZ _ npe_ps npe_all) (fun x hx => by cases hx) (g := F0 m pc ls rest) rfl (hl.trans hC.2.2.1.symm) rfl rfl (by rw [htb]; intro y hy; cases hy) hr.1 (by show 2 * 0 + (rest.map fun v => v.category).sum + 10240 ≤ _; omega) (by omega) (by omega) hlk
  exact ⟨U, step T X U h1, T_end hw (hq _) h2 h3 h4 h5 (by omega) h6 KE.cls KE.vm⟩
theorem T_msg {cls : String} {names : List String} (ok : armOk cls names) {text : String} (htx : (text == notModelled) = false) {tn : Nat} (hsz : (stringBytes (stringToUtf16 text)).size ≤ tn) (htn : tn ≤ 4096) (hl0 : l.stackTraces = false) (hC : CallFix p m c cc nl s args lw_all own) (hlk : meth.locks = false) (htb : c.exceptionTable.toList = []) (hX : gX s) (hZ : gZ s) (hl : ls.size = nl) (hw : gw D dA (nA (List.range N) ad s.heap.size) s.heap (List.range N) ad K I R s.heap []) {post : Addr → gS → Prop} (hq : ∀ x, post x (N, ad, K, I, R)) (hr : 7 < Rm.frames ∧ (rest.map fun v => v.category).sum + 10240 ≤ Rm.locals ∧ 3 ≤ Rm.cells ∧ tn + 10 ≤ Rm.slots) (hk : 3 ≤ rc ∧ tn + 10 ≤ rs)
    (step : ∀ T, T.heap = s.heap → Stand p l e Rm s m args below meth c T [] 0 0 → ∃ T', T'.heap = s.heap ∧ Stand p l e Rm s m args below meth c T' [] 0 0 ∧ ∀ tg, Steps p.tables e below ((T'.setTop (F0 m pc ls rest)).pushFrame (.throwNew cls (some text) none)) tg → Steps p.tables e below (T.setTop (F0 m pc ls st)) tg) : W p l e Rm s m args below meth c s.heap [] 0 0 (MQT below (gQT D dA N ad K s.heap.size cls post) args s rc rs (nA (List.range N) ad s.heap.size)) (F0 m pc ls st) := by
  intro T0 hT0 X0
  obtain ⟨T, hT, X, step⟩ := step T0 hT0 X0
  have htr : e.platform.stackTraces = false := by rw [Example.NoTraceControls.admits_follows X.admits]; exact hl0
  obtain ⟨k1, k2, k3, k4, ⟨ps, k5⟩, k6, k7⟩ := ok
  obtain ⟨U, h1, h2, h3, h4, ⟨n, hn, h5⟩, cb, cs, ce, -, -, h6, -, -, KE⟩ := X.messageArmCells hC.1 htr (text := text) k1 k2 k3 k4 (arm_ok hC.2.2.2.2 hX hZ ps k5 k6) (fun x hx => by cases hx) htx (by rw [Launch.admits_arrayLengthLimit X.admits]; omega) (by rw [Launch.admits_maxHeapBytes X.admits]; show ¬ _ * 1 > _; omega) (g := F0 m pc ls rest) rfl (hl.trans hC.2.2.1.symm) rfl rfl (by rw [htb]; intro y hy; cases hy) (by omega) (by show 2 * 0 + (rest.map fun v => v.category).sum + 10240 ≤ _; omega) (by omega) (by omega) (by omega) hlk
  exact ⟨U, step U h1, T_end hw (hq _) h2 h3 h4 h5 (by omega) h6 KE.cls KE.vm⟩
end LF
