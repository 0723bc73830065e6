/-! ===== Reader.must: a fault is thrown ===== -/
theorem gw_adopt {D : va_G} {dA : Nat → ClassId} {A : Nat → Prop} {H0 : Heap} {N : Nat} {ad : Nat → Nat} {K : gK} {I : mG} {R : gR} {H : Heap} {locs : List Loc} (hw : gw D dA A H0 (List.range N) ad K I R H locs) {q : Nat} {kd : Nat × Nat} {f : Nat → Int32} (hx : ∀ ad' : Nat → Nat, va_at D cCl (q, gE dA kd f (fun _ => none) ad') H) (hf : ∀ n, n < N → ad n ≠ q) (hA : A q) :
    gw D dA A H0 (List.range (N + 1)) (va_up ad N q) (va_up K N kd) (va_up I N f) (va_up R N (fun _ => none)) H locs := by
  have hat : ∀ n, n < N + 1 → va_at D cCl (va_up ad N q n, gCt dA (va_up K N kd) (va_up I N f) (va_up R N (fun _ => none)) (va_up ad N q) n) H ∧ A (va_up ad N q n) := by
    intro n hn
    by_cases e : n = N
    · subst e
      rw [va_up_self]
      refine ⟨?_, hA⟩
      show va_at D cCl (q, gE dA (va_up K n kd n) (va_up I n f n) (va_up R n (fun _ => none) n) _) H
      rw [va_up_self, va_up_self, va_up_self]
      exact hx _
    · rw [va_up_ne _ _ e]
      have hn' : n ∈ List.range N := List.mem_range.mpr (by omega)
      refine ⟨?_, hw.1.free _ (Or.inl ⟨n, hn', rfl⟩)⟩
      show va_at D cCl (ad n, gE dA (va_up K N kd n) (va_up I N f n) (va_up R N (fun _ => none) n) _) H
      rw [va_up_ne _ _ e, va_up_ne _ _ e, va_up_ne _ _ e, gE_ext (ad := ad) (fun i j hj => va_up_ne _ _ (by have := List.mem_range.mp (hw.2 n i j hn' hj); omega))]
      exact hw.1.at hn'
  refine ⟨⟨fun k z hk => ?_, ⟨fun i j z1 z2 hi hj e => ?_, fun k z hk => ?_⟩, hw.1.2.2⟩, ?_⟩
  · obtain ⟨n, h1, rfl⟩ := nL_inv hk
    exact (hat n (List.mem_range.mp (List.mem_of_getElem? h1))).1
  · obtain ⟨n, h1, rfl⟩ := nL_inv hi
    obtain ⟨n', h2, rfl⟩ := nL_inv hj
    have e1 : n = i := by
      obtain ⟨hlt, e⟩ := List.getElem?_eq_some_iff.mp h1
      simpa using e.symm
    have e2 : n' = j := by
      obtain ⟨hlt, e⟩ := List.getElem?_eq_some_iff.mp h2
      simpa using e.symm
    subst e1; subst e2
    have l1 := List.mem_range.mp (List.mem_of_getElem? h1)
    have l2 := List.mem_range.mp (List.mem_of_getElem? h2)
    have e : va_up ad N q n = va_up ad N q n' := e
    by_cases c1 : n = N
    · by_cases c2 : n' = N
      · omega
      · subst c1
        rw [va_up_self, va_up_ne _ _ c2] at e
        exact absurd e.symm (hf n' (by omega))
    · by_cases c2 : n' = N
      · subst c2
        rw [va_up_self, va_up_ne _ _ c1] at e
        exact absurd e (hf n (by omega))
      · rw [va_up_ne _ _ c1, va_up_ne _ _ c2] at e
        exact hw.1.inj (List.mem_range.mpr (by omega)) (List.mem_range.mpr (by omega)) e
  · obtain ⟨n, h1, rfl⟩ := nL_inv hk
    exact (hat n (List.mem_range.mp (List.mem_of_getElem? h1))).2
  · intro n i j hn hj
    by_cases e : n = N
    · subst e
      rw [va_up_self] at hj
      cases hj
    · rw [va_up_ne _ _ e] at hj
      have hn' : n ∈ List.range N := List.mem_range.mpr (by have := List.mem_range.mp hn; omega)
      have := List.mem_range.mp (hw.2 n i j hn' hj)
      exact List.mem_range.mpr (by omega)
theorem gw.kept {D : va_G} {dA : Nat → ClassId} {A : Nat → Prop} {H0 : Heap} {N : Nat} {ad : Nat → Nat} {K : gK} {I : mG} {R : gR} {H H1 : Heap} {locs locs1 : List Loc} (hw : gw D dA A H0 (List.range N) ad K I R H locs) (h : ∀ n, n < N → H1[ad n]? = H[ad n]?) (hS : va_S A H0 H1 locs1) : gw D dA A H0 (List.range N) ad K I R H1 locs1 :=
  ⟨⟨nP_kept hw.1.1 (fun n hn => h n (List.mem_range.mp hn)), hw.1.2.1, hS, hw.1.2.2.2⟩, hw.2⟩
theorem gw.lt {D : va_G} {dA : Nat → ClassId} {A : Nat → Prop} {H0 : Heap} {N : Nat} {ad : Nat → Nat} {K : gK} {I : mG} {R : gR} {H : Heap} {locs : List Loc} (hw : gw D dA A H0 (List.range N) ad K I R H locs) {n : Nat} (hn : n < N) : ad n < H.size := (hw.1.at (List.mem_range.mpr hn)).lt
/-- a fault is there: of the kind w, at the place b -/
def isFl (w b : Int32) (x : Addr) (S : gS) : Prop := ∃ n, n < S.1 ∧ S.2.1 n = x ∧ (S.2.2.1 n).1 = 11 ∧ S.2.2.2.1 n 0 = w ∧ S.2.2.2.1 n 1 = b
theorem f_at {D D' : va_G} {s : State} {dA : Nat → ClassId} (hK : va_K D cCl (cTy dA) s) (hK' : va_K D' fCl [] s) {a : Nat} {fs : List Value} {w b : Int32} {H : Heap} (h6 : fs[6]? = some (.int w)) (h7 : fs[7]? = some (.int b)) (hP : va_P D' fCl (fW a fs) H) (ad' : Nat → Nat) : va_at D cCl (a, gE dA (11, 0) (fun i => if i = 0 then w else b) (fun _ => none) ad') H := by
  obtain ⟨r, h1, cell, q1, q2, q3, q4⟩ := hP 0 _ rfl
  cases h1
  obtain ⟨s1, c1, -⟩ := hK.1 11 (RX8, TXf, 2) rfl
  obtain ⟨s2, c2, -⟩ := hK'.1 0 (RX8, TX8, 8) rfl
  have ec : D.1 11 = D'.1 0 := Option.some.inj (c1.symm.trans c2)
  refine ⟨(RX8, TXf, 2), rfl, cell, q1, q2.trans ec.symm, q3, fun k hk => ?_⟩
  have hk2 : k < 2 := hk
  obtain ⟨f1, f2, f3, f4, f5, f6⟩ := s1 k hk
  have hk8 : 6 + k < 8 := by omega
  obtain ⟨g1, g2, g3, g4, g5, g6⟩ := s2 (6 + k) hk8
  have eT : TX8 (6 + k) = TXf k := by
    have : k = 0 ∨ k = 1 := by omega
    rcases this with rfl | rfl <;> rfl
  dsimp only at g5 f5
  rw [eT] at g5
  cases f5.symm.trans g5
  show cell.slots[D.2 11 k]? = _
  rw [← f6, g6, q4 (6 + k) hk8]
  have : k = 0 ∨ k = 1 := by omega
  rcases this with rfl | rfl
  · show some (vp_V fs 6) = _
    simp [vp_V, h6, gF, gfv, gRef, gN, List.range_succ]
  · show some (vp_V fs 7) = _
    simp [vp_V, h7, gF, gfv, gRef, gN, List.range_succ]
section TAR
variable {p : Program} {l : Launch} {e : Env} {Rm : Room} {s : State} {m : MethodId} {args : Array Value} {below : List Frame} {meth : Method} {c : Code} {H : Heap} {locs : List Loc} {cells slots : Nat} {Q : State → Prop}
variable {cc : ByteArray} {nl pc : Nat} {ls : Array Slot} {rest : List Value} {own : String}
theorem T_athrow (hC : CallFix p m c cc nl s args lw_all own) {x : Addr} {C : String} (hx : ∃ cell : Cell, H[x]? = some cell ∧ cell.vm.isStatics = false ∧ s.vm.findClass C = some cell.cls) (hdg : decode cc pc = .ok (.athrow, 1)) (kk : WT p l e Rm s m args below meth c H locs cells slots Q (F0 m pc ls rest) x C) : W p l e Rm s m args below meth c H locs cells slots Q (F0 m pc ls (.ref x :: rest)) := by
  intro T hT X
  obtain ⟨cell, h1, h2, h3⟩ := hx
  obtain ⟨t, a, b⟩ := kk T hT X ⟨cell, by rw [hT]; exact h1, h2, by rw [X.warmed.alike.findClass]; exact h3⟩
  refine ⟨t, ?_, b⟩
  have hexec := hC.1
  have hb := hC.2.1
  jvm_step X.here [hexec, hb, hdg, athrow.wp_sem]
  exact a
end TAR
theorem z_of {args : Array Value} {s : State} {C n d : String} {v : Value} {A : Nat → Prop} (hl : (Cond.laysStatic C n d).before args s = true) (hini : (Cond.initialized C).before args s = true) (hv : (Term.static C n d).eval args s none [] s = some v) (hA : ∀ (q : Nat) (cell : Cell), s.heap[q]? = some cell → cell.vm.isStatics = true → ¬ A q) : va_Z C n d v A s s.heap := by
  obtain ⟨c, k, i, f, a, cell, hc, hi, hst, ha, hcell, hs, -⟩ := Cond.laysStatic_spec hl
  obtain ⟨-, a', cell', ha', hcell', -, hslot⟩ := Term.static_spec hi hv
  cases ha.symm.trans ha'
  cases hcell.symm.trans hcell'
  exact ⟨c, k, i, f, a, cell, hi, hst, Cond.initialized_spec hc (State.fieldFound?_spec hi).1 hini, ha, hcell, hs, hslot, hA a cell hcell hs⟩
theorem f_known {ws : List Cond} {s : State} {args : Array Value} (hts : ∀ w ∈ lw_all, w.before args s = true) : ∃ D : va_G, va_K D fCl [] s := by
  obtain ⟨cC, iS, h⟩ := u_known hts in_X8 (hts _ q513)
  refine ⟨(fun _ => cC, fun _ => iS), fun c q hq => ?_, fun k q hk => by cases hk⟩
  have h1 : c < 1 := (List.getElem?_eq_some_iff.mp hq).1
  rw [show c = 0 by omega] at hq
  cases hq
  exact h
set_option maxHeartbeats 800000 in
theorem tX7_must_t (l : Launch) (N : Nat) (ad : Nat → Nat) (K : gK) (I : mG) (R : gR) (rd : Nat) (w : Int32) (h0 : rd < N) (h1 : (K rd).1 = 10) : gMT l yX7_must (ws_ yX7_must cX7_must 3 none) ({ frames := 4, cells := 1, slots := 8, locals := 110 } : Room) [.ref (ad rd), .int (nI 0), .int w] N ad K I R RX8 (fun x S => S = (N + 1, va_up ad N x, va_up K N (11, 0), va_up I N (fun i => if i = 0 then w else I rd 4), va_up R N (fun _ => none))) := by
  refine gMT.of (by decide) (Nat.le_of_ble_eq_true rfl) ?_
  intro D dA p e s m args below meth cd ls hC hlk htb hK hX hZ hst hl hw
  have hl : lv_has ls 3 [(0, .ref (ad rd)), (1, .int (nI 0)), (2, .int w)] := hl
  obtain ⟨D', hK'⟩ := f_known (ws := lw_all) hC.2.2.2.2
  have hi67 : (Cond.initialized RJ0).before #[] s = true := va_any rfl (hC.2.2.2.2 _ q67)
  obtain ⟨v1, hv1, r1⟩ := Cond.isRef_spec hZ.2.1
  obtain ⟨v2, hv2, r2⟩ := Cond.isRef_spec hZ.2.2.1
  have z1 := z_of (hZ.2.2.2.2.1 _ _ _ q258) hi67 hv1 hst
  have z2 := z_of (hZ.2.2.2.2.1 _ _ _ q260) hi67 hv2 hst
  have hKc := (hK'.1 0 _ rfl).2.1
  refine lv_iload_n hC.1 hC.2.1 dX7_must_0 rfl (lv_at hl 1 rfl) ?_
  refine k_zne (tgt := 17) hC (by decide) dX7_must_1 (by decide) (fun h => absurd rfl h) (fun _ => ?_)
  refine W.newcK hC.1 hC.2.1 hC.2.2.2.1 (hC.2.2.2.2 _ q512) (hC.2.2.2.2 _ q513) (hC.2.2.2.2 _ q78) (g := F0 m 4 ls []) rfl dX7_must_4 (by decide) (by decide) hKc rfl fun H kC hkC e1 z3 o1 => ?_
  have hlt := fun n (hn : n < N) => hw.lt hn
  have hS : va_S (nA (List.range N) ad s.heap.size) s.heap H [] := ⟨by omega, fun q h _ => o1 q h, fun x hx => by cases hx⟩
  have hwH := hw.kept (fun n hn => o1 _ (hlt n hn)) hS
  have hP : va_P D' fCl (fW s.heap.size [.null, .null, .null, .null, .null, .int (nI 0), .int (nI 0), .int (nI 0)]) H := by
    intro k z hk
    have hz : k < 1 := (List.getElem?_eq_some_iff.mp hk).1
    rw [show k = 0 by omega] at hk
    cases hk
    exact ⟨_, rfl, (u_born tyX8 hC.2.2.2.2 in_X8 (hK'.1 0 _ rfl) hkC e1 tyX8_ok).to (by decide)⟩
  refine lv_dup hC.1 hC.2.1 dX7_must_7 rfl ?_
  refine lv_iload_n hC.1 hC.2.1 dX7_must_8 rfl (lv_at hl 2 rfl) ?_
  refine lv_aload_n hC.1 hC.2.1 dX7_must_9 rfl (lv_at hl 0 rfl) ?_
  refine g_get (C := RX7) (T := TX7) (ref := RX7) hC hK hwH (List.mem_range.mpr h0) h1 (by decide) rfl in_X7 4 (by decide) q463 (fun x h => h) (v := .int (I rd 4)) rfl dX7_must_10 ?_
  have hA : ∀ q, fA s.heap.size H.size q → nA (List.range N) ad s.heap.size q := by
    rintro q (h | h)
    · exact Or.inr (by omega)
    · exact Or.inr (by omega)
  refine f_I (n := 2) hC hl.1 hK' z1 z2 hP hS hA (tX8_init l s.heap.size v1 v2 _ _ _ _ _ _ _ _ w (I rd 4) r1 r2) q521 q522 q78 q523 rfl (by decide +kernel) ⟨by decide, by decide⟩ rfl rfl (Nat.le_of_ble_eq_true rfl) dX7_must_13 ⟨rfl, rfl⟩ ⟨by decide, by decide⟩ ?_
  rintro fs H2 locs rfl hP2 o2 hS2
  have hw2 := hwH.kept (fun n hn => o2 _ (by have := hlt n hn; omega) (by have := hlt n hn; omega)) hS2
  have hw3 := gw_adopt hw2 (q := s.heap.size) (kd := (11, 0)) (f := fun i => if i = 0 then w else I rd 4) (f_at hK hK' rfl rfl hP2) (fun n hn => by have := hlt n hn; omega) (Or.inr (Nat.le_refl _))
  refine T_athrow hC (C := RX8) ?_ dX7_must_16 ?_
  · obtain ⟨r, hr, cell, q1, q2, q3, -⟩ := hP2 0 _ rfl
    cases hr
    exact ⟨cell, q1, by rw [q3]; rfl, by rw [q2]; exact hKc⟩
  · refine T_out hlk htb hw3 (gGo_new (I1 := I) (R1 := R) gGo.rf ?_) ⟨by decide, by decide⟩ rfl
    intro n hn
    exact va_up_ne _ _ (by omega)
