/-! ===== WindCarver: the pass laid aside (by gen/w42.py) ===== -/
def gA (l : Launch) (y : MethodName) (ws : List Cond) (rm : Room) (as : List Value) (N : Nat) (ad : Nat → Nat) (K : gK) (I : mG) (R : gR) (post : Option Value → mG × gR → Prop) : Prop := gM l y ws rm as N ad K I R (fun v S => ∃ I' R', (N, ad, K, I', R') = S ∧ post v (I', R'))
section XR
variable {p : Program} {l : Launch} {e : Env} {Rm : Room} {s : State} {m : MethodId} {args : Array Value} {below : List Frame} {meth : Method} {c : Code} {H : Heap} {locs : List Loc} {cells slots : Nat} {Q : State → Prop}
variable {cc : ByteArray} {nl pc : Nat} {ls : Array Slot} {rest : List Value} {D : va_G} {dA : Nat → ClassId} {A : Nat → Prop} {H0 : Heap} {N : Nat} {ad : Nat → Nat} {K : gK} {I : mG} {R : gR} {own : String}
theorem x_ga (hC : CallFix p m c cc nl s args lw_all own) (hK : va_K D cCl (cTy dA) s) (hw : gw D dA A H0 (List.range N) ad K I R H locs) (hN : 0 < N) (h0 : (K 0).1 = 0) (k j : Nat) (hkj : R 0 k = some j) (hk : k < 12) (hrf : gRef 0 k = true) {idx : Nat} (hl : Cond.fieldLink own idx RX0 (TX0 k).2.1 (TX0 k).2.2.1 ∈ lw_all) (hs : (TX0 k).1 = RX0) (hdg : decode cc pc = .ok (.getfield idx, 3))
    (kk : W p l e Rm s m args below meth c H locs cells slots Q (F0 m (pc + 3) ls (.ref (ad j) :: rest))) : W p l e Rm s m args below meth c H locs cells slots Q (F0 m pc ls (.ref (ad 0) :: rest)) :=
  g_get (C := RX0) (T := TX0) (ref := RX0) hC hK hw (List.mem_range.mpr hN) h0 (by decide) rfl in_X0 k hk hl (fun x h => by rw [hs] at h; exact h) (by unfold gfv; rw [if_pos hrf, hkj]; rfl) hdg kk
theorem x_gi (hC : CallFix p m c cc nl s args lw_all own) (hK : va_K D cCl (cTy dA) s) (hw : gw D dA A H0 (List.range N) ad K I R H locs) (hN : 0 < N) (h0 : (K 0).1 = 0) (k : Nat) (hk : k < 12) (hrf : gRef 0 k = false) {idx : Nat} (hl : Cond.fieldLink own idx RX0 (TX0 k).2.1 (TX0 k).2.2.1 ∈ lw_all) (hs : (TX0 k).1 = RX0) {v : Int32} (hv : I 0 k = v) (hdg : decode cc pc = .ok (.getfield idx, 3))
    (kk : W p l e Rm s m args below meth c H locs cells slots Q (F0 m (pc + 3) ls (.int v :: rest))) : W p l e Rm s m args below meth c H locs cells slots Q (F0 m pc ls (.ref (ad 0) :: rest)) :=
  g_get (C := RX0) (T := TX0) (ref := RX0) hC hK hw (List.mem_range.mpr hN) h0 (by decide) rfl in_X0 k hk hl (fun x h => by rw [hs] at h; exact h) (by unfold gfv; rw [hrf, hv]; rfl) hdg kk
theorem x_pi (hC : CallFix p m c cc nl s args lw_all own) (hK : va_K D cCl (cTy dA) s) (hw : gw D dA A H0 (List.range N) ad K I R H locs) (hN : 0 < N) (h0 : (K 0).1 = 0) (k : Nat) (hk : k < 12) (hrf : gRef 0 k = false) {idx : Nat} (hl : Cond.fieldLink own idx RX0 (TX0 k).2.1 (TX0 k).2.2.1 ∈ lw_all) (hs : (TX0 k).1 = RX0) (hfin : (TX0 k).2.2.2 = false) {ty : FieldType} {x : Int32} (hd : parseFieldDescriptor (TX0 k).2.2.1 = some ty) (hn : narrow ty (.int x) = .int x) (hfit : fits ty (.int x) = true) (hdg : decode cc pc = .ok (.putfield idx, 3))
    (kk : ∀ (H1 : Heap) (locs1 : List Loc), gw D dA A H0 (List.range N) ad K (g2 I 0 k x) R H1 locs1 → W p l e Rm s m args below meth c H1 locs1 cells slots Q (F0 m (pc + 3) ls rest)) : W p l e Rm s m args below meth c H locs cells slots Q (F0 m pc ls (.int x :: .ref (ad 0) :: rest)) :=
  g_puti (C := RX0) (T := TX0) (ref := RX0) hC hK hw (List.mem_range.mpr hN) h0 (by decide) rfl in_X0 tyX0 tyX0_ok nmX0 k hk hrf hl (fun x h => by rw [hs] at h; exact h) hfin hd hn hfit hdg kk
end XR
/-- what the questions lean on -/
def wB (N : Nat) (K : gK) (I : mG) (R : gR) (st : vV) (b : Bool) : Prop :=
  44 ≤ N ∧ (K 0).1 = 0 ∧ (R 0 4 = some 11 ∧ R 0 5 = some 17 ∧ R 0 11 = some 27) ∧ (K 27 = (32, 16) ∧ ∀ c, c < 16 → R 27 c = some (28 + c) ∧ (K (28 + c)).1 = 4 ∧ I (28 + c) 0 = nI c ∧ I (28 + c) 1 = nI 99) ∧
  psR (List.range N) K I R 11 st ∧ isPass (List.range N) K R 17 ∧ I 11 0 = bI b ∧ ∃ h, h ≤ 999 ∧ st 0 = nI h
theorem wB.ge {N : Nat} {K : gK} {I : mG} {R : gR} {st : vV} {b : Bool} (h : wB N K I R st b) : 44 ≤ N := h.1
theorem wB.k0 {N : Nat} {K : gK} {I : mG} {R : gR} {st : vV} {b : Bool} (h : wB N K I R st b) : (K 0).1 = 0 := h.2.1
theorem wB.r4 {N : Nat} {K : gK} {I : mG} {R : gR} {st : vV} {b : Bool} (h : wB N K I R st b) : R 0 4 = some 11 := h.2.2.1.1
theorem wB.r5 {N : Nat} {K : gK} {I : mG} {R : gR} {st : vV} {b : Bool} (h : wB N K I R st b) : R 0 5 = some 17 := h.2.2.1.2.1
theorem wB.r11 {N : Nat} {K : gK} {I : mG} {R : gR} {st : vV} {b : Bool} (h : wB N K I R st b) : R 0 11 = some 27 := h.2.2.1.2.2
theorem wB.k27 {N : Nat} {K : gK} {I : mG} {R : gR} {st : vV} {b : Bool} (h : wB N K I R st b) : K 27 = (32, 16) := h.2.2.2.1.1
theorem wB.tr {N : Nat} {K : gK} {I : mG} {R : gR} {st : vV} {b : Bool} (h : wB N K I R st b) {c : Nat} (hc : c < 16) : R 27 c = some (28 + c) ∧ (K (28 + c)).1 = 4 ∧ I (28 + c) 0 = nI c ∧ I (28 + c) 1 = nI 99 := h.2.2.2.1.2 c hc
theorem wB.ps {N : Nat} {K : gK} {I : mG} {R : gR} {st : vV} {b : Bool} (h : wB N K I R st b) : psR (List.range N) K I R 11 st := h.2.2.2.2.1
theorem wB.p17 {N : Nat} {K : gK} {I : mG} {R : gR} {st : vV} {b : Bool} (h : wB N K I R st b) : isPass (List.range N) K R 17 := h.2.2.2.2.2.1
theorem wB.told {N : Nat} {K : gK} {I : mG} {R : gR} {st : vV} {b : Bool} (h : wB N K I R st b) : I 11 0 = bI b := h.2.2.2.2.2.2.1
theorem wB.hr {N : Nat} {K : gK} {I : mG} {R : gR} {st : vV} {b : Bool} (h : wB N K I R st b) : ∃ h, h ≤ 999 ∧ st 0 = nI h := h.2.2.2.2.2.2.2
/-- the pass laid aside may change -/
theorem wB.off {N : Nat} {K : gK} {I I' : mG} {R R' : gR} {st : vV} {b : Bool} (h : wB N K I R st b) (ho : pOff 17 I I' R R') : wB N K I' R' st b := by
  obtain ⟨h1, h2, h3, ⟨h4, h4'⟩, h5, h6, h7, h8⟩ := h
  refine ⟨h1, h2, ?_, ⟨h4, fun c hc => ?_⟩, h5.off ho h6 (by decide), h6.off (ho.2 17 (by decide)), ?_, h8⟩
  · rw [ho.2 0 (by decide)]; exact h3
  · rw [ho.2 27 (by decide), (ho.1 (28 + c) (by omega)).1]; exact h4' c hc
  · rw [(ho.1 11 (by decide)).1]; exact h7
theorem hourS_0 (st : vV) : hourS st 0 = st 0 + nI 1 := by
  rw [hourS_eq, rsF_o _ _ _ (Or.inl rfl)]
  show upd _ 0 _ 0 = _
  rw [upd_at, if_pos rfl, (hbF_char st (bl st).1 16 (Nat.le_refl _)).2 0 (by decide)]
theorem stN_hr {st : vV} {h : Nat} (e : st 0 = nI h) : ∀ n, stN st n 0 = nI (h + n)
  | 0 => e
  | n + 1 => by
    rw [← stN_s, hourS_0, stN_hr e n, nI_add]
    rfl

set_option maxHeartbeats 800000 in
theorem tX0_asNow (l : Launch) (N : Nat) (ad : Nat → Nat) (K : gK) (I : mG) (R : gR) (st : vV) (b : Bool) (h0 : wB N K I R st b) : gA l yX0_asNow (ws_ yX0_asNow cX0_asNow 1 (some (FieldType.object "WindCarver$Pass"))) ({ frames := 2, cells := 0, slots := 0, locals := 81 } : Room) [.ref (ad 0)] N ad K I R (fun v S => v = some (.ref (ad 17)) ∧ psR (List.range N) K S.1 S.2 17 st ∧ pOff 17 I S.1 R S.2) := by
  refine gM.of (by decide) (Nat.le_of_ble_eq_true rfl) ?_
  intro D dA p e s m args below meth cd ls hC hlk hr hin hK hX hl hw
  have hl : lv_has ls 1 [(0, .ref (ad 0))] := hl
  have hge := h0.ge
  refine lv_aload_n hC.1 hC.2.1 dX0_asNow_0 rfl (lv_at hl 0 rfl) ?_
  refine x_ga hC hK hw (by omega) h0.k0 5 17 h0.r5 (by decide) rfl q207 rfl dX0_asNow_1 ?_
  refine lv_aload_n hC.1 hC.2.1 dX0_asNow_4 rfl (lv_at hl 0 rfl) ?_
  refine x_ga hC hK hw (by omega) h0.k0 4 11 h0.r4 (by decide) rfl q206 rfl dX0_asNow_5 ?_
  refine g_callv (n := 1) (C := RX2) (T := TX2) hC hl.1 hK hX hw (h0.p17).1.1 (h0.p17).2.1.1 (by decide) rfl (tX2_become l (List.range N) ad K I R 17 11 st b (h0.p17) (h0.ps) (by decide) (h0.told)) (lw_V q689 q690 q691 q62 q692) rfl rfl (by decide +kernel) ⟨by decide, by decide⟩ rfl rfl (Nat.le_of_ble_eq_true rfl) dX0_asNow_8 ⟨Nat.zero_le _, Nat.zero_le _⟩ ?_
  rintro I8 R8 H locs ⟨b8, o8, t8⟩ hw
  have w8 := h0.off o8
  refine lv_aload_n hC.1 hC.2.1 dX0_asNow_11 rfl (lv_at hl 0 rfl) ?_
  refine x_ga hC hK hw (by omega) w8.k0 5 17 w8.r5 (by decide) rfl q207 rfl dX0_asNow_12 ?_
  exact M_aret hC hlk hw gGo.rf ⟨by simp only [gN]; omega, by simp only [gN]; omega⟩ hr (Or.inl ⟨_, rfl⟩) (Or.inr ⟨_, rfl⟩) (⟨_, _, rfl, rfl, b8, o8⟩) dX0_asNow_15

theorem pOff_fl (u : Nat) (I : mG) (R : gR) (f : vV × Int32) : pOff u I (pFL I u f) R R := ⟨fun n hn => ⟨pFL_ne _ _ _ (by omega) (by omega) (by omega), rfl⟩, fun _ _ => rfl⟩
theorem psR.fl {dom : List Nat} {K : gK} {I : mG} {R : gR} {u : Nat} {st : vV} (h : psR dom K I R u st) (f : vV × Int32) : psR dom K (pFL I u f) R u st := by
  obtain ⟨h1, h2, h3, h4⟩ := h
  refine ⟨h1, by rw [pFL_u]; exact h2, fun y hy => ?_, fun c hc => ?_⟩
  · rw [pFL_ne _ _ _ (by omega) (by omega) (by omega), pFL_ne _ _ _ (by omega) (by omega) (by omega)]; exact h3 y hy
  · obtain ⟨g1, g2, g3, g4⟩ := h4 c hc
    refine ⟨by rw [pFL_u]; exact g1, g2, g3, ?_⟩
    rcases g4 with g4 | ⟨w, k, a1, a2, a3, a4, a5, a6, a7, a8⟩
    · exact Or.inl g4
    · have hw := h1.wk a5 a3 a4
      exact Or.inr ⟨w, k, a1, a2, a3, a4, a5, a6, by rw [pFL_ne _ _ _ (by omega) (by omega) (by omega)]; exact a7, by rw [pFL_ne _ _ _ (by omega) (by omega) (by omega)]; exact a8⟩
/-- the pass laid aside, blown -/
def bwn (I : mG) (R : gR) (S : mG × gR) (st : vV) : Prop := pOff 17 I S.1 R S.2 ∧ S.1 17 8 = (bl st).2 ∧ S.1 (17 + 4) = (bl st).1 ∧ S.1 (17 + 5) = fun y => (bl st).1 (16 + y)
theorem bwn_fl {I I1 : mG} {R R1 : gR} {st : vV} (ho : pOff 17 I I1 R R1) : bwn I R (pFL I1 17 (bl st), R1) st := by
  refine ⟨ho.tr (pOff_fl 17 _ _ _), ?_, pFL_4 I1 17 (bl st), pFL_5 I1 17 (bl st)⟩
  show pFL I1 17 (bl st) 17 8 = _
  rw [pFL_u]
  rfl

set_option maxHeartbeats 800000 in
theorem tX0_blown (l : Launch) (N : Nat) (ad : Nat → Nat) (K : gK) (I : mG) (R : gR) (st : vV) (b : Bool) (h0 : wB N K I R st b) : gA l yX0_blown (ws_ yX0_blown cX0_blown 2 (some (FieldType.object "WindCarver$Pass"))) ({ frames := 4, cells := 0, slots := 0, locals := 101 } : Room) [.ref (ad 0)] N ad K I R (fun v S => v = some (.ref (ad 17)) ∧ bwn I R S st) := by
  refine gM.of (by decide) (Nat.le_of_ble_eq_true rfl) ?_
  intro D dA p e s m args below meth cd ls hC hlk hr hin hK hX hl hw
  have hl : lv_has ls 2 [(0, .ref (ad 0))] := hl
  have hge := h0.ge
  obtain ⟨h, hh, eh⟩ := h0.hr
  refine lv_aload_n hC.1 hC.2.1 dX0_blown_0 rfl (lv_at hl 0 rfl) ?_
  refine M_V (n := 0) (C := RX0) (T := TX0) hC hl.1 hK hX hw (by omega) h0.k0 (by decide) rfl (tX0_asNow l N ad K I R st b (h0)) (lw_V q836 q838 qs19 q60 q839) (by decide +kernel) ⟨by decide, by decide⟩ rfl rfl (Nat.le_of_ble_eq_true rfl) dX0_blown_1 ⟨by simp only [gN]; omega, by simp only [gN]; omega⟩ ?_
  rintro _ N2 ad2 K2 I1 R1 H locs ⟨I3, R3, e3, rfl, b1, o1⟩ hg hw
  cases e3
  dsimp only at b1 o1
  have w1 := (h0).off o1
  refine lv_astore_n (lv' := [(1, .ref (ad 17)), (0, .ref (ad 0))]) hC.1 hC.2.1 dX0_blown_4 rfl hl (by decide) rfl (fun ls hl => ?_)
  refine lv_aload_n hC.1 hC.2.1 dX0_blown_5 rfl (lv_at hl 0 rfl) ?_
  refine g_callv (n := 0) (C := RX2) (T := TX2) hC hl.1 hK hX hw (b1.1).1.1 (b1.1).2.1.1 (by decide) rfl (tX2_blow l (List.range N) ad K I1 R1 17 st h (b1) (eh) (by omega)) (lw_V q840 q768 q769 q62 q770) rfl rfl (by decide +kernel) ⟨by decide, by decide⟩ rfl rfl (Nat.le_of_ble_eq_true rfl) dX0_blown_6 ⟨Nat.zero_le _, Nat.zero_le _⟩ ?_
  rintro I2 R2 H locs hS2 hw
  replace hw := hw.eq (Prod.mk.inj hS2).1 (Prod.mk.inj hS2).2
  clear hS2
  refine lv_aload_n hC.1 hC.2.1 dX0_blown_9 rfl (lv_at hl 0 rfl) ?_
  exact M_aret hC hlk hw gGo.rf ⟨by simp only [gN]; omega, by simp only [gN]; omega⟩ hr (Or.inl ⟨_, rfl⟩) (Or.inr ⟨_, rfl⟩) (⟨_, _, rfl, rfl, bwn_fl o1⟩) dX0_blown_10

set_option maxHeartbeats 800000 in
theorem tX0_in (l : Launch) (N : Nat) (ad : Nat → Nat) (K : gK) (I : mG) (R : gR) (d : Nat) (st : vV) (b : Bool) (h0 : wB N K I R st b) (h1 : d ≤ 40) : gA l yX0_in (ws_ yX0_in cX0_in 4 (some (FieldType.object "WindCarver$Pass"))) ({ frames := 5, cells := 0, slots := 0, locals := 113 } : Room) [.ref (ad 0), .int (nI d)] N ad K I R (fun v S => v = some (.ref (ad 17)) ∧ bwn I R S (stN st d)) := by
  refine gM.of (by decide) (Nat.le_of_ble_eq_true rfl) ?_
  intro D dA p e s m args below meth cd ls hC hlk hr hin hK hX hl hw
  have hl : lv_has ls 4 [(0, .ref (ad 0)), (1, .int (nI d))] := hl
  have hge := h0.ge
  obtain ⟨h, hh, eh⟩ := h0.hr
  refine lv_aload_n hC.1 hC.2.1 dX0_in_0 rfl (lv_at hl 0 rfl) ?_
  refine M_V (n := 0) (C := RX0) (T := TX0) hC hl.1 hK hX hw (by omega) h0.k0 (by decide) rfl (tX0_asNow l N ad K I R st b (h0)) (lw_V q836 q838 qs19 q60 q839) (by decide +kernel) ⟨by decide, by decide⟩ rfl rfl (Nat.le_of_ble_eq_true rfl) dX0_in_1 ⟨by simp only [gN]; omega, by simp only [gN]; omega⟩ ?_
  rintro _ N2 ad2 K2 I1 R1 H locs ⟨I3, R3, e3, rfl, b1, o1⟩ hg hw
  cases e3
  dsimp only at b1 o1
  have w1 := (h0).off o1
  refine lv_astore_n (lv' := [(2, .ref (ad 17)), (0, .ref (ad 0)), (1, .int (nI d))]) hC.1 hC.2.1 dX0_in_4 rfl hl (by decide) rfl (fun ls hl => ?_)
  refine lv_iconst (v := (nI 0)) hC.1 hC.2.1 dX0_in_5 (by decide) ?_
  refine lv_istore_n (lv' := [(3, .int (nI 0)), (2, .ref (ad 17)), (0, .ref (ad 0)), (1, .int (nI d))]) hC.1 hC.2.1 dX0_in_6 rfl hl (by decide) rfl (fun ls hl => ?_)
  refine W.loop (fun ls i H locs => ∃ Ix Rx, lv_has ls 4 [(0, .ref (ad 0)), (1, .int (nI d)), (2, .ref (ad 17)), (3, .int (nI i))] ∧ gw D dA (nA (List.range N) ad s.heap.size) s.heap (List.range N) ad K Ix Rx H locs ∧ (pOff 17 I Ix R Rx) ∧ (psR (List.range N) K Ix Rx 17 (stN st i)) ∧ (i ≤ d)) 7 (fun _ => []) (fun i => d - i) ?_ 0 ⟨_, _, hl.sub' [2, 3, 1, 0] (by rfl), hw, o1, b1, by omega⟩
  rintro ls i H locs ⟨Ix, Rx, hl, hw, ox, bx, hi⟩ ih7
  have wx := h0.off ox
  refine lv_iload_n hC.1 hC.2.1 dX0_in_7 rfl (lv_at hl 3 rfl) ?_
  refine lv_iload_n hC.1 hC.2.1 dX0_in_8 rfl (lv_at hl 1 rfl) ?_
  refine k_ge (tgt := 23) hC (by omega) (by omega) dX0_in_9 (by decide) (fun c9 => ?_) (fun c9 => ?_)
  · have eN : d = i := by omega
    subst eN
    refine lv_aload_n hC.1 hC.2.1 dX0_in_23 rfl (lv_at hl 2 rfl) ?_
    refine g_callv (n := 0) (C := RX2) (T := TX2) hC hl.1 hK hX hw (bx.1).1.1 (bx.1).2.1.1 (by decide) rfl (tX2_blow l (List.range N) ad K Ix Rx 17 (stN st d) (h + d) (bx) (stN_hr eh d) (by omega)) (lw_V q840 q768 q769 q62 q770) rfl rfl (by decide +kernel) ⟨by decide, by decide⟩ rfl rfl (Nat.le_of_ble_eq_true rfl) dX0_in_24 ⟨Nat.zero_le _, Nat.zero_le _⟩ ?_
    rintro I2 R2 H locs hS2 hw
    replace hw := hw.eq (Prod.mk.inj hS2).1 (Prod.mk.inj hS2).2
    clear hS2
    refine lv_aload_n hC.1 hC.2.1 dX0_in_27 rfl (lv_at hl 2 rfl) ?_
    exact M_aret hC hlk hw gGo.rf ⟨by simp only [gN]; omega, by simp only [gN]; omega⟩ hr (Or.inl ⟨_, rfl⟩) (Or.inr ⟨_, rfl⟩) (⟨_, _, rfl, rfl, bwn_fl ox⟩) dX0_in_28
  · refine lv_aload_n hC.1 hC.2.1 dX0_in_12 rfl (lv_at hl 2 rfl) ?_
    refine g_calli (n := 0) (C := RX2) (T := TX2) hC hl.1 hK hX hw (bx.1).1.1 (bx.1).2.1.1 (by decide) rfl (tX2_goOn l (List.range N) ad K Ix Rx 17 (stN st i) (h + i) (bx) (stN_hr eh i) (by omega)) (lw_V q763 q764 q765 q62 q766) rfl rfl (by decide +kernel) ⟨by decide, by decide⟩ rfl rfl (Nat.le_of_ble_eq_true rfl) dX0_in_13 ⟨Nat.zero_le _, Nat.zero_le _⟩ ?_
    rintro r13 I13 R13 H locs ⟨e13, b13, q13, t13⟩ hw
    dsimp only at b13 q13 t13
    have w13 := (wx).off q13
    refine lv_pop hC.1 hC.2.1 dX0_in_16 rfl ?_
    refine k_iinc (k := 3) (d := 1) (lv' := [(3, .int (nI (i + 1))), (0, .ref (ad 0)), (1, .int (nI d)), (2, .ref (ad 17))]) hC dX0_in_17 hl rfl (by decide) (by decide) rfl (fun ls hl => ?_)
    refine lv_goto (tgt := 7) hC.1 hC.2.1 dX0_in_20 (by decide) ?_
    exact ih7 ls (i + 1) H locs ⟨_, _, hl.sub' [1, 2, 3, 0] (by rfl), hw, ox.tr q13, by rw [← stN_s]; exact b13, by omega⟩ (by omega)
