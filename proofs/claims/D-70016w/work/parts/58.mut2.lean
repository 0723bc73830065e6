/-! ===== WindCarver: undo, restore, feed .. (by gen/w58.py) ===== -/
section GRX
variable {p : Program} {l : Launch} {e : Env} {Rm : Room} {s : State} {m : MethodId} {args : Array Value} {below : List Frame} {meth : Method} {c : Code} {H : Heap} {locs : List Loc} {cells slots : Nat} {Q : State → Prop}
variable {cc : ByteArray} {nl pc : Nat} {ls : Array Slot} {rest : List Value} {D : va_G} {dA : Nat → ClassId} {A : Nat → Prop} {H0 : Heap} {dom : List Nat} {ad : Nat → Nat} {K : gK} {I : mG} {R : gR} {own ref C : String} {T : u_T}
theorem g_getX (hC : CallFix p m c cc nl s args lw_all own) (hK : va_K D cCl (cTy dA) s) (hX : gX s) (hw : gw D dA A H0 dom ad K I R H locs) {n ci : Nat} (hn : n ∈ dom) (hk0 : (K n).1 = ci) (hc20 : ci < 20) (hc : cCl[ci]? = some (C, T, gN ci)) (hin : ∀ w ∈ u_ws C T (gN ci), w ∈ lw_all) (k : Nat) (hk : k < gN ci) {idx : Nat} {host : String} (hl : Cond.fieldLinkNest own idx ref (T k).2.1 (T k).2.2.1 host ∈ lw_tbl) (hs : ∀ x, s.fieldFound? (T k).1 (T k).2.1 (T k).2.2.1 = some x → s.fieldFound? ref (T k).2.1 (T k).2.2.1 = some x) {v : Value} (hv : gfv ci (I n) (R n) ad k = v) (hdg : decode cc pc = .ok (.getfield idx, 3))
    (kk : W p l e Rm s m args below meth c H locs cells slots Q (F0 m (pc + 3) ls (v :: rest))) : W p l e Rm s m args below meth c H locs cells slots Q (F0 m pc ls (.ref (ad n) :: rest)) := by
  obtain ⟨hx, hb, -, ho, hts⟩ := hC
  obtain ⟨q0, -, hq⟩ := nL_get (gCt dA K I R ad) ad hn
  have e1 : gCt dA K I R ad n = .inr (ci, gF ci (I n) (R n) ad) := gE_o hk0 hc20
  rw [e1] at hq
  exact va_getN (ci := ci) hx hb hts hin ho hK hw.1.1 q0 hq hc k hk (va_Nw.use rfl (hX _ hl rfl)) hs (by rw [gF_get hk, hv]) hdg kk
theorem g_putiX (hC : CallFix p m c cc nl s args lw_all own) (hK : va_K D cCl (cTy dA) s) (hX : gX s) (hw : gw D dA A H0 dom ad K I R H locs) {n ci : Nat} (hn : n ∈ dom) (hk0 : (K n).1 = ci) (hc20 : ci < 20) (hc : cCl[ci]? = some (C, T, gN ci)) (hin : ∀ w ∈ u_ws C T (gN ci), w ∈ lw_all) (ty0 : Nat → FieldType) (hty : ∀ k, k < gN ci → parseFieldDescriptor (T k).2.2.1 = some (ty0 k)) (hnm : ∀ a, a < gN ci → ∀ b, b < gN ci → a ≠ b → (T a).2.1 ≠ (T b).2.1) (k : Nat) (hk : k < gN ci) (hr : gRef ci k = false) {idx : Nat} {host : String} (hl : Cond.fieldLinkNest own idx ref (T k).2.1 (T k).2.2.1 host ∈ lw_tbl) (hs : ∀ x, s.fieldFound? (T k).1 (T k).2.1 (T k).2.2.1 = some x → s.fieldFound? ref (T k).2.1 (T k).2.2.1 = some x) (hfin : (T k).2.2.2 = false) {ty : FieldType} {x : Int32} (hd : parseFieldDescriptor (T k).2.2.1 = some ty) (hnr : narrow ty (.int x) = .int x) (hfit : fits ty (.int x) = true) (hdg : decode cc pc = .ok (.putfield idx, 3))
    (kk : ∀ (H1 : Heap) (locs1 : List Loc), gw D dA A H0 dom ad K (g2 I n k x) R H1 locs1 → W p l e Rm s m args below meth c H1 locs1 cells slots Q (F0 m (pc + 3) ls rest)) : W p l e Rm s m args below meth c H locs cells slots Q (F0 m pc ls (.int x :: .ref (ad n) :: rest)) := by
  obtain ⟨hx, hb, -, ho, hts⟩ := hC
  obtain ⟨q0, hq0, hq⟩ := nL_get (gCt dA K I R ad) ad hn
  have e1 : gCt dA K I R ad n = .inr (ci, gF ci (I n) (R n) ad) := gE_o hk0 hc20
  rw [e1] at hq
  refine va_putN (ci := ci) hx hb hts hin ty0 hty hnm ho hK hw.1.1 hw.1.2.1 hw.1.2.2.1 q0 hq hc k hk (va_Nw.use rfl (hX _ hl rfl)) hs hfin hd hnr hfit (by rw [gF_len]; exact hk) hdg (fun H1 locs1 hP hD hS => kk H1 locs1 ?_)
  exact gw_I hw hq0 (I' := upd (I n) k x) (by rw [gF_setI hk hr]; exact (gE_o hk0 hc20).symm) hP hD hS
theorem g_putrX (hC : CallFix p m c cc nl s args lw_all own) (hK : va_K D cCl (cTy dA) s) (hX : gX s) (hw : gw D dA A H0 dom ad K I R H locs) {n ci : Nat} (hn : n ∈ dom) (hk0 : (K n).1 = ci) (hc20 : ci < 20) (hc : cCl[ci]? = some (C, T, gN ci)) (hin : ∀ w ∈ u_ws C T (gN ci), w ∈ lw_all) (ty0 : Nat → FieldType) (hty : ∀ k, k < gN ci → parseFieldDescriptor (T k).2.2.1 = some (ty0 k)) (hnm : ∀ a, a < gN ci → ∀ b, b < gN ci → a ≠ b → (T a).2.1 ≠ (T b).2.1) (k : Nat) (hk : k < gN ci) (hr : gRef ci k = true) {idx : Nat} {host : String} (hl : Cond.fieldLinkNest own idx ref (T k).2.1 (T k).2.2.1 host ∈ lw_tbl) (hs : ∀ x, s.fieldFound? (T k).1 (T k).2.1 (T k).2.2.1 = some x → s.fieldFound? ref (T k).2.1 (T k).2.2.1 = some x) (hfin : (T k).2.2.2 = false) {ty : FieldType} {y : Option Nat} (hy : ∀ j, y = some j → j ∈ dom) {v : Value} (hv : va_rf (y.map ad) = v) (hd : parseFieldDescriptor (T k).2.2.1 = some ty) (hnr : narrow ty v = v) (hfit : fits ty v = true) (hdg : decode cc pc = .ok (.putfield idx, 3))
    (kk : ∀ (H1 : Heap) (locs1 : List Loc), gw D dA A H0 dom ad K I (r2 R n k y) H1 locs1 → W p l e Rm s m args below meth c H1 locs1 cells slots Q (F0 m (pc + 3) ls rest)) : W p l e Rm s m args below meth c H locs cells slots Q (F0 m pc ls (v :: .ref (ad n) :: rest)) := by
  obtain ⟨hx, hb, -, ho, hts⟩ := hC
  obtain ⟨q0, hq0, hq⟩ := nL_get (gCt dA K I R ad) ad hn
  have e1 : gCt dA K I R ad n = .inr (ci, gF ci (I n) (R n) ad) := gE_o hk0 hc20
  rw [e1] at hq
  refine va_putN (ci := ci) hx hb hts hin ty0 hty hnm ho hK hw.1.1 hw.1.2.1 hw.1.2.2.1 q0 hq hc k hk (va_Nw.use rfl (hX _ hl rfl)) hs hfin hd hnr hfit (by rw [gF_len]; exact hk) hdg (fun H1 locs1 hP hD hS => kk H1 locs1 ?_)
  exact gw_R hw hq0 hy (i := k) (by rw [← hv, gF_setR hk hr]; exact (gE_o hk0 hc20).symm) hP hD hS
end GRX

set_option maxHeartbeats 800000 in
theorem tX0_well (l : Launch) (N : Nat) (ad : Nat → Nat) (K : gK) (I : mG) (R : gR) (z : Int32) (G : mG) (b : Bool) (h0 : wcR N K I R G b) : gA l yX0_well (ws_ yX0_well cX0_well 2 (some FieldType.int)) ({ frames := 0, cells := 0, slots := 0, locals := 0 } : Room) [.ref (ad 0), .int z] N ad K I R (fun v S => v = some (.int (z)) ∧ wcR N K S.1 S.2 (g2 G 0 3 (nI 0)) b) := by
  refine gM.of (by decide) (Nat.le_of_ble_eq_true rfl) ?_
  intro D dA p e s m args below meth cd ls hC hlk hr hin hK hX hl hw
  have hl : lv_has ls 2 [(0, .ref (ad 0)), (1, .int z)] := hl
  have hge := h0.ge
  refine lv_aload_n hC.1 hC.2.1 dX0_well_0 rfl (lv_at hl 0 rfl) ?_
  refine lv_iconst (v := (nI 0)) hC.1 hC.2.1 dX0_well_1 (by decide) ?_
  refine x_pi hC hK hw (by omega) h0.k0 10 (by decide) rfl q212 rfl rfl rfl rfl rfl dX0_well_2 (fun H locs hw => ?_)
  refine lv_iload_n hC.1 hC.2.1 dX0_well_5 rfl (lv_at hl 1 rfl) ?_
  exact M_iret hC hlk hw gGo.rf ⟨by simp only [gN]; omega, by simp only [gN]; omega⟩ hr rfl (⟨_, _, rfl, rfl, h0.scal (Or.inl ⟨rfl, rfl⟩)⟩) dX0_well_6

set_option maxHeartbeats 800000 in
theorem tX0_found (l : Launch) (N : Nat) (ad : Nat → Nat) (K : gK) (I : mG) (R : gR) (z : Int32) (G : mG) (b : Bool) (h0 : wcR N K I R G b) : gA l yX0_found (ws_ yX0_found cX0_found 2 (some FieldType.int)) ({ frames := 0, cells := 0, slots := 0, locals := 0 } : Room) [.ref (ad 0), .int z] N ad K I R (fun v S => v = some (.int ((-1000010 : Int32) - z)) ∧ wcR N K S.1 S.2 (g2 G 0 3 z) b) := by
  refine gM.of (by decide) (Nat.le_of_ble_eq_true rfl) ?_
  intro D dA p e s m args below meth cd ls hC hlk hr hin hK hX hl hw
  have hl : lv_has ls 2 [(0, .ref (ad 0)), (1, .int z)] := hl
  have hge := h0.ge
  refine lv_aload_n hC.1 hC.2.1 dX0_found_0 rfl (lv_at hl 0 rfl) ?_
  refine lv_iload_n hC.1 hC.2.1 dX0_found_1 rfl (lv_at hl 1 rfl) ?_
  refine x_pi hC hK hw (by omega) h0.k0 10 (by decide) rfl q212 rfl rfl rfl rfl rfl dX0_found_2 (fun H locs hw => ?_)
  refine lv_ldc hC.1 hC.2.1 hC.2.2.2.1 (hC.2.2.2.2 _ q349) dX0_found_5 ?_
  refine lv_iload_n hC.1 hC.2.1 dX0_found_7 rfl (lv_at hl 1 rfl) ?_
  refine lv_isub hC.1 hC.2.1 dX0_found_8 ?_
  exact M_iret hC hlk hw gGo.rf ⟨by simp only [gN]; omega, by simp only [gN]; omega⟩ hr rfl (⟨_, _, rfl, rfl, h0.scal (Or.inl ⟨rfl, rfl⟩)⟩) dX0_found_9

set_option maxHeartbeats 800000 in
theorem tX0_fault (l : Launch) (N : Nat) (ad : Nat → Nat) (K : gK) (I : mG) (R : gR) (G : mG) (b : Bool) (h0 : wcR N K I R G b) : gM l yX0_fault (ws_ yX0_fault cX0_fault 1 (some FieldType.int)) ({ frames := 0, cells := 0, slots := 0, locals := 0 } : Room) [.ref (ad 0)] N ad K I R (fun v S => v = some (.int (mX6_fault G).1) ∧ wcR S.1 S.2.2.1 S.2.2.2.1 S.2.2.2.2 (mX6_fault G).2 b) := by
  refine gM.of (by decide) (Nat.le_of_ble_eq_true rfl) ?_
  intro D dA p e s m args below meth cd ls hC hlk hr hin hK hX hl hw
  have hl : lv_has ls 1 [(0, .ref (ad 0))] := hl
  have hge := h0.ge
  refine lv_aload_n hC.1 hC.2.1 dX0_fault_0 rfl (lv_at hl 0 rfl) ?_
  refine x_gi hC hK hw (by omega) h0.k0 3 (by decide) rfl q205 rfl (v := (G 0 9)) (h0.2.2.2.2.2.2.2.2.1) dX0_fault_1 ?_
  exact M_iret hC hlk hw gGo.rf ⟨by simp only [gN]; omega, by simp only [gN]; omega⟩ hr rfl (by have eq : mX6_fault G = ((G 0 9), G) := (by simp [mX6_fault, h0.g4, bI_t0, bI_f0, inc01, inc11, inc03, inc13, inc23, inc10, inc20, inc21]); rw [eq]; exact ⟨rfl, h0⟩) dX0_fault_4

set_option maxHeartbeats 800000 in
theorem tX0_status (l : Launch) (N : Nat) (ad : Nat → Nat) (K : gK) (I : mG) (R : gR) (G : mG) (b : Bool) (h0 : wcR N K I R G b) : gM l yX0_status (ws_ yX0_status cX0_status 1 (some FieldType.int)) ({ frames := 0, cells := 0, slots := 0, locals := 0 } : Room) [.ref (ad 0)] N ad K I R (fun v S => v = some (.int (mX6_status G).1) ∧ wcR S.1 S.2.2.1 S.2.2.2.1 S.2.2.2.2 (mX6_status G).2 b) := by
  refine gM.of (by decide) (Nat.le_of_ble_eq_true rfl) ?_
  intro D dA p e s m args below meth cd ls hC hlk hr hin hK hX hl hw
  have hl : lv_has ls 1 [(0, .ref (ad 0))] := hl
  have hge := h0.ge
  refine lv_aload_n hC.1 hC.2.1 dX0_status_0 rfl (lv_at hl 0 rfl) ?_
  refine x_gi hC hK hw (by omega) h0.k0 10 (by decide) rfl q212 rfl (v := (G 0 3)) (h0.2.2.2.2.2.2.2.2.2.1) dX0_status_1 ?_
  exact M_iret hC hlk hw gGo.rf ⟨by simp only [gN]; omega, by simp only [gN]; omega⟩ hr rfl (by have eq : mX6_status G = ((G 0 3), G) := (by simp [mX6_status, h0.g4, bI_t0, bI_f0, inc01, inc11, inc03, inc13, inc23, inc10, inc20, inc21]); rw [eq]; exact ⟨rfl, h0⟩) dX0_status_4

set_option maxHeartbeats 800000 in
theorem tX0_undo (l : Launch) (N : Nat) (ad : Nat → Nat) (K : gK) (I : mG) (R : gR) (G : mG) (b : Bool) (h0 : wcR N K I R G b) : gM l yX0_undo (ws_ yX0_undo cX0_undo 1 (some FieldType.int)) ({ frames := 2, cells := 0, slots := 0, locals := 81 } : Room) [.ref (ad 0)] N ad K I R (fun v S => v = some (.int (mX6_undo G).1) ∧ wcR S.1 S.2.2.1 S.2.2.2.1 S.2.2.2.2 (mX6_undo G).2 b) := by
  refine gM.of (by decide) (Nat.le_of_ble_eq_true rfl) ?_
  intro D dA p e s m args below meth cd ls hC hlk hr hin hK hX hl hw
  have hl : lv_has ls 1 [(0, .ref (ad 0))] := hl
  have hge := h0.ge
  obtain ⟨am, ham, a7, g22, a4, a5⟩ := h0.2.2.2.1
  refine lv_aload_n hC.1 hC.2.1 dX0_undo_0 rfl (lv_at hl 0 rfl) ?_
  refine x_gi hC hK hw (by omega) h0.k0 7 (by decide) rfl q209 rfl (v := (nI am)) (a7) dX0_undo_1 ?_
  refine k_zne (tgt := 10) hC (by omega) dX0_undo_4 (by decide) (fun c4 => ?_) (fun c4 => ?_)
  · obtain ⟨s5, q, zq, zp, zt⟩ := a5 (am - 1) (by omega)
    have eb := a4 (by omega)
    subst eb
    have hql := (h0.2.1.at (i := 2 + (am - 1)) (by omega) (by rw [plc_p (by omega)]; exact zq))
    have hq44 := (h0.2.1.1 (2 + (am - 1)) q (by omega) (by rw [plc_p (by omega)]; exact zq)).2 (by omega)
    refine lv_aload_n hC.1 hC.2.1 dX0_undo_10 rfl (lv_at hl 0 rfl) ?_
    refine lv_dup hC.1 hC.2.1 dX0_undo_11 rfl ?_
    refine x_gi hC hK hw (by omega) h0.k0 7 (by decide) rfl q209 rfl (v := (nI am)) (a7) dX0_undo_12 ?_
    refine lv_iconst (v := (nI 1)) hC.1 hC.2.1 dX0_undo_15 (by decide) ?_
    refine k_sub hC (by omega) dX0_undo_16 ?_
    refine x_pi hC hK hw (by omega) h0.k0 7 (by decide) rfl q209 rfl rfl rfl rfl rfl dX0_undo_17 (fun H locs hw => ?_)
    have ha := h0.acts g22 ham (m := am - 1) (by omega)
    have zp2 := zp.ag (N' := N) (K' := K) (I' := g2 I 0 7 (nI (am - 1))) (R' := R) (Nat.le_refl _) (fun _ _ => rfl) (fun j hj => ⟨g2_ne _ _ _ (by omega), rfl⟩) (fun w k hw hk k1 k5 => g2_ne _ _ _ (fun e => by subst e; rw [h0.k0] at hk; omega))
    refine lv_aload_n hC.1 hC.2.1 dX0_undo_20 rfl (lv_at hl 0 rfl) ?_
    refine x_ga hC hK hw (by omega) ha.k0 4 11 ha.r4 (by decide) rfl q206 rfl dX0_undo_21 ?_
    refine lv_aload_n hC.1 hC.2.1 dX0_undo_24 rfl (lv_at hl 0 rfl) ?_
    refine x_ga hC hK hw (by omega) ha.k0 6 23 ha.r6 (by decide) rfl q208 rfl dX0_undo_25 ?_
    refine lv_aload_n hC.1 hC.2.1 dX0_undo_28 rfl (lv_at hl 0 rfl) ?_
    refine x_gi hC hK hw (by omega) ha.k0 7 (by decide) rfl q209 rfl (v := (nI (am - 1))) (g2_at _ _ _ _) dX0_undo_29 ?_
    refine g_ldr (t := 1) (v := .ref (ad q)) hC hK hw (List.mem_range.mpr (by omega)) ha.k23 rfl (by omega) (by omega) (by rw [zq]; rfl) dX0_undo_32 ?_
    refine g_callv (n := 1) (C := RX2) (T := TX2) hC hl.1 hK hX hw (ha.ps.1).1.1 (ha.ps.1).2.1.1 (by decide) rfl (tX2_become l (List.range N) ad K (g2 I 0 7 (nI (am - 1))) R 11 q (actV G (am - 1)) true (ha.ps.1) (zp2) (by omega) (by rw [g2_ne _ _ _ (by omega), zt]; rfl)) (lw_V q689 q690 q691 q62 q692) rfl rfl (by decide +kernel) ⟨by decide, by decide⟩ rfl rfl (Nat.le_of_ble_eq_true rfl) dX0_undo_33 ⟨Nat.zero_le _, Nat.zero_le _⟩ ?_
    rintro I5 R5 H locs ⟨b5, o5, t5⟩ hw
    dsimp only at b5 o5 t5
    have t6 : I5 11 0 = g2 I 0 7 (nI (am - 1)) 11 0 := by rw [t5, ha.told, g2_ne _ _ _ (by omega), zt]; rfl
    have h2 := ha.up6 (Nat.le_refl _) (fun _ _ => rfl) (fun n _ hn => o5.1 n (by omega)) (o5.2 11 (by decide)) b5 t6 s5
    have i75 : I5 0 7 = nI (am - 1) := by rw [(o5.1 0 (by decide)).1, g2_at]
    refine lv_aload_n hC.1 hC.2.1 dX0_undo_36 rfl (lv_at hl 0 rfl) ?_
    refine x_gi hC hK hw (by omega) h2.k0 7 (by decide) rfl q209 rfl (v := (nI (am - 1))) (i75) dX0_undo_37 ?_
    exact M_iret hC hlk hw gGo.rf ⟨by simp only [gN]; omega, by simp only [gN]; omega⟩ hr rfl (by have eq : mX6_undo G = ((nI (am - 1)), va_up (g2 G 0 22 (nI (am - 1))) 6 (actV G (am - 1))) := (by unfold mX6_undo; rw [g22, ix_nI (by omega)]; rw [if_pos c4]; rfl); rw [eq]; exact ⟨rfl, h2⟩) dX0_undo_40
  · refine lv_ldc hC.1 hC.2.1 hC.2.2.2.1 (hC.2.2.2.2 _ q703) dX0_undo_7 ?_
    exact M_iret hC hlk hw gGo.rf ⟨by simp only [gN]; omega, by simp only [gN]; omega⟩ hr rfl (by have eq : mX6_undo G = ((-1000002 : Int32), G) := (by unfold mX6_undo; rw [g22, ix_nI (by omega)]; rw [if_neg (not_not_intro c4)]); rw [eq]; exact ⟨rfl, h0⟩) dX0_undo_9

theorem kd10 : ¬ nI 1 = 0 := by decide
theorem img_eq (G : mG) (k : Nat) : (fun j => G 26 (57 * k + j)) = imgV G k := rfl

set_option maxHeartbeats 800000 in
theorem tX0_restore (l : Launch) (N : Nat) (ad : Nat → Nat) (K : gK) (I : mG) (R : gR) (k_ : Int32) (G : mG) (b : Bool) (h0 : wcR N K I R G b) : gM l yX0_restore (ws_ yX0_restore cX0_restore 2 (some FieldType.int)) ({ frames := 2, cells := 0, slots := 0, locals := 81 } : Room) [.ref (ad 0), .int k_] N ad K I R (fun v S => v = some (.int (mX6_restore G k_).1) ∧ wcR S.1 S.2.2.1 S.2.2.2.1 S.2.2.2.2 (mX6_restore G k_).2 b) := by
  refine gM.of (by decide) (Nat.le_of_ble_eq_true rfl) ?_
  intro D dA p e s m args below meth cd ls hC hlk hr hin hK hX hl hw
  have hl : lv_has ls 2 [(0, .ref (ad 0)), (1, .int k_)] := hl
  have hge := h0.ge
  refine lv_iload_n hC.1 hC.2.1 dX0_restore_0 rfl (lv_at hl 1 rfl) ?_
  refine lv_i2l hC.1 hC.2.1 dX0_restore_1 rfl ?_
  refine lv_lconst (v := 0) hC.1 hC.2.1 dX0_restore_2 (by decide) ?_
  refine lv_lconst (v := 1) hC.1 hC.2.1 dX0_restore_3 (by decide) ?_
  refine pS_call (n := 3) hC hl.1 (tX0_isInI l k_ 0 (nI 1)) (lw_S q333 q334 q60 q335) rfl rfl (by decide +kernel) ⟨by decide, by decide⟩ rfl rfl (Nat.le_of_ble_eq_true rfl) dX0_restore_4 ⟨Nat.zero_le _, Nat.zero_le _⟩ ?_
  refine k_bne (tgt := 13) hC dX0_restore_7 (by decide) (fun c7 => ?_) (fun c7 => ?_)
  · obtain ⟨k, hk, rfl⟩ := inB_nat (n := 1) (by decide) c7
    rcases h0.2.2.2.2.1 k (by omega) with ⟨z1, z2⟩ | ⟨eb, z2, s5, q, z1, zp, zt⟩
    · refine lv_aload_n hC.1 hC.2.1 dX0_restore_13 rfl (lv_at hl 0 rfl) ?_
      refine x_ga hC hK hw (by omega) h0.k0 8 24 h0.r8 (by decide) rfl q210 rfl dX0_restore_14 ?_
      refine lv_iload_n hC.1 hC.2.1 dX0_restore_17 rfl (lv_at hl 1 rfl) ?_
      refine g_ldr (t := 1) (v := .null) hC hK hw (List.mem_range.mpr (by omega)) h0.k24 rfl (by omega) (by omega) (by rw [z1]; rfl) dX0_restore_18 ?_
      refine lv_ifnonnullN hC.1 hC.2.1 dX0_restore_19 ?_
      refine lv_ldc hC.1 hC.2.1 hC.2.2.2.1 (hC.2.2.2.2 _ q703) dX0_restore_22 ?_
      exact M_iret hC hlk hw gGo.rf ⟨by simp only [gN]; omega, by simp only [gN]; omega⟩ hr rfl (by have eq : mX6_restore G (nI k) = ((-1000002 : Int32), G) := (by simp [mX6_restore, h0.g4, bI_t0, bI_f0, inc01, inc11, inc03, inc13, inc23, inc10, inc20, inc21, c7, ix_nI (show k < 2147483648 by omega), z2, nI_0, kd10, img_eq]); rw [eq]; exact ⟨rfl, h0⟩) dX0_restore_24
    · subst eb
      have hql := (h0.2.1.at (i := 26 + k) (by omega) (by rw [plc_i]; exact z1))
      have hq44 := (h0.2.1.1 (26 + k) q (by omega) (by rw [plc_i]; exact z1)).2 (by omega)
      refine lv_aload_n hC.1 hC.2.1 dX0_restore_13 rfl (lv_at hl 0 rfl) ?_
      refine x_ga hC hK hw (by omega) h0.k0 8 24 h0.r8 (by decide) rfl q210 rfl dX0_restore_14 ?_
      refine lv_iload_n hC.1 hC.2.1 dX0_restore_17 rfl (lv_at hl 1 rfl) ?_
      refine g_ldr (t := 1) (v := .ref (ad q)) hC hK hw (List.mem_range.mpr (by omega)) h0.k24 rfl (by omega) (by omega) (by rw [z1]; rfl) dX0_restore_18 ?_
      refine lv_ifnonnull (tgt := 25) hC.1 hC.2.1 dX0_restore_19 (by decide) ?_
      refine lv_aload_n hC.1 hC.2.1 dX0_restore_25 rfl (lv_at hl 0 rfl) ?_
      refine x_ga hC hK hw (by omega) h0.k0 4 11 h0.r4 (by decide) rfl q206 rfl dX0_restore_26 ?_
      refine lv_aload_n hC.1 hC.2.1 dX0_restore_29 rfl (lv_at hl 0 rfl) ?_
      refine x_ga hC hK hw (by omega) h0.k0 8 24 h0.r8 (by decide) rfl q210 rfl dX0_restore_30 ?_
      refine lv_iload_n hC.1 hC.2.1 dX0_restore_33 rfl (lv_at hl 1 rfl) ?_
      refine g_ldr (t := 1) (v := .ref (ad q)) hC hK hw (List.mem_range.mpr (by omega)) h0.k24 rfl (by omega) (by omega) (by rw [z1]; rfl) dX0_restore_34 ?_
      refine g_callv (n := 1) (C := RX2) (T := TX2) hC hl.1 hK hX hw (h0.ps.1).1.1 (h0.ps.1).2.1.1 (by decide) rfl (tX2_become l (List.range N) ad K I R 11 q (imgV G k) true (h0.ps.1) (zp) (by omega) (by rw [zt]; rfl)) (lw_V q689 q690 q691 q62 q692) rfl rfl (by decide +kernel) ⟨by decide, by decide⟩ rfl rfl (Nat.le_of_ble_eq_true rfl) dX0_restore_35 ⟨Nat.zero_le _, Nat.zero_le _⟩ ?_
      rintro I5 R5 H locs ⟨b5, o5, t5⟩ hw
      dsimp only at b5 o5 t5
      have t6 : I5 11 0 = I 11 0 := by rw [t5, h0.told, zt]; rfl
      have h2 := h0.up6 (Nat.le_refl _) (fun _ _ => rfl) (fun n _ hn => o5.1 n (by omega)) (o5.2 11 (by decide)) b5 t6 s5
      refine lv_aload_n hC.1 hC.2.1 dX0_restore_38 rfl (lv_at hl 0 rfl) ?_
      refine lv_iconst (v := (nI 0)) hC.1 hC.2.1 dX0_restore_39 (by decide) ?_
      refine x_pi hC hK hw (by omega) h2.k0 7 (by decide) rfl q209 rfl rfl rfl rfl rfl dX0_restore_40 (fun H locs hw => ?_)
      obtain ⟨am, ham, a7, g22, a4, a5⟩ := h2.2.2.2.1
      have h3 := h2.acts g22 ham (m := 0) (Nat.zero_le _)
      refine lv_iconst (v := (nI 1)) hC.1 hC.2.1 dX0_restore_43 (by decide) ?_
      exact M_iret hC hlk hw gGo.rf ⟨by simp only [gN]; omega, by simp only [gN]; omega⟩ hr rfl (by have eq : mX6_restore G (nI k) = ((nI 1), g2 (va_up G 6 (imgV G k)) 0 22 (nI 0)) := (by simp [mX6_restore, h0.g4, bI_t0, bI_f0, inc01, inc11, inc03, inc13, inc23, inc10, inc20, inc21, c7, ix_nI (show k < 2147483648 by omega), z2, nI_0, kd10, img_eq]); rw [eq]; exact ⟨rfl, h3⟩) dX0_restore_44
  · refine lv_ldc hC.1 hC.2.1 hC.2.2.2.1 (hC.2.2.2.2 _ q337) dX0_restore_10 ?_
    exact M_iret hC hlk hw gGo.rf ⟨by simp only [gN]; omega, by simp only [gN]; omega⟩ hr rfl (by have eq : mX6_restore G k_ = ((-1000001 : Int32), G) := (by simp [mX6_restore, h0.g4, bI_t0, bI_f0, inc01, inc11, inc03, inc13, inc23, inc10, inc20, inc21, c7]); rw [eq]; exact ⟨rfl, h0⟩) dX0_restore_12

theorem nar_asl (x : Int32) : vp_nar .byte (asL (nI 0) x) = asL (nI 0) x := by
  rw [← asl_8]
  unfold vp_nar
  rw [pk_nb]
theorem asl_n {c : Nat} : asL (nI 0) (nI c) = asL (nI 0) (nI c) := rfl

set_option maxHeartbeats 800000 in
theorem tX0_feed (l : Launch) (N : Nat) (ad : Nat → Nat) (K : gK) (I : mG) (R : gR) (letter : Int32) (G : mG) (b : Bool) (h0 : wcR N K I R G b) : gM l yX0_feed (ws_ yX0_feed cX0_feed 2 (some FieldType.int)) ({ frames := 1, cells := 0, slots := 0, locals := 25 } : Room) [.ref (ad 0), .int letter] N ad K I R (fun v S => v = some (.int (mX6_feed G letter).1) ∧ wcR S.1 S.2.2.1 S.2.2.2.1 S.2.2.2.2 (mX6_feed G letter).2 b) := by
  refine gM.of (by decide) (Nat.le_of_ble_eq_true rfl) ?_
  intro D dA p e s m args below meth cd ls hC hlk hr hin hK hX hl hw
  have hl : lv_has ls 2 [(0, .ref (ad 0)), (1, .int letter)] := hl
  have hge := h0.ge
  obtain ⟨t1, t2, t3, t, t4, t5, t6⟩ := h0.2.2.2.2.2.2.2
  refine lv_iload_n hC.1 hC.2.1 dX0_feed_0 rfl (lv_at hl 1 rfl) ?_
  refine lv_i2l hC.1 hC.2.1 dX0_feed_1 rfl ?_
  refine lv_lconst (v := 0) hC.1 hC.2.1 dX0_feed_2 (by decide) ?_
  refine lv_ldc2 hC.1 hC.2.1 hC.2.2.2.1 (hC.2.2.2.2 _ q444) dX0_feed_3 ?_
  refine pS_call (n := 3) hC hl.1 (tX0_isInI l letter 0 (nI 255)) (lw_S q333 q334 q60 q335) rfl rfl (by decide +kernel) ⟨by decide, by decide⟩ rfl rfl (Nat.le_of_ble_eq_true rfl) dX0_feed_6 ⟨Nat.zero_le _, Nat.zero_le _⟩ ?_
  refine k_bne (tgt := 15) hC dX0_feed_9 (by decide) (fun c9 => ?_) (fun c9 => ?_)
  · obtain ⟨c, hc, rfl⟩ := inB_nat (n := 255) (by decide) c9
    refine lv_aload_n hC.1 hC.2.1 dX0_feed_15 rfl (lv_at hl 0 rfl) ?_
    refine x_gi hC hK hw (by omega) h0.k0 2 (by decide) rfl q204 rfl (v := (nI t)) (t1.trans t5) dX0_feed_16 ?_
    refine lv_bipush (v := (nI 120)) hC.1 hC.2.1 dX0_feed_19 (by decide) ?_
    refine k_ne (tgt := 27) hC (by omega) (by omega) dX0_feed_21 (by decide) (fun c21 => ?_) (fun c21 => ?_)
    · refine lv_aload_n hC.1 hC.2.1 dX0_feed_27 rfl (lv_at hl 0 rfl) ?_
      refine x_ga hC hK hw (by omega) h0.k0 1 10 h0.r1 (by decide) rfl q203 rfl dX0_feed_28 ?_
      refine lv_aload_n hC.1 hC.2.1 dX0_feed_31 rfl (lv_at hl 0 rfl) ?_
      refine lv_dup hC.1 hC.2.1 dX0_feed_32 rfl ?_
      refine x_gi hC hK hw (by omega) h0.k0 2 (by decide) rfl q204 rfl (v := (nI t)) (t1.trans t5) dX0_feed_33 ?_
      refine lv_dup_x1 hC.1 hC.2.1 dX0_feed_36 rfl rfl ?_
      refine lv_iconst (v := (nI 1)) hC.1 hC.2.1 dX0_feed_37 (by decide) ?_
      refine k_add hC dX0_feed_38 ?_
      refine x_pi hC hK hw (by omega) h0.k0 2 (by decide) rfl q204 rfl rfl rfl rfl rfl dX0_feed_39 (fun H locs hw => ?_)
      refine lv_iload_n hC.1 hC.2.1 dX0_feed_42 rfl (lv_at hl 1 rfl) ?_
      refine lv_i2b (v := asL (nI 0) (nI c)) hC.1 hC.2.1 dX0_feed_43 (asl_8 _) ?_
      refine g_stb hC hK hw (List.mem_range.mpr (by omega)) h0.k10 (by omega) (by omega) dX0_feed_44 (fun H locs hw => ?_)
      rw [nar_asl] at hw
      have h2 := h0.feed (c := c) (by omega) (by omega) t5 rfl
      refine lv_aload_n hC.1 hC.2.1 dX0_feed_45 rfl (lv_at hl 0 rfl) ?_
      refine x_gi hC hK hw (by omega) h2.k0 2 (by decide) rfl q204 rfl (v := (nI (t + 1))) (by rw [g2_ne _ _ _ (by decide), g2_at]) dX0_feed_46 ?_
      exact M_iret hC hlk hw gGo.rf ⟨by simp only [gN]; omega, by simp only [gN]; omega⟩ hr rfl (by have eq : mX6_feed G (nI c) = ((nI (t + 1)), g2 (g2 G 8 t (nI c)) 0 8 (nI (t + 1))) := (by simp [mX6_feed, h0.g4, bI_t0, bI_f0, inc01, inc11, inc03, inc13, inc23, inc10, inc20, inc21, c9, c21, ix_nI (show c < 2147483648 by omega), t5, ix_nI (show t < 2147483648 by omega), ix_nI (show 120 < 2147483648 by decide)]); rw [eq]; exact ⟨rfl, h2⟩) dX0_feed_49
    · refine lv_ldc hC.1 hC.2.1 hC.2.2.2.1 (hC.2.2.2.2 _ q445) dX0_feed_24 ?_
      exact M_iret hC hlk hw gGo.rf ⟨by simp only [gN]; omega, by simp only [gN]; omega⟩ hr rfl (by have eq : mX6_feed G (nI c) = ((-1000003 : Int32), G) := (by simp [mX6_feed, h0.g4, bI_t0, bI_f0, inc01, inc11, inc03, inc13, inc23, inc10, inc20, inc21, c9, c21, ix_nI (show c < 2147483648 by omega), t5, ix_nI (show t < 2147483648 by omega), ix_nI (show 120 < 2147483648 by decide)]); rw [eq]; exact ⟨rfl, h0⟩) dX0_feed_26
  · refine lv_ldc hC.1 hC.2.1 hC.2.2.2.1 (hC.2.2.2.2 _ q337) dX0_feed_12 ?_
    exact M_iret hC hlk hw gGo.rf ⟨by simp only [gN]; omega, by simp only [gN]; omega⟩ hr rfl (by have eq : mX6_feed G letter = ((-1000001 : Int32), G) := (by simp [mX6_feed, h0.g4, bI_t0, bI_f0, inc01, inc11, inc03, inc13, inc23, inc10, inc20, inc21, c9, t5, ix_nI (show t < 2147483648 by omega), ix_nI (show 120 < 2147483648 by decide)]); rw [eq]; exact ⟨rfl, h0⟩) dX0_feed_14

set_option maxHeartbeats 800000 in
theorem tX0_trace (l : Launch) (N : Nat) (ad : Nat → Nat) (K : gK) (I : mG) (R : gR) (i : Int32) (G : mG) (b : Bool) (h0 : wcR N K I R G b) : gM l yX0_trace (ws_ yX0_trace cX0_trace 2 (some FieldType.int)) ({ frames := 1, cells := 0, slots := 0, locals := 25 } : Room) [.ref (ad 0), .int i] N ad K I R (fun v S => v = some (.int (mX6_trace G i).1) ∧ wcR S.1 S.2.2.1 S.2.2.2.1 S.2.2.2.2 (mX6_trace G i).2 b) := by
  refine gM.of (by decide) (Nat.le_of_ble_eq_true rfl) ?_
  intro D dA p e s m args below meth cd ls hC hlk hr hin hK hX hl hw
  have hl : lv_has ls 2 [(0, .ref (ad 0)), (1, .int i)] := hl
  have hge := h0.ge
  obtain ⟨t0, b0, m0, a1, a2, a3, a4, a5, a6, a7, a8, a9, a10, a11, a12, a13, a14⟩ := h0.2.2.2.2.2.2.1
  refine lv_iload_n hC.1 hC.2.1 dX0_trace_0 rfl (lv_at hl 1 rfl) ?_
  refine lv_i2l hC.1 hC.2.1 dX0_trace_1 rfl ?_
  refine lv_lconst (v := 0) hC.1 hC.2.1 dX0_trace_2 (by decide) ?_
  refine lv_aload_n hC.1 hC.2.1 dX0_trace_3 rfl (lv_at hl 0 rfl) ?_
  refine x_ga hC hK hw (by omega) h0.k0 9 t0 a1 (by decide) rfl q211 rfl dX0_trace_4 ?_
  refine g_getX (C := RX3) (T := TX3) (ref := RX3) hC hK hX hw (List.mem_range.mpr (by omega)) a4 (by decide) rfl in_X3 1 (by decide) q176 (fun x h => h) (v := .int (nI m0)) (by show Value.int _ = _; rw [a10]) dX0_trace_7 ?_
  refine lv_iconst (v := (nI 1)) hC.1 hC.2.1 dX0_trace_10 (by decide) ?_
  refine lv_isub hC.1 hC.2.1 dX0_trace_11 ?_
  refine lv_i2l hC.1 hC.2.1 dX0_trace_12 rfl ?_
  refine pS_call (n := 3) hC hl.1 (tX0_isInI l i 0 (nI m0 - nI 1)) (lw_S q333 q334 q60 q335) rfl rfl (by decide +kernel) ⟨by decide, by decide⟩ rfl rfl (Nat.le_of_ble_eq_true rfl) dX0_trace_13 ⟨Nat.zero_le _, Nat.zero_le _⟩ ?_
  refine k_beq (tgt := 31) hC dX0_trace_16 (by decide) (fun c16 => ?_) (fun c16 => ?_)
  · refine lv_ldc hC.1 hC.2.1 hC.2.2.2.1 (hC.2.2.2.2 _ q841) dX0_trace_31 ?_
    exact M_iret hC hlk hw gGo.rf ⟨by simp only [gN]; omega, by simp only [gN]; omega⟩ hr rfl (by have eq : mX6_trace G i = ((-1000000 : Int32), G) := (by simp [mX6_trace, h0.g4, bI_t0, bI_f0, inc01, inc11, inc03, inc13, inc23, inc10, inc20, inc21, c16, a11]); rw [eq]; exact ⟨rfl, h0⟩) dX0_trace_33
  · obtain ⟨j, hj, rfl⟩ := inB_sz (k := m0) (by omega) rfl c16
    refine lv_aload_n hC.1 hC.2.1 dX0_trace_19 rfl (lv_at hl 0 rfl) ?_
    refine x_ga hC hK hw (by omega) h0.k0 9 t0 a1 (by decide) rfl q211 rfl dX0_trace_20 ?_
    refine g_getX (C := RX3) (T := TX3) (ref := RX3) hC hK hX hw (List.mem_range.mpr (by omega)) a4 (by decide) rfl in_X3 0 (by decide) q174 (fun x h => h) (v := .ref (ad b0)) (by show va_rf _ = _; rw [a5]; rfl) dX0_trace_23 ?_
    refine lv_iload_n hC.1 hC.2.1 dX0_trace_26 rfl (lv_at hl 1 rfl) ?_
    refine g_ldi hC hK hw (List.mem_range.mpr (by omega)) a8 (by omega) (by omega) (v := (G 27 j)) (a12 j hj) dX0_trace_27 ?_
    refine lv_goto (tgt := 33) hC.1 hC.2.1 dX0_trace_28 (by decide) ?_
    exact M_iret hC hlk hw gGo.rf ⟨by simp only [gN]; omega, by simp only [gN]; omega⟩ hr rfl (by have eq : mX6_trace G (nI j) = ((G 27 j), G) := (by simp [mX6_trace, h0.g4, bI_t0, bI_f0, inc01, inc11, inc03, inc13, inc23, inc10, inc20, inc21, c16, ix_nI (show j < 2147483648 by omega), a11]); rw [eq]; exact ⟨rfl, h0⟩) dX0_trace_33
