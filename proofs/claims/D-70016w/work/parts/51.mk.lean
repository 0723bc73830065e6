/-! ===== constructors of works; workBy (by gen/w51.py) ===== -/
section GRF
variable {p : Program} {l : Launch} {e : Env} {Rm : Room} {s : State} {m : MethodId} {args : Array Value} {below : List Frame} {meth : Method} {c : Code} {H : Heap} {locs : List Loc} {cells slots : Nat} {Q : State → Prop}
variable {cc : ByteArray} {nl pc : Nat} {ls : Array Slot} {rest : List Value} {D : va_G} {dA : Nat → ClassId} {A : Nat → Prop} {H0 : Heap} {dom : List Nat} {ad : Nat → Nat} {K : gK} {I : mG} {R : gR} {own ref C : String} {T : u_T}
theorem g_putiF (hC : CallFix p m c cc nl s args lw_all own) (hK : va_K D cCl (cTy dA) s) (hw : gw D dA A H0 dom ad K I R H locs) {n ci : Nat} (hn : n ∈ dom) (hk0 : (K n).1 = ci) (hc20 : ci < 20) (hc : cCl[ci]? = some (C, T, gN ci)) (hin : ∀ w ∈ u_ws C T (gN ci), w ∈ lw_all) (ty0 : Nat → FieldType) (hty : ∀ k, k < gN ci → parseFieldDescriptor (T k).2.2.1 = some (ty0 k)) (hnm : ∀ a, a < gN ci → ∀ b, b < gN ci → a ≠ b → (T a).2.1 ≠ (T b).2.1) (k : Nat) (hk : k < gN ci) (hr : gRef ci k = false) {idx : Nat} (hl : Cond.fieldLink own idx ref (T k).2.1 (T k).2.2.1 ∈ lw_all) (hs : ∀ x, s.fieldFound? (T k).1 (T k).2.1 (T k).2.2.1 = some x → s.fieldFound? ref (T k).2.1 (T k).2.2.1 = some x) (hfin : (T k).2.2.2 = true) (hin2 : meth.name = "<init>") (hdecl : (T k).1 = own) {ty : FieldType} {x : Int32} (hd : parseFieldDescriptor (T k).2.2.1 = some ty) (hnr : narrow ty (.int x) = .int x) (hfit : fits ty (.int x) = true) (hdg : decode cc pc = .ok (.putfield idx, 3))
    (kk : ∀ (H1 : Heap) (locs1 : List Loc), gw D dA A H0 dom ad K (g2 I n k x) R H1 locs1 → W p l e Rm s m args below meth c H1 locs1 cells slots Q (F0 m (pc + 3) ls rest)) : W p l e Rm s m args below meth c H locs cells slots Q (F0 m pc ls (.int x :: .ref (ad n) :: rest)) := by
  obtain ⟨hx, hb, -, ho, hts⟩ := hC
  obtain ⟨q0, hq0, hq⟩ := nL_get (gCt dA K I R ad) ad hn
  have e1 : gCt dA K I R ad n = .inr (ci, gF ci (I n) (R n) ad) := gE_o hk0 hc20
  rw [e1] at hq
  refine va_putF (ci := ci) hx hb hts hin ty0 hty hnm ho hK hw.1.1 hw.1.2.1 hw.1.2.2.1 q0 hq hc k hk (hts _ hl) hs hfin hin2 hdecl hd hnr hfit (by rw [gF_len]; exact hk) hdg (fun H1 locs1 hP hD hS => kk H1 locs1 ?_)
  exact gw_I hw hq0 (I' := upd (I n) k x) (by rw [gF_setI hk hr]; exact (gE_o hk0 hc20).symm) hP hD hS
theorem g_putrF (hC : CallFix p m c cc nl s args lw_all own) (hK : va_K D cCl (cTy dA) s) (hw : gw D dA A H0 dom ad K I R H locs) {n ci : Nat} (hn : n ∈ dom) (hk0 : (K n).1 = ci) (hc20 : ci < 20) (hc : cCl[ci]? = some (C, T, gN ci)) (hin : ∀ w ∈ u_ws C T (gN ci), w ∈ lw_all) (ty0 : Nat → FieldType) (hty : ∀ k, k < gN ci → parseFieldDescriptor (T k).2.2.1 = some (ty0 k)) (hnm : ∀ a, a < gN ci → ∀ b, b < gN ci → a ≠ b → (T a).2.1 ≠ (T b).2.1) (k : Nat) (hk : k < gN ci) (hr : gRef ci k = true) {idx : Nat} (hl : Cond.fieldLink own idx ref (T k).2.1 (T k).2.2.1 ∈ lw_all) (hs : ∀ x, s.fieldFound? (T k).1 (T k).2.1 (T k).2.2.1 = some x → s.fieldFound? ref (T k).2.1 (T k).2.2.1 = some x) (hfin : (T k).2.2.2 = true) (hin2 : meth.name = "<init>") (hdecl : (T k).1 = own) {ty : FieldType} {y : Option Nat} (hy : ∀ j, y = some j → j ∈ dom) {v : Value} (hv : va_rf (y.map ad) = v) (hd : parseFieldDescriptor (T k).2.2.1 = some ty) (hnr : narrow ty v = v) (hfit : fits ty v = true) (hdg : decode cc pc = .ok (.putfield idx, 3))
    (kk : ∀ (H1 : Heap) (locs1 : List Loc), gw D dA A H0 dom ad K I (r2 R n k y) H1 locs1 → W p l e Rm s m args below meth c H1 locs1 cells slots Q (F0 m (pc + 3) ls rest)) : W p l e Rm s m args below meth c H locs cells slots Q (F0 m pc ls (v :: .ref (ad n) :: rest)) := by
  obtain ⟨hx, hb, -, ho, hts⟩ := hC
  obtain ⟨q0, hq0, hq⟩ := nL_get (gCt dA K I R ad) ad hn
  have e1 : gCt dA K I R ad n = .inr (ci, gF ci (I n) (R n) ad) := gE_o hk0 hc20
  rw [e1] at hq
  refine va_putF (ci := ci) hx hb hts hin ty0 hty hnm ho hK hw.1.1 hw.1.2.1 hw.1.2.2.1 q0 hq hc k hk (hts _ hl) hs hfin hin2 hdecl hd hnr hfit (by rw [gF_len]; exact hk) hdg (fun H1 locs1 hP hD hS => kk H1 locs1 ?_)
  exact gw_R hw hq0 hy (i := k) (by rw [← hv, gF_setR hk hr]; exact (gE_o hk0 hc20).symm) hP hD hS
end GRF

theorem gGo_new {N N1 : Nat} {ad ad1 ad' : Nat → Nat} {K K1 : gK} {I1 I2 : mG} {R1 R2 : gR} {kd : Nat × Nat} (h : gGo N ad K (N1, ad1, K1, I1, R1)) (h' : ∀ n, n < N1 → ad' n = ad1 n) : gGo N ad K (N1 + 1, ad', va_up K1 N1 kd, I2, R2) :=
  gGo.tr h ⟨Nat.le_succ _, fun n hn => ⟨h' n hn, va_up_ne _ _ (by omega)⟩⟩
theorem df_of {ci n : Nat} {ty : Nat → FieldType} (h : (List.range n).all (fun j => (if gRef ci j then (match ty j with | .object _ => true | .array _ => true | _ => false) else (match ty j with | .int => true | .boolean => true | _ => false))) = true) : ∀ j, j < n → defaultValue (ty j) = if gRef ci j then .null else .int (nI 0) := by
  intro j hj
  have h := List.all_eq_true.mp h j (List.mem_range.mpr hj)
  by_cases hr : gRef ci j = true
  · rw [if_pos hr] at h ⊢
    cases e : ty j <;> rw [e] at h <;> first | rfl | (simp at h)
  · rw [if_neg hr] at h ⊢
    cases e : ty j <;> rw [e] at h <;> first | rfl | (simp at h)

set_option maxHeartbeats 800000 in
theorem tX4_init (l : Launch) (N : Nat) (ad : Nat → Nat) (K : gK) (I : mG) (R : gR) (w : Nat) (q : Nat) (z : Int32) (k : Nat) (h0 : w < N) (h1 : (K w).1 = 3 + k) (h2 : 1 ≤ k ∧ k ≤ 5) : gA l yX4_init (ws_ yX4_init cX4_init 3 none) ({ frames := 1, cells := 0, slots := 0, locals := 40 } : Room) [.ref (ad w), .int (nI q), .int z] N ad K I R (fun v S => v = none ∧ S = (g2 (g2 I w 0 (nI q)) w 1 z, R)) := by
  refine gM.of (by decide) (Nat.le_of_ble_eq_true rfl) ?_
  intro D dA p e s m args below meth cd ls hC hlk hr hin hK hX hl hw
  have hl : lv_has ls 3 [(0, .ref (ad w)), (1, .int (nI q)), (2, .int z)] := hl
  have hk : k = 1 ∨ k = 2 ∨ k = 3 ∨ k = 4 ∨ k = 5 := by omega
  rcases hk with rfl | rfl | rfl | rfl | rfl
  · refine lv_aload_n hC.1 hC.2.1 dX4_init_0 rfl (lv_at hl 0 rfl) ?_
    refine W.objInit hC.1 hC.2.1 hC.2.2.2.1 (hC.2.2.2.2 _ q194) (hC.2.2.2.2 _ q97) (hC.2.2.2.2 _ q98) rfl (hl.1.trans hC.2.2.1.symm) rfl dX4_init_1 (Nat.le_of_ble_eq_true rfl) (Nat.le_of_ble_eq_true rfl) ?_
    refine lv_aload_n hC.1 hC.2.1 dX4_init_4 rfl (lv_at hl 0 rfl) ?_
    refine lv_iload_n hC.1 hC.2.1 dX4_init_5 rfl (lv_at hl 1 rfl) ?_
    refine g_putiF (C := RX5) (T := TX5) (ref := RX4) hC hK hw (List.mem_range.mpr h0) h1 (by decide) rfl in_X5 tyX5 tyX5_ok nmX5 0 (by decide) rfl q195 (fun x h => h) rfl hin rfl rfl rfl rfl dX4_init_6 (fun H locs hw => ?_)
    refine lv_aload_n hC.1 hC.2.1 dX4_init_9 rfl (lv_at hl 0 rfl) ?_
    refine lv_iload_n hC.1 hC.2.1 dX4_init_10 rfl (lv_at hl 2 rfl) ?_
    refine g_putiF (C := RX5) (T := TX5) (ref := RX4) hC hK hw (List.mem_range.mpr h0) h1 (by decide) rfl in_X5 tyX5 tyX5_ok nmX5 1 (by decide) rfl q196 (fun x h => h) rfl hin rfl rfl rfl rfl dX4_init_11 (fun H locs hw => ?_)
    exact M_vret hC hlk hw gGo.rf ⟨by simp only [gN]; omega, by simp only [gN]; omega⟩ hr (⟨_, _, rfl, rfl, rfl⟩) dX4_init_14
  · refine lv_aload_n hC.1 hC.2.1 dX4_init_0 rfl (lv_at hl 0 rfl) ?_
    refine W.objInit hC.1 hC.2.1 hC.2.2.2.1 (hC.2.2.2.2 _ q194) (hC.2.2.2.2 _ q97) (hC.2.2.2.2 _ q98) rfl (hl.1.trans hC.2.2.1.symm) rfl dX4_init_1 (Nat.le_of_ble_eq_true rfl) (Nat.le_of_ble_eq_true rfl) ?_
    refine lv_aload_n hC.1 hC.2.1 dX4_init_4 rfl (lv_at hl 0 rfl) ?_
    refine lv_iload_n hC.1 hC.2.1 dX4_init_5 rfl (lv_at hl 1 rfl) ?_
    refine g_putiF (C := RX9) (T := TX9) (ref := RX4) hC hK hw (List.mem_range.mpr h0) h1 (by decide) rfl in_X9 tyX9 tyX9_ok nmX9 0 (by decide) rfl q195 (fun x h => h) rfl hin rfl rfl rfl rfl dX4_init_6 (fun H locs hw => ?_)
    refine lv_aload_n hC.1 hC.2.1 dX4_init_9 rfl (lv_at hl 0 rfl) ?_
    refine lv_iload_n hC.1 hC.2.1 dX4_init_10 rfl (lv_at hl 2 rfl) ?_
    refine g_putiF (C := RX9) (T := TX9) (ref := RX4) hC hK hw (List.mem_range.mpr h0) h1 (by decide) rfl in_X9 tyX9 tyX9_ok nmX9 1 (by decide) rfl q196 (fun x h => h) rfl hin rfl rfl rfl rfl dX4_init_11 (fun H locs hw => ?_)
    exact M_vret hC hlk hw gGo.rf ⟨by simp only [gN]; omega, by simp only [gN]; omega⟩ hr (⟨_, _, rfl, rfl, rfl⟩) dX4_init_14
  · refine lv_aload_n hC.1 hC.2.1 dX4_init_0 rfl (lv_at hl 0 rfl) ?_
    refine W.objInit hC.1 hC.2.1 hC.2.2.2.1 (hC.2.2.2.2 _ q194) (hC.2.2.2.2 _ q97) (hC.2.2.2.2 _ q98) rfl (hl.1.trans hC.2.2.1.symm) rfl dX4_init_1 (Nat.le_of_ble_eq_true rfl) (Nat.le_of_ble_eq_true rfl) ?_
    refine lv_aload_n hC.1 hC.2.1 dX4_init_4 rfl (lv_at hl 0 rfl) ?_
    refine lv_iload_n hC.1 hC.2.1 dX4_init_5 rfl (lv_at hl 1 rfl) ?_
    refine g_putiF (C := RX10) (T := TX10) (ref := RX4) hC hK hw (List.mem_range.mpr h0) h1 (by decide) rfl in_X10 tyX10 tyX10_ok nmX10 0 (by decide) rfl q195 (fun x h => h) rfl hin rfl rfl rfl rfl dX4_init_6 (fun H locs hw => ?_)
    refine lv_aload_n hC.1 hC.2.1 dX4_init_9 rfl (lv_at hl 0 rfl) ?_
    refine lv_iload_n hC.1 hC.2.1 dX4_init_10 rfl (lv_at hl 2 rfl) ?_
    refine g_putiF (C := RX10) (T := TX10) (ref := RX4) hC hK hw (List.mem_range.mpr h0) h1 (by decide) rfl in_X10 tyX10 tyX10_ok nmX10 1 (by decide) rfl q196 (fun x h => h) rfl hin rfl rfl rfl rfl dX4_init_11 (fun H locs hw => ?_)
    exact M_vret hC hlk hw gGo.rf ⟨by simp only [gN]; omega, by simp only [gN]; omega⟩ hr (⟨_, _, rfl, rfl, rfl⟩) dX4_init_14
  · refine lv_aload_n hC.1 hC.2.1 dX4_init_0 rfl (lv_at hl 0 rfl) ?_
    refine W.objInit hC.1 hC.2.1 hC.2.2.2.1 (hC.2.2.2.2 _ q194) (hC.2.2.2.2 _ q97) (hC.2.2.2.2 _ q98) rfl (hl.1.trans hC.2.2.1.symm) rfl dX4_init_1 (Nat.le_of_ble_eq_true rfl) (Nat.le_of_ble_eq_true rfl) ?_
    refine lv_aload_n hC.1 hC.2.1 dX4_init_4 rfl (lv_at hl 0 rfl) ?_
    refine lv_iload_n hC.1 hC.2.1 dX4_init_5 rfl (lv_at hl 1 rfl) ?_
    refine g_putiF (C := RX11) (T := TX11) (ref := RX4) hC hK hw (List.mem_range.mpr h0) h1 (by decide) rfl in_X11 tyX11 tyX11_ok nmX11 0 (by decide) rfl q195 (fun x h => h) rfl hin rfl rfl rfl rfl dX4_init_6 (fun H locs hw => ?_)
    refine lv_aload_n hC.1 hC.2.1 dX4_init_9 rfl (lv_at hl 0 rfl) ?_
    refine lv_iload_n hC.1 hC.2.1 dX4_init_10 rfl (lv_at hl 2 rfl) ?_
    refine g_putiF (C := RX11) (T := TX11) (ref := RX4) hC hK hw (List.mem_range.mpr h0) h1 (by decide) rfl in_X11 tyX11 tyX11_ok nmX11 1 (by decide) rfl q196 (fun x h => h) rfl hin rfl rfl rfl rfl dX4_init_11 (fun H locs hw => ?_)
    exact M_vret hC hlk hw gGo.rf ⟨by simp only [gN]; omega, by simp only [gN]; omega⟩ hr (⟨_, _, rfl, rfl, rfl⟩) dX4_init_14
  · refine lv_aload_n hC.1 hC.2.1 dX4_init_0 rfl (lv_at hl 0 rfl) ?_
    refine W.objInit hC.1 hC.2.1 hC.2.2.2.1 (hC.2.2.2.2 _ q194) (hC.2.2.2.2 _ q97) (hC.2.2.2.2 _ q98) rfl (hl.1.trans hC.2.2.1.symm) rfl dX4_init_1 (Nat.le_of_ble_eq_true rfl) (Nat.le_of_ble_eq_true rfl) ?_
    refine lv_aload_n hC.1 hC.2.1 dX4_init_4 rfl (lv_at hl 0 rfl) ?_
    refine lv_iload_n hC.1 hC.2.1 dX4_init_5 rfl (lv_at hl 1 rfl) ?_
    refine g_putiF (C := RX12) (T := TX12) (ref := RX4) hC hK hw (List.mem_range.mpr h0) h1 (by decide) rfl in_X12 tyX12 tyX12_ok nmX12 0 (by decide) rfl q195 (fun x h => h) rfl hin rfl rfl rfl rfl dX4_init_6 (fun H locs hw => ?_)
    refine lv_aload_n hC.1 hC.2.1 dX4_init_9 rfl (lv_at hl 0 rfl) ?_
    refine lv_iload_n hC.1 hC.2.1 dX4_init_10 rfl (lv_at hl 2 rfl) ?_
    refine g_putiF (C := RX12) (T := TX12) (ref := RX4) hC hK hw (List.mem_range.mpr h0) h1 (by decide) rfl in_X12 tyX12 tyX12_ok nmX12 1 (by decide) rfl q196 (fun x h => h) rfl hin rfl rfl rfl rfl dX4_init_11 (fun H locs hw => ?_)
    exact M_vret hC hlk hw gGo.rf ⟨by simp only [gN]; omega, by simp only [gN]; omega⟩ hr (⟨_, _, rfl, rfl, rfl⟩) dX4_init_14

set_option maxHeartbeats 800000 in
theorem tX5_init (l : Launch) (N : Nat) (ad : Nat → Nat) (K : gK) (I : mG) (R : gR) (w : Nat) (q : Nat) (z : Int32) (k : Nat) (h0 : w < N) (h1 : (K w).1 = 3 + k) (h2 : 1 ≤ k ∧ k ≤ 5) : gA l yX5_init (ws_ yX5_init cX5_init 3 none) ({ frames := 2, cells := 0, slots := 0, locals := 62 } : Room) [.ref (ad w), .int (nI q), .int z] N ad K I R (fun v S => v = none ∧ S = (g2 (g2 I w 0 (nI q)) w 1 z, R)) := by
  refine gM.of (by decide) (Nat.le_of_ble_eq_true rfl) ?_
  intro D dA p e s m args below meth cd ls hC hlk hr hin hK hX hl hw
  have hl : lv_has ls 3 [(0, .ref (ad w)), (1, .int (nI q)), (2, .int z)] := hl
  refine lv_aload_n hC.1 hC.2.1 dX5_init_0 rfl (lv_at hl 0 rfl) ?_
  refine lv_iload_n hC.1 hC.2.1 dX5_init_1 rfl (lv_at hl 1 rfl) ?_
  refine lv_iload_n hC.1 hC.2.1 dX5_init_2 rfl (lv_at hl 2 rfl) ?_
  refine M_I (n := 2) hC hl.1 hK hX hw (tX4_init l N ad K I R w q z k (h0) (h1) (h2)) q191 q192 q64 q193 rfl (by decide +kernel) ⟨by decide, by decide⟩ rfl rfl (Nat.le_of_ble_eq_true rfl) dX5_init_3 ⟨by simp only [gN]; omega, by simp only [gN]; omega⟩ ?_
  rintro _ N2 ad2 K2 I2 R2 H locs ⟨I3, R3, e3, rfl, e4⟩ hg hw
  cases e3
  cases e4
  exact M_vret hC hlk hw gGo.rf ⟨by simp only [gN]; omega, by simp only [gN]; omega⟩ hr (⟨_, _, rfl, rfl, rfl⟩) dX5_init_6

set_option maxHeartbeats 800000 in
theorem tX9_init (l : Launch) (N : Nat) (ad : Nat → Nat) (K : gK) (I : mG) (R : gR) (w : Nat) (q : Nat) (z : Int32) (k : Nat) (h0 : w < N) (h1 : (K w).1 = 3 + k) (h2 : 1 ≤ k ∧ k ≤ 5) : gA l yX9_init (ws_ yX9_init cX9_init 3 none) ({ frames := 3, cells := 0, slots := 0, locals := 84 } : Room) [.ref (ad w), .int (nI q), .int z] N ad K I R (fun v S => v = none ∧ S = (g2 (g2 I w 0 (nI q)) w 1 z, R)) := by
  refine gM.of (by decide) (Nat.le_of_ble_eq_true rfl) ?_
  intro D dA p e s m args below meth cd ls hC hlk hr hin hK hX hl hw
  have hl : lv_has ls 3 [(0, .ref (ad w)), (1, .int (nI q)), (2, .int z)] := hl
  refine lv_aload_n hC.1 hC.2.1 dX9_init_0 rfl (lv_at hl 0 rfl) ?_
  refine lv_iload_n hC.1 hC.2.1 dX9_init_1 rfl (lv_at hl 1 rfl) ?_
  refine lv_iload_n hC.1 hC.2.1 dX9_init_2 rfl (lv_at hl 2 rfl) ?_
  refine M_I (n := 2) hC hl.1 hK hX hw (tX5_init l N ad K I R w q z k (h0) (h1) (h2)) q657 q189 q65 q190 rfl (by decide +kernel) ⟨by decide, by decide⟩ rfl rfl (Nat.le_of_ble_eq_true rfl) dX9_init_3 ⟨by simp only [gN]; omega, by simp only [gN]; omega⟩ ?_
  rintro _ N2 ad2 K2 I2 R2 H locs ⟨I3, R3, e3, rfl, e4⟩ hg hw
  cases e3
  cases e4
  exact M_vret hC hlk hw gGo.rf ⟨by simp only [gN]; omega, by simp only [gN]; omega⟩ hr (⟨_, _, rfl, rfl, rfl⟩) dX9_init_6

set_option maxHeartbeats 800000 in
theorem tX10_init (l : Launch) (N : Nat) (ad : Nat → Nat) (K : gK) (I : mG) (R : gR) (w : Nat) (q : Nat) (z : Int32) (k : Nat) (h0 : w < N) (h1 : (K w).1 = 3 + k) (h2 : 1 ≤ k ∧ k ≤ 5) : gA l yX10_init (ws_ yX10_init cX10_init 3 none) ({ frames := 3, cells := 0, slots := 0, locals := 84 } : Room) [.ref (ad w), .int (nI q), .int z] N ad K I R (fun v S => v = none ∧ S = (g2 (g2 I w 0 (nI q)) w 1 z, R)) := by
  refine gM.of (by decide) (Nat.le_of_ble_eq_true rfl) ?_
  intro D dA p e s m args below meth cd ls hC hlk hr hin hK hX hl hw
  have hl : lv_has ls 3 [(0, .ref (ad w)), (1, .int (nI q)), (2, .int z)] := hl
  refine lv_aload_n hC.1 hC.2.1 dX10_init_0 rfl (lv_at hl 0 rfl) ?_
  refine lv_iload_n hC.1 hC.2.1 dX10_init_1 rfl (lv_at hl 1 rfl) ?_
  refine lv_iload_n hC.1 hC.2.1 dX10_init_2 rfl (lv_at hl 2 rfl) ?_
  refine M_I (n := 2) hC hl.1 hK hX hw (tX5_init l N ad K I R w q z k (h0) (h1) (h2)) q666 q189 q65 q190 rfl (by decide +kernel) ⟨by decide, by decide⟩ rfl rfl (Nat.le_of_ble_eq_true rfl) dX10_init_3 ⟨by simp only [gN]; omega, by simp only [gN]; omega⟩ ?_
  rintro _ N2 ad2 K2 I2 R2 H locs ⟨I3, R3, e3, rfl, e4⟩ hg hw
  cases e3
  cases e4
  exact M_vret hC hlk hw gGo.rf ⟨by simp only [gN]; omega, by simp only [gN]; omega⟩ hr (⟨_, _, rfl, rfl, rfl⟩) dX10_init_6

set_option maxHeartbeats 800000 in
theorem tX11_init (l : Launch) (N : Nat) (ad : Nat → Nat) (K : gK) (I : mG) (R : gR) (w : Nat) (q : Nat) (z : Int32) (k : Nat) (h0 : w < N) (h1 : (K w).1 = 3 + k) (h2 : 1 ≤ k ∧ k ≤ 5) : gA l yX11_init (ws_ yX11_init cX11_init 3 none) ({ frames := 2, cells := 0, slots := 0, locals := 62 } : Room) [.ref (ad w), .int (nI q), .int z] N ad K I R (fun v S => v = none ∧ S = (g2 (g2 I w 0 (nI q)) w 1 z, R)) := by
  refine gM.of (by decide) (Nat.le_of_ble_eq_true rfl) ?_
  intro D dA p e s m args below meth cd ls hC hlk hr hin hK hX hl hw
  have hl : lv_has ls 3 [(0, .ref (ad w)), (1, .int (nI q)), (2, .int z)] := hl
  refine lv_aload_n hC.1 hC.2.1 dX11_init_0 rfl (lv_at hl 0 rfl) ?_
  refine lv_iload_n hC.1 hC.2.1 dX11_init_1 rfl (lv_at hl 1 rfl) ?_
  refine lv_iload_n hC.1 hC.2.1 dX11_init_2 rfl (lv_at hl 2 rfl) ?_
  refine M_I (n := 2) hC hl.1 hK hX hw (tX4_init l N ad K I R w q z k (h0) (h1) (h2)) q675 q192 q64 q193 rfl (by decide +kernel) ⟨by decide, by decide⟩ rfl rfl (Nat.le_of_ble_eq_true rfl) dX11_init_3 ⟨by simp only [gN]; omega, by simp only [gN]; omega⟩ ?_
  rintro _ N2 ad2 K2 I2 R2 H locs ⟨I3, R3, e3, rfl, e4⟩ hg hw
  cases e3
  cases e4
  exact M_vret hC hlk hw gGo.rf ⟨by simp only [gN]; omega, by simp only [gN]; omega⟩ hr (⟨_, _, rfl, rfl, rfl⟩) dX11_init_6

set_option maxHeartbeats 800000 in
theorem tX12_init (l : Launch) (N : Nat) (ad : Nat → Nat) (K : gK) (I : mG) (R : gR) (w : Nat) (q : Nat) (z : Int32) (k : Nat) (h0 : w < N) (h1 : (K w).1 = 3 + k) (h2 : 1 ≤ k ∧ k ≤ 5) : gA l yX12_init (ws_ yX12_init cX12_init 3 none) ({ frames := 3, cells := 0, slots := 0, locals := 84 } : Room) [.ref (ad w), .int (nI q), .int z] N ad K I R (fun v S => v = none ∧ S = (g2 (g2 I w 0 (nI q)) w 1 z, R)) := by
  refine gM.of (by decide) (Nat.le_of_ble_eq_true rfl) ?_
  intro D dA p e s m args below meth cd ls hC hlk hr hin hK hX hl hw
  have hl : lv_has ls 3 [(0, .ref (ad w)), (1, .int (nI q)), (2, .int z)] := hl
  refine lv_aload_n hC.1 hC.2.1 dX12_init_0 rfl (lv_at hl 0 rfl) ?_
  refine lv_iload_n hC.1 hC.2.1 dX12_init_1 rfl (lv_at hl 1 rfl) ?_
  refine lv_iload_n hC.1 hC.2.1 dX12_init_2 rfl (lv_at hl 2 rfl) ?_
  refine M_I (n := 2) hC hl.1 hK hX hw (tX11_init l N ad K I R w q z k (h0) (h1) (h2)) q684 q673 q86 q674 rfl (by decide +kernel) ⟨by decide, by decide⟩ rfl rfl (Nat.le_of_ble_eq_true rfl) dX12_init_3 ⟨by simp only [gN]; omega, by simp only [gN]; omega⟩ ?_
  rintro _ N2 ad2 K2 I2 R2 H locs ⟨I3, R3, e3, rfl, e4⟩ hg hw
  cases e3
  cases e4
  exact M_vret hC hlk hw gGo.rf ⟨by simp only [gN]; omega, by simp only [gN]; omega⟩ hr (⟨_, _, rfl, rfl, rfl⟩) dX12_init_6

set_option maxHeartbeats 800000 in
theorem tX0_workBy (l : Launch) (N : Nat) (ad : Nat → Nat) (K : gK) (I : mG) (R : gR) (k : Nat) (q : Nat) (z : Int32) (h0 : 1 ≤ k ∧ k ≤ 5) : gM l yX0_workBy (ws_ yX0_workBy cX0_workBy 3 (some (FieldType.object "WindCarver$Work"))) ({ frames := 4, cells := 1, slots := 2, locals := 106 } : Room) [.int (nI k), .int (nI q), .int z] N ad K I R (fun v S => v = some (.ref (S.2.1 N)) ∧ S.1 = N + 1 ∧ S.2.2.1 N = (3 + k, 0) ∧ S.2.2.2.1 N 0 = nI q ∧ S.2.2.2.1 N 1 = z ∧ (∀ n, n < N → S.2.2.2.1 n = I n ∧ S.2.2.2.2 n = R n)) := by
  refine gM.of (by decide) (Nat.le_of_ble_eq_true rfl) ?_
  intro D dA p e s m args below meth cd ls hC hlk hr hin hK hX hl hw
  have hl : lv_has ls 3 [(0, .int (nI k)), (1, .int (nI q)), (2, .int z)] := hl
  have hk : k = 1 ∨ k = 2 ∨ k = 3 ∨ k = 4 ∨ k = 5 := by omega
  rcases hk with rfl | rfl | rfl | rfl | rfl
  · refine lv_iload_n hC.1 hC.2.1 dX0_workBy_0 rfl (lv_at hl 0 rfl) ?_
    refine lv_tableIn (off := 31) (tgt := 32) hC.1 hC.2.1 dX0_workBy_1 (by decide) (by decide) (by decide) (by decide) ?_
    refine M_new hC hK hw 4 (by decide) rfl in_X5 tyX5 tyX5_ok q186 q187 q65 (df_of (by decide +kernel)) (by simp only [gN]; omega) (by simp only [gN]; omega) dX0_workBy_32 (fun ad32_1 H h32_1 hw => ?_)
    have g32_1 : gGo N ad K (N + 1, ad32_1, va_up K N (4, 0), va_up I N (fun _ => nI 0), va_up R N (fun _ => none)) := gGo_new (I1 := I) (R1 := R) gGo.rf h32_1
    refine lv_dup hC.1 hC.2.1 dX0_workBy_35 rfl ?_
    refine lv_iload_n hC.1 hC.2.1 dX0_workBy_36 rfl (lv_at hl 1 rfl) ?_
    refine lv_iload_n hC.1 hC.2.1 dX0_workBy_37 rfl (lv_at hl 2 rfl) ?_
    refine M_I (n := 2) hC hl.1 hK hX hw (tX5_init l (N + 1) ad32_1 (va_up K N (4, 0)) (va_up I N (fun _ => nI 0)) (va_up R N (fun _ => none)) N q z 1 (by omega) (by rw [va_up_self]) (⟨by decide, by decide⟩)) q188 q189 q65 q190 rfl (by decide +kernel) ⟨by decide, by decide⟩ rfl rfl (Nat.le_of_ble_eq_true rfl) dX0_workBy_38 ⟨by simp only [gN]; omega, by simp only [gN]; omega⟩ ?_
    rintro _ N2 ad2 K2 I2 R2 H locs ⟨I3, R3, e3, rfl, e4⟩ hg hw
    cases e3
    cases e4
    exact M_aret hC hlk hw g32_1.to ⟨by simp only [gN]; omega, by simp only [gN]; omega⟩ hr (Or.inl ⟨_, rfl⟩) (Or.inr ⟨_, rfl⟩) (by dsimp only; exact ⟨rfl, rfl, va_up_self _ _ _, by rw [g2_s, upd_at, if_neg (by decide), g2_s, upd_at, if_pos rfl], by rw [g2_s, upd_at, if_pos rfl], fun n hn => ⟨by rw [g2_ne _ _ _ (by omega), g2_ne _ _ _ (by omega), va_up_ne _ _ (by omega)], va_up_ne _ _ (by omega)⟩⟩) dX0_workBy_41
  · refine lv_iload_n hC.1 hC.2.1 dX0_workBy_0 rfl (lv_at hl 0 rfl) ?_
    refine lv_tableIn (off := 41) (tgt := 42) hC.1 hC.2.1 dX0_workBy_1 (by decide) (by decide) (by decide) (by decide) ?_
    refine M_new hC hK hw 5 (by decide) rfl in_X9 tyX9 tyX9_ok q652 q653 q84 (df_of (by decide +kernel)) (by simp only [gN]; omega) (by simp only [gN]; omega) dX0_workBy_42 (fun ad42_1 H h42_1 hw => ?_)
    have g42_1 : gGo N ad K (N + 1, ad42_1, va_up K N (5, 0), va_up I N (fun _ => nI 0), va_up R N (fun _ => none)) := gGo_new (I1 := I) (R1 := R) gGo.rf h42_1
    refine lv_dup hC.1 hC.2.1 dX0_workBy_45 rfl ?_
    refine lv_iload_n hC.1 hC.2.1 dX0_workBy_46 rfl (lv_at hl 1 rfl) ?_
    refine lv_iload_n hC.1 hC.2.1 dX0_workBy_47 rfl (lv_at hl 2 rfl) ?_
    refine M_I (n := 2) hC hl.1 hK hX hw (tX9_init l (N + 1) ad42_1 (va_up K N (5, 0)) (va_up I N (fun _ => nI 0)) (va_up R N (fun _ => none)) N q z 2 (by omega) (by rw [va_up_self]) (⟨by decide, by decide⟩)) q654 q655 q84 q656 rfl (by decide +kernel) ⟨by decide, by decide⟩ rfl rfl (Nat.le_of_ble_eq_true rfl) dX0_workBy_48 ⟨by simp only [gN]; omega, by simp only [gN]; omega⟩ ?_
    rintro _ N2 ad2 K2 I2 R2 H locs ⟨I3, R3, e3, rfl, e4⟩ hg hw
    cases e3
    cases e4
    exact M_aret hC hlk hw g42_1.to ⟨by simp only [gN]; omega, by simp only [gN]; omega⟩ hr (Or.inl ⟨_, rfl⟩) (Or.inr ⟨_, rfl⟩) (by dsimp only; exact ⟨rfl, rfl, va_up_self _ _ _, by rw [g2_s, upd_at, if_neg (by decide), g2_s, upd_at, if_pos rfl], by rw [g2_s, upd_at, if_pos rfl], fun n hn => ⟨by rw [g2_ne _ _ _ (by omega), g2_ne _ _ _ (by omega), va_up_ne _ _ (by omega)], va_up_ne _ _ (by omega)⟩⟩) dX0_workBy_51
  · refine lv_iload_n hC.1 hC.2.1 dX0_workBy_0 rfl (lv_at hl 0 rfl) ?_
    refine lv_tableIn (off := 51) (tgt := 52) hC.1 hC.2.1 dX0_workBy_1 (by decide) (by decide) (by decide) (by decide) ?_
    refine M_new hC hK hw 6 (by decide) rfl in_X10 tyX10 tyX10_ok q661 q662 q85 (df_of (by decide +kernel)) (by simp only [gN]; omega) (by simp only [gN]; omega) dX0_workBy_52 (fun ad52_1 H h52_1 hw => ?_)
    have g52_1 : gGo N ad K (N + 1, ad52_1, va_up K N (6, 0), va_up I N (fun _ => nI 0), va_up R N (fun _ => none)) := gGo_new (I1 := I) (R1 := R) gGo.rf h52_1
    refine lv_dup hC.1 hC.2.1 dX0_workBy_55 rfl ?_
    refine lv_iload_n hC.1 hC.2.1 dX0_workBy_56 rfl (lv_at hl 1 rfl) ?_
    refine lv_iload_n hC.1 hC.2.1 dX0_workBy_57 rfl (lv_at hl 2 rfl) ?_
    refine M_I (n := 2) hC hl.1 hK hX hw (tX10_init l (N + 1) ad52_1 (va_up K N (6, 0)) (va_up I N (fun _ => nI 0)) (va_up R N (fun _ => none)) N q z 3 (by omega) (by rw [va_up_self]) (⟨by decide, by decide⟩)) q663 q664 q85 q665 rfl (by decide +kernel) ⟨by decide, by decide⟩ rfl rfl (Nat.le_of_ble_eq_true rfl) dX0_workBy_58 ⟨by simp only [gN]; omega, by simp only [gN]; omega⟩ ?_
    rintro _ N2 ad2 K2 I2 R2 H locs ⟨I3, R3, e3, rfl, e4⟩ hg hw
    cases e3
    cases e4
    exact M_aret hC hlk hw g52_1.to ⟨by simp only [gN]; omega, by simp only [gN]; omega⟩ hr (Or.inl ⟨_, rfl⟩) (Or.inr ⟨_, rfl⟩) (by dsimp only; exact ⟨rfl, rfl, va_up_self _ _ _, by rw [g2_s, upd_at, if_neg (by decide), g2_s, upd_at, if_pos rfl], by rw [g2_s, upd_at, if_pos rfl], fun n hn => ⟨by rw [g2_ne _ _ _ (by omega), g2_ne _ _ _ (by omega), va_up_ne _ _ (by omega)], va_up_ne _ _ (by omega)⟩⟩) dX0_workBy_61
  · refine lv_iload_n hC.1 hC.2.1 dX0_workBy_0 rfl (lv_at hl 0 rfl) ?_
    refine lv_tableIn (off := 61) (tgt := 62) hC.1 hC.2.1 dX0_workBy_1 (by decide) (by decide) (by decide) (by decide) ?_
    refine M_new hC hK hw 7 (by decide) rfl in_X11 tyX11 tyX11_ok q670 q671 q86 (df_of (by decide +kernel)) (by simp only [gN]; omega) (by simp only [gN]; omega) dX0_workBy_62 (fun ad62_1 H h62_1 hw => ?_)
    have g62_1 : gGo N ad K (N + 1, ad62_1, va_up K N (7, 0), va_up I N (fun _ => nI 0), va_up R N (fun _ => none)) := gGo_new (I1 := I) (R1 := R) gGo.rf h62_1
    refine lv_dup hC.1 hC.2.1 dX0_workBy_65 rfl ?_
    refine lv_iload_n hC.1 hC.2.1 dX0_workBy_66 rfl (lv_at hl 1 rfl) ?_
    refine lv_iload_n hC.1 hC.2.1 dX0_workBy_67 rfl (lv_at hl 2 rfl) ?_
    refine M_I (n := 2) hC hl.1 hK hX hw (tX11_init l (N + 1) ad62_1 (va_up K N (7, 0)) (va_up I N (fun _ => nI 0)) (va_up R N (fun _ => none)) N q z 4 (by omega) (by rw [va_up_self]) (⟨by decide, by decide⟩)) q672 q673 q86 q674 rfl (by decide +kernel) ⟨by decide, by decide⟩ rfl rfl (Nat.le_of_ble_eq_true rfl) dX0_workBy_68 ⟨by simp only [gN]; omega, by simp only [gN]; omega⟩ ?_
    rintro _ N2 ad2 K2 I2 R2 H locs ⟨I3, R3, e3, rfl, e4⟩ hg hw
    cases e3
    cases e4
    exact M_aret hC hlk hw g62_1.to ⟨by simp only [gN]; omega, by simp only [gN]; omega⟩ hr (Or.inl ⟨_, rfl⟩) (Or.inr ⟨_, rfl⟩) (by dsimp only; exact ⟨rfl, rfl, va_up_self _ _ _, by rw [g2_s, upd_at, if_neg (by decide), g2_s, upd_at, if_pos rfl], by rw [g2_s, upd_at, if_pos rfl], fun n hn => ⟨by rw [g2_ne _ _ _ (by omega), g2_ne _ _ _ (by omega), va_up_ne _ _ (by omega)], va_up_ne _ _ (by omega)⟩⟩) dX0_workBy_71
  · refine lv_iload_n hC.1 hC.2.1 dX0_workBy_0 rfl (lv_at hl 0 rfl) ?_
    refine lv_tableOut (tgt := 72) hC.1 hC.2.1 dX0_workBy_1 (by decide) (by decide) ?_
    refine M_new hC hK hw 8 (by decide) rfl in_X12 tyX12 tyX12_ok q679 q680 q87 (df_of (by decide +kernel)) (by simp only [gN]; omega) (by simp only [gN]; omega) dX0_workBy_72 (fun ad72_1 H h72_1 hw => ?_)
    have g72_1 : gGo N ad K (N + 1, ad72_1, va_up K N (8, 0), va_up I N (fun _ => nI 0), va_up R N (fun _ => none)) := gGo_new (I1 := I) (R1 := R) gGo.rf h72_1
    refine lv_dup hC.1 hC.2.1 dX0_workBy_75 rfl ?_
    refine lv_iload_n hC.1 hC.2.1 dX0_workBy_76 rfl (lv_at hl 1 rfl) ?_
    refine lv_iload_n hC.1 hC.2.1 dX0_workBy_77 rfl (lv_at hl 2 rfl) ?_
    refine M_I (n := 2) hC hl.1 hK hX hw (tX12_init l (N + 1) ad72_1 (va_up K N (8, 0)) (va_up I N (fun _ => nI 0)) (va_up R N (fun _ => none)) N q z 5 (by omega) (by rw [va_up_self]) (⟨by decide, by decide⟩)) q681 q682 q87 q683 rfl (by decide +kernel) ⟨by decide, by decide⟩ rfl rfl (Nat.le_of_ble_eq_true rfl) dX0_workBy_78 ⟨by simp only [gN]; omega, by simp only [gN]; omega⟩ ?_
    rintro _ N2 ad2 K2 I2 R2 H locs ⟨I3, R3, e3, rfl, e4⟩ hg hw
    cases e3
    cases e4
    exact M_aret hC hlk hw g72_1.to ⟨by simp only [gN]; omega, by simp only [gN]; omega⟩ hr (Or.inl ⟨_, rfl⟩) (Or.inr ⟨_, rfl⟩) (by dsimp only; exact ⟨rfl, rfl, va_up_self _ _ _, by rw [g2_s, upd_at, if_neg (by decide), g2_s, upd_at, if_pos rfl], by rw [g2_s, upd_at, if_pos rfl], fun n hn => ⟨by rw [g2_ne _ _ _ (by omega), g2_ne _ _ _ (by omega), va_up_ne _ _ (by omega)], va_up_ne _ _ (by omega)⟩⟩) dX0_workBy_81
