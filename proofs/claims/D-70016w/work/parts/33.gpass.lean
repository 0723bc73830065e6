/-! ===== passes in the graph world ===== -/
/-- only what lies within the cells counts -/
theorem gw.toI {D : va_G} {dA : Nat → ClassId} {A : Nat → Prop} {H0 : Heap} {dom : List Nat} {ad : Nat → Nat} {K : gK} {I I' : mG} {R : gR} {H : Heap} {locs : List Loc} (hw : gw D dA A H0 dom ad K I R H locs) (h : ∀ n i, n ∈ dom → ((K n).1 < 20 ∨ i < (K n).2) → I n i = I' n i) : gw D dA A H0 dom ad K I' R H locs := by
  refine ⟨⟨fun k q hk => ?_, ⟨fun i j p q hi hj e => ?_, fun k q hk => ?_⟩, hw.1.2.2⟩, hw.2⟩
  · obtain ⟨n, h1, rfl⟩ := nL_inv hk
    have hn := List.mem_of_getElem? h1
    have ha : va_at D cCl (ad n, gCt dA K I R ad n) H := nw.at hw.1 hn
    by_cases h20 : (K n).1 < 20
    · have e : I n = I' n := funext (fun i => h n i hn (Or.inl h20))
      show va_at D cCl (ad n, gE dA (K n) (I' n) (R n) ad) H
      rw [← e]
      exact ha
    · by_cases h30 : (K n).1 < 30
      · have e1 : gCt dA K I R ad n = .inl (dA ((K n).1 - 20), (K n).2, .inl (I n)) := (if_neg h20).trans (if_pos h30)
        have e2 : gCt dA K I' R ad n = .inl (dA ((K n).1 - 20), (K n).2, .inl (I' n)) := (if_neg h20).trans (if_pos h30)
        rw [e2]
        rw [e1] at ha
        show H[ad n]? = some (vp_cell _ _)
        have ha : H[ad n]? = some (vp_cell (dA ((K n).1 - 20)) ((K n).2, .inl (I n))) := ha
        rw [ha, vp_cell_i, vp_cell_i]
        congr 1
        unfold arrV
        congr 1
        apply congrArg
        funext j
        show Value.int (I n j.val) = Value.int (I' n j.val)
        rw [h n j.val hn (Or.inr j.isLt)]
      · have e1 : gCt dA K I R ad n = .inl (dA ((K n).1 - 27), (K n).2, .inr (.inr (.inr (.inr (fun i => (R n i).map ad))))) := (if_neg h20).trans (if_neg h30)
        have e2 : gCt dA K I' R ad n = .inl (dA ((K n).1 - 27), (K n).2, .inr (.inr (.inr (.inr (fun i => (R n i).map ad))))) := (if_neg h20).trans (if_neg h30)
        rw [e2]
        rw [e1] at ha
        exact ha
  · obtain ⟨n, h1, rfl⟩ := nL_inv hi
    obtain ⟨n', h2, rfl⟩ := nL_inv hj
    exact hw.1.2.1.1 i j _ _ (nL_at h1) (nL_at h2) e
  · obtain ⟨n, h1, rfl⟩ := nL_inv hk
    exact hw.1.2.1.2 k (ad n, gCt dA K I R ad n) (nL_at h1)
/-- p is a pass, with its arrays behind it -/
def isPass (dom : List Nat) (K : gK) (R : gR) (p : Nat) : Prop :=
  (p ∈ dom ∧ p + 1 ∈ dom ∧ p + 2 ∈ dom ∧ p + 3 ∈ dom ∧ p + 4 ∈ dom ∧ p + 5 ∈ dom) ∧
  ((K p).1 = 2 ∧ K (p + 1) = (20, 4) ∧ K (p + 2) = (20, 4) ∧ K (p + 3) = (32, 16) ∧ K (p + 4) = (20, 16) ∧ K (p + 5) = (20, 4)) ∧
  (R p 2 = some (p + 1) ∧ R p 3 = some (p + 2) ∧ R p 4 = some (p + 3) ∧ R p 6 = some (p + 4) ∧ R p 7 = some (p + 5))
/-- the works of a pass: of cell c none, and st says so; or one of the kind that st says -/
def wkR (dom : List Nat) (K : gK) (I : mG) (f : Nat → Option Nat) (st : vV) : Prop := ∀ c, c < 16 → (f c = none ∧ st (9 + c) = nI 0) ∨ ∃ w k, f c = some w ∧ w ∈ dom ∧ 1 ≤ k ∧ k ≤ 5 ∧ (K w).1 = 3 + k ∧ st (9 + c) = nI k ∧ I w 0 = nI c ∧ I w 1 = st (25 + c)
theorem isPass.r2 {dom : List Nat} {K : gK} {R : gR} {u v i : Nat} {x : Option Nat} (h : isPass dom K R u) (hv : u ≠ v) : isPass dom K (r2 R v i x) u := by
  obtain ⟨h1, h2, h3⟩ := h
  refine ⟨h1, h2, ?_⟩
  unfold _root_.Jvm.Pilot.CWindCarverLaw_law_r1084_15bd83.r2
  rw [va_up_ne _ _ hv]
  exact h3
section GP
variable {p : Program} {l : Launch} {e : Env} {Rm : Room} {s : State} {m : MethodId} {args : Array Value} {below : List Frame} {meth : Method} {c : Code} {H : Heap} {locs : List Loc} {cells slots : Nat} {Q : State → Prop}
variable {cc : ByteArray} {nl pc : Nat} {ls : Array Slot} {rest : List Value} {D : va_G} {dA : Nat → ClassId} {A : Nat → Prop} {H0 : Heap} {dom : List Nat} {ad : Nat → Nat} {K : gK} {I : mG} {R : gR} {own : String} {u : Nat}
/-- an array of a pass -/
theorem p_ga (hC : CallFix p m c cc nl s args lw_all own) (hK : va_K D cCl (cTy dA) s) (hw : gw D dA A H0 dom ad K I R H locs) (hp : isPass dom K R u) (k j : Nat) (hkj : R u k = some (u + j)) (hk : k < 9) (hrf : gRef 2 k = true) {idx : Nat} (hl : Cond.fieldLink own idx RX2 (TX2 k).2.1 (TX2 k).2.2.1 ∈ lw_all) (hs : (TX2 k).1 = RX2) (hdg : decode cc pc = .ok (.getfield idx, 3))
    (kk : W p l e Rm s m args below meth c H locs cells slots Q (F0 m (pc + 3) ls (.ref (ad (u + j)) :: rest))) : W p l e Rm s m args below meth c H locs cells slots Q (F0 m pc ls (.ref (ad u) :: rest)) :=
  g_get (C := RX2) (T := TX2) (ref := RX2) hC hK hw hp.1.1 hp.2.1.1 (by decide) rfl in_X2 k hk hl (fun x h => by rw [hs] at h; exact h) (by unfold gfv; rw [if_pos hrf, hkj]; rfl) hdg kk
/-- a number of a pass -/
theorem p_gi (hC : CallFix p m c cc nl s args lw_all own) (hK : va_K D cCl (cTy dA) s) (hw : gw D dA A H0 dom ad K I R H locs) (hp : isPass dom K R u) (k : Nat) (hk : k < 9) (hrf : gRef 2 k = false) {idx : Nat} (hl : Cond.fieldLink own idx RX2 (TX2 k).2.1 (TX2 k).2.2.1 ∈ lw_all) (hs : (TX2 k).1 = RX2) {v : Int32} (hv : I u k = v) (hdg : decode cc pc = .ok (.getfield idx, 3))
    (kk : W p l e Rm s m args below meth c H locs cells slots Q (F0 m (pc + 3) ls (.int v :: rest))) : W p l e Rm s m args below meth c H locs cells slots Q (F0 m pc ls (.ref (ad u) :: rest)) :=
  g_get (C := RX2) (T := TX2) (ref := RX2) hC hK hw hp.1.1 hp.2.1.1 (by decide) rfl in_X2 k hk hl (fun x h => by rw [hs] at h; exact h) (by unfold gfv; rw [hrf, hv]; rfl) hdg kk
theorem p_pi (hC : CallFix p m c cc nl s args lw_all own) (hK : va_K D cCl (cTy dA) s) (hw : gw D dA A H0 dom ad K I R H locs) (hp : isPass dom K R u) (k : Nat) (hk : k < 9) (hrf : gRef 2 k = false) {idx : Nat} (hl : Cond.fieldLink own idx RX2 (TX2 k).2.1 (TX2 k).2.2.1 ∈ lw_all) (hs : (TX2 k).1 = RX2) (hfin : (TX2 k).2.2.2 = false) {ty : FieldType} {x : Int32} (hd : parseFieldDescriptor (TX2 k).2.2.1 = some ty) (hn : narrow ty (.int x) = .int x) (hfit : fits ty (.int x) = true) (hdg : decode cc pc = .ok (.putfield idx, 3))
    (kk : ∀ (H1 : Heap) (locs1 : List Loc), gw D dA A H0 dom ad K (g2 I u k x) R H1 locs1 → W p l e Rm s m args below meth c H1 locs1 cells slots Q (F0 m (pc + 3) ls rest)) : W p l e Rm s m args below meth c H locs cells slots Q (F0 m pc ls (.int x :: .ref (ad u) :: rest)) :=
  g_puti (C := RX2) (T := TX2) (ref := RX2) hC hK hw hp.1.1 hp.2.1.1 (by decide) rfl in_X2 tyX2 tyX2_ok nmX2 k hk hrf hl (fun x h => by rw [hs] at h; exact h) hfin hd hn hfit hdg kk
end GP
set_option maxHeartbeats 4000000 in
theorem tX2_has (l : Launch) (dom : List Nat) (ad : Nat → Nat) (K : gK) (I : mG) (R : gR) (u q : Nat) (hp : isPass dom K R u) (hq : q < 16) : gI l yX2_has cX2_has 2 .boolean ({ frames := 0, cells := 0, slots := 0, locals := 0 } : Room) [.ref (ad u), .int (nI q)] dom ad K I R (fun r S => r = bI (R (u + 3) q).isSome ∧ S = (I, R)) := by
  refine gI.of (by decide) (Nat.le_of_ble_eq_true rfl) ?_
  intro D dA p e s m below meth cd ls hC hlk hr hK hX hl hw
  have hl : lv_has ls 2 [(0, .ref (ad u)), (1, .int (nI q))] := hl
  refine lv_aload_n hC.1 hC.2.1 dX2_has_0 rfl (lv_at hl 0 rfl) ?_
  refine p_ga hC hK hw hp 4 3 hp.2.2.2.2.1 (by decide) rfl q133 rfl dX2_has_1 ?_
  refine lv_iload_n hC.1 hC.2.1 dX2_has_4 rfl (lv_at hl 1 rfl) ?_
  cases hz : R (u + 3) q with
  | none =>
    refine g_ldr (t := 2) (v := .null) hC hK hw hp.1.2.2.2.1 hp.2.1.2.2.2.1 rfl hq (by omega) (by rw [hz]; rfl) dX2_has_5 ?_
    refine lv_ifnullN (tgt := 13) hC.1 hC.2.1 dX2_has_6 (by decide) ?_
    refine lv_iconst (v := (nI 0)) hC.1 hC.2.1 dX2_has_13 (by decide) ?_
    exact g_iret hC hlk hr hw rfl ⟨bI_of_f rfl, rfl⟩ dX2_has_14
  | some w =>
    refine g_ldr (t := 2) (v := .ref (ad w)) hC hK hw hp.1.2.2.2.1 hp.2.1.2.2.2.1 rfl hq (by omega) (by rw [hz]; rfl) dX2_has_5 ?_
    refine lv_ifnull hC.1 hC.2.1 dX2_has_6 ?_
    refine lv_iconst (v := (nI 1)) hC.1 hC.2.1 dX2_has_9 (by decide) ?_
    refine lv_goto (tgt := 14) hC.1 hC.2.1 dX2_has_10 (by decide) ?_
    exact g_iret hC hlk hr hw rfl ⟨bI_of_t rfl, rfl⟩ dX2_has_14
