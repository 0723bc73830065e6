/-! ===== Pass: part, blow, goOn, become (by gen/w40.py) ===== -/
theorem bI_fit (b : Bool) : fits .boolean (.int (bI b)) = true := by cases b <;> rfl
theorem cast_asg {s : State} {a b : String} (h : va_Nw (.castable a b) s) {comp c0 : ClassId} (h1 : s.vm.findClass b = some comp) (h2 : s.vm.findClass a = some c0) : s.vm.assignable c0 comp = true := by
  obtain ⟨c3, c4, hc3, hc4, hasg⟩ := Cond.castable_spec h
  cases hc3.symm.trans h2
  cases hc4.symm.trans h1
  exact hasg
/-- a work as an element of a row of works -/
theorem g_any {s : State} {H : Heap} {D : va_G} {dA : Nat → ClassId} {A : Nat → Prop} {H0 : Heap} {dom : List Nat} {ad : Nat → Nat} {K : gK} {I : mG} {R : gR} {locs : List Loc} (hK : va_K D cCl (cTy dA) s) (hX : gX s) (hw : gw D dA A H0 dom ad K I R H locs) {w k : Nat} (hn : w ∈ dom) (hk0 : (K w).1 = 3 + k) (hk1 : 1 ≤ k ∧ k ≤ 5) : va_Any RX4 s H (ad w) := by
  obtain ⟨q0, -, hq⟩ := nL_get (gCt dA K I R ad) ad hn
  have e1 : gCt dA K I R ad w = .inr (3 + k, gF (3 + k) (I w) (R w) ad) := gE_o hk0 (by omega)
  rw [e1] at hq
  have hk : k = 1 ∨ k = 2 ∨ k = 3 ∨ k = 4 ∨ k = 5 := by omega
  rcases hk with rfl | rfl | rfl | rfl | rfl
  · exact va_rAny hK hw.1.1 hq rfl (fun comp c0 h1 h2 => cast_asg (hX _ q1508 rfl) h1 h2)
  · exact va_rAny hK hw.1.1 hq rfl (fun comp c0 h1 h2 => cast_asg (hX _ q1505 rfl) h1 h2)
  · exact va_rAny hK hw.1.1 hq rfl (fun comp c0 h1 h2 => cast_asg (hX _ q1506 rfl) h1 h2)
  · exact va_rAny hK hw.1.1 hq rfl (fun comp c0 h1 h2 => cast_asg (hX _ q1504 rfl) h1 h2)
  · exact va_rAny hK hw.1.1 hq rfl (fun comp c0 h1 h2 => cast_asg (hX _ q1507 rfl) h1 h2)
section CPY
variable {p : Program} {l : Launch} {e : Env} {Rm : Room} {s : State} {m : MethodId} {args : Array Value} {below : List Frame} {meth : Method} {c : Code} {H : Heap} {locs : List Loc} {cells slots : Nat} {Q : State → Prop}
variable {cc : ByteArray} {nl pc : Nat} {ls : Array Slot} {rest : List Value} {D : va_G} {dA : Nat → ClassId} {A : Nat → Prop} {H0 : Heap} {dom : List Nat} {ad : Nat → Nat} {K : gK} {I : mG} {R : gR} {own : String}
theorem g_copyi (hC : CallFix p m c cc nl s args lw_all own) (hK : va_K D cCl (cTy dA) s) (hw : gw D dA A H0 dom ad K I R H locs) (hls : ls.size = nl) {n0 n1 l0 l1 t : Nat} (hn0 : n0 ∈ dom) (hn1 : n1 ∈ dom) (hk0 : K n0 = (20 + t, l0)) (hk1 : K n1 = (20 + t, l1)) (ht : t < 10) {ty : FieldType} (hty : (cTy dA)[t]? = some (dA t, ty)) (hprim : refKind ty = false) {index : Nat} (hl : Cond.methodLink own index arraycopyName ∈ lw_all) {sp dp n : Nat} (h1 : sp < 2 ^ 31) (h2 : dp < 2 ^ 31) (h3 : n < 2 ^ 31) (h4 : sp + n ≤ l0) (h5 : dp + n ≤ l1) (hfit : ∀ i, i < n → fits ty (.int (I n0 (sp + i))) = true)
    (hframes : 1 ≤ Rm.frames) (hlocals : (rest.map fun v => v.category).sum + (nativeFrameWords "java/lang/System" "arraycopy" 5 + 11) ≤ Rm.locals) (hdg : decode cc pc = .ok (.invokestatic index, 3))
    (kk : ∀ (H1 : Heap) (locs1 : List Loc), gw D dA A H0 dom ad K (va_up I n1 (va_cpy (I n0) (I n1) sp dp n)) R H1 locs1 → W p l e Rm s m args below meth c H1 locs1 cells slots Q (F0 m (pc + 3) ls rest)) : W p l e Rm s m args below meth c H locs cells slots Q (F0 m pc ls (.int (nI n) :: .int (nI dp) :: .ref (ad n1) :: .int (nI sp) :: .ref (ad n0) :: rest)) := by
  obtain ⟨hx, hb, hml, ho, hts⟩ := hC
  obtain ⟨q0, hq0, hq⟩ := nL_get (gCt dA K I R ad) ad hn0
  obtain ⟨q1, hq1, hqb⟩ := nL_get (gCt dA K I R ad) ad hn1
  have e0 : gCt dA K I R ad n0 = .inl (dA t, l0, .inl (I n0)) := gE_p hk0 ht
  have e1 : gCt dA K I R ad n1 = .inl (dA t, l1, .inl (I n1)) := gE_p hk1 ht
  rw [e0] at hq
  rw [e1] at hqb
  refine va_copyi hx hb (hml.trans hls.symm) ho (hts _ hl) (hts _ q431) (hts _ q430) (hts _ q76) hK hw.1.1 hw.1.2.1 hw.1.2.2.1 q0 q1 t t hq hqb hty hty hprim (nI_pos h1) (nI_pos h2) (nI_pos h3) (by rw [nI_clamp h1, nI_clamp h3]; exact h4) (by rw [nI_clamp h2, nI_clamp h3]; exact h5) (fun i hi => by rw [nI_clamp h3] at hi; rw [nI_clamp h1]; exact hfit i hi) hframes hlocals hdg (fun H1 locs1 hP hD hS => kk H1 locs1 ?_)
  rw [nI_clamp h1, nI_clamp h2, nI_clamp h3] at hP hD
  exact gw_I hw hq1 (gE_p hk1 ht).symm hP hD hS
theorem g_copyr (hC : CallFix p m c cc nl s args lw_all own) (hK : va_K D cCl (cTy dA) s) (hw : gw D dA A H0 dom ad K I R H locs) (hX : gX s) (hls : ls.size = nl) {n0 n1 l0 l1 : Nat} (hn0 : n0 ∈ dom) (hn1 : n1 ∈ dom) (hk0 : K n0 = (32, l0)) (hk1 : K n1 = (32, l1)) {index : Nat} (hl : Cond.methodLink own index arraycopyName ∈ lw_all) {n : Nat} (h3 : n < 2 ^ 31) (h4 : n ≤ l0) (h5 : n ≤ l1) (hel : ∀ i, i < n → ∀ y, R n0 i = some y → ∃ k, (K y).1 = 3 + k ∧ 1 ≤ k ∧ k ≤ 5)
    (hframes : 1 ≤ Rm.frames) (hlocals : (rest.map fun v => v.category).sum + (nativeFrameWords "java/lang/System" "arraycopy" 5 + 11) ≤ Rm.locals) (hdg : decode cc pc = .ok (.invokestatic index, 3))
    (kk : ∀ (H1 : Heap) (locs1 : List Loc), gw D dA A H0 dom ad K I (va_up R n1 (va_cpy (R n0) (R n1) 0 0 n)) H1 locs1 → W p l e Rm s m args below meth c H1 locs1 cells slots Q (F0 m (pc + 3) ls rest)) : W p l e Rm s m args below meth c H locs cells slots Q (F0 m pc ls (.int (nI n) :: .int (nI 0) :: .ref (ad n1) :: .int (nI 0) :: .ref (ad n0) :: rest)) := by
  obtain ⟨hx, hb, hml, ho, hts⟩ := hC
  obtain ⟨q0, hq0, hq⟩ := nL_get (gCt dA K I R ad) ad hn0
  obtain ⟨q1, hq1, hqb⟩ := nL_get (gCt dA K I R ad) ad hn1
  have e0 : gCt dA K I R ad n0 = .inl (dA (3 + 2), l0, .inr (.inr (.inr (.inr (fun i => (R n0 i).map ad))))) := gE_r (t := 2) hk0
  have e1 : gCt dA K I R ad n1 = .inl (dA (3 + 2), l1, .inr (.inr (.inr (.inr (fun i => (R n1 i).map ad))))) := gE_r (t := 2) hk1
  rw [e0] at hq
  rw [e1] at hqb
  refine va_copyM hx hb (hml.trans hls.symm) ho (hts _ hl) (hts _ q431) (hts _ q430) (hts _ q76) hK hw.1.1 hw.1.2.1 hw.1.2.2.1 q0 q1 5 5 hq hqb (E0 := RX4) (E1 := RX4) rfl rfl (nI_pos (by decide)) (nI_pos (by decide)) (nI_pos h3) (by rw [nI_clamp (by decide), nI_clamp h3]; omega) (by rw [nI_clamp (by decide), nI_clamp h3]; omega) (fun i hi y hy => ?_) hframes hlocals hdg (fun H1 locs1 hP hD hS => kk H1 locs1 ?_)
  · rw [nI_clamp h3] at hi
    rw [nI_clamp (by decide), Nat.zero_add] at hy
    cases hz : R n0 i with
    | none => rw [hz] at hy; cases hy
    | some j =>
      rw [hz] at hy
      cases hy
      obtain ⟨k, a1, a2, a3⟩ := hel i hi j hz
      exact g_any hK hX hw (hw.2 n0 i j hn0 hz) a1 ⟨a2, a3⟩
  · rw [nI_clamp (show 0 < 2 ^ 31 by decide), nI_clamp h3] at hP hD
    have e2 : va_cpy (fun i => (R n0 i).map ad) (fun i => (R n1 i).map ad) 0 0 n = fun i => (va_cpy (R n0) (R n1) 0 0 n i).map ad := by
      funext i
      unfold va_cpy
      split <;> rfl
    rw [e2] at hP hD
    have e := nL_set (ct := gCt dA K I R ad) (ad := ad) hw.1.2.1 hq1 (gE dA (K n1) (I n1) (va_cpy (R n0) (R n1) 0 0 n) ad)
    rw [gCt_R] at e
    have e3 : gE dA (K n1) (I n1) (va_cpy (R n0) (R n1) 0 0 n) ad = .inl (dA (3 + 2), l1, .inr (.inr (.inr (.inr (fun i => (va_cpy (R n0) (R n1) 0 0 n i).map ad))))) := gE_r (t := 2) hk1
    rw [e3] at e
    refine ⟨⟨?_, ?_, hS, hw.1.2.2.2⟩, ?_⟩
    · rw [← e]; exact hP
    · rw [← e]; exact hD
    · intro a b j ha hj
      by_cases ea : a = n1
      · subst ea
        rw [va_up_self] at hj
        unfold va_cpy at hj
        split at hj
        · exact hw.2 n0 _ j hn0 hj
        · exact hw.2 a b j ha hj
      · rw [va_up_ne _ _ ea] at hj
        exact hw.2 a b j ha hj
end CPY

set_option maxHeartbeats 4000000 in
theorem tX2_part (l : Launch) (dom : List Nat) (ad : Nat → Nat) (K : gK) (I : mG) (R : gR) (u : Nat) (c : Nat) (st : vV) (f : vV × Int32) (h : Nat) (h0 : psR dom K I R u st) (h1 : st 0 = nI h) (h2 : h < 2 ^ 31) (h3 : c < 16) : gV l yX2_part cX2_part 7 ({ frames := 2, cells := 0, slots := 0, locals := 44 } : Room) [.ref (ad u), .int (nI c)] dom ad K (pFL I u f) R (fun S => S = (pFL I u (cellF st f c), R)) := by
  refine gV.of (by decide) (Nat.le_of_ble_eq_true rfl) ?_
  intro D dA p e s m below meth cd ls hC hlk hr hK hX hl hw
  have hl : lv_has ls 7 [(0, .ref (ad u)), (1, .int (nI c))] := hl
  refine lv_iload_n hC.1 hC.2.1 dX2_part_0 rfl (lv_at hl 1 rfl) ?_
  refine lv_iconst (v := (nI 4)) hC.1 hC.2.1 dX2_part_1 (by decide) ?_
  refine k_div hC (by omega) (by omega) (by omega) dX2_part_2 ?_
  refine lv_istore_n (lv' := [(2, .int (nI (c / 4))), (0, .ref (ad u)), (1, .int (nI c))]) hC.1 hC.2.1 dX2_part_3 rfl hl (by decide) rfl (fun ls hl => ?_)
  refine lv_iload_n hC.1 hC.2.1 dX2_part_4 rfl (lv_at hl 2 rfl) ?_
  refine lv_iconst (v := (nI 4)) hC.1 hC.2.1 dX2_part_5 (by decide) ?_
  refine k_rem hC (by omega) (by omega) (by omega) dX2_part_6 ?_
  refine lv_istore_n (lv' := [(3, .int (nI (c % 4))), (2, .int (nI (c / 4))), (0, .ref (ad u)), (1, .int (nI c))]) hC.1 hC.2.1 dX2_part_7 rfl hl (by decide) rfl (fun ls hl => ?_)
  refine lv_aload_n hC.1 hC.2.1 dX2_part_8 rfl (lv_at hl 2 rfl) ?_
  refine p_ga hC hK hw h0.1 6 4 h0.1.2.2.2.2.2.1 (by decide) rfl q138 rfl dX2_part_9 ?_
  refine lv_iload_n hC.1 hC.2.1 dX2_part_12 rfl (lv_at hl 3 rfl) ?_
  refine g_ldi hC hK hw h0.1.1.2.2.2.2.1 h0.1.2.1.2.2.2.2.1 (by omega) (by omega) (v := (f.1 c)) (by rw [pFL_4]) dX2_part_13 ?_
  refine lv_istore (lv' := [(4, .int (f.1 c)), (3, .int (nI (c % 4))), (2, .int (nI (c / 4))), (0, .ref (ad u)), (1, .int (nI c))]) hC.1 hC.2.1 dX2_part_14 hl (by decide) rfl (fun ls hl => ?_)
  obtain ⟨g1, g2, g3, g4⟩ := h0.2.2.2 c h3
  rcases g4 with ⟨z1, z2⟩ | ⟨w, k, z1, z2, z3, z4, z5, z6, z7, z8⟩
  · refine lv_aload_n hC.1 hC.2.1 dX2_part_16 rfl (lv_at hl 3 rfl) ?_
    refine lv_iload_n hC.1 hC.2.1 dX2_part_17 rfl (lv_at hl 4 rfl) ?_
    refine g_calli (n := 1) (C := RX2) (T := TX2) hC hl.1 hK hX hw (h0.1).1.1 (h0.1).2.1.1 (by decide) rfl (tX2_has l dom ad K (pFL I u f) R u c (h0.1) (by omega)) (lw_V q643 q644 q645 q62 q646) rfl rfl (by decide +kernel) ⟨by decide, by decide⟩ rfl rfl (Nat.le_of_ble_eq_true rfl) dX2_part_18 ⟨Nat.zero_le _, Nat.zero_le _⟩ ?_
    rintro r2 I2 R2 H locs ⟨hr2, hS2⟩ hw
    rw [hr2]
    replace hw := hw.eq (Prod.mk.inj hS2).1 (Prod.mk.inj hS2).2
    clear hS2
    refine k_beq (tgt := 46) hC dX2_part_21 (by decide) (fun c21 => ?_) (fun c21 => ?_)
    · refine lv_iload hC.1 hC.2.1 dX2_part_46 (lv_at hl 0 rfl) ?_
      rw [show f.1 c = onF (st (9 + c)) (st (41 + c)) (f.1 c) from by rw [z2]; exact onF_0]
      refine lv_istore (lv' := [(5, .int (onF (st (9 + c)) (st (41 + c)) (f.1 c))), (4, .int (f.1 c)), (3, .int (nI (c % 4))), (2, .int (nI (c / 4))), (0, .ref (ad u)), (1, .int (nI c))]) hC.1 hC.2.1 dX2_part_48 hl (by decide) rfl (fun ls hl => ?_)
      refine lv_aload_n hC.1 hC.2.1 dX2_part_50 rfl (lv_at hl 4 rfl) ?_
      refine lv_iload_n hC.1 hC.2.1 dX2_part_51 rfl (lv_at hl 5 rfl) ?_
      refine g_calli (n := 1) (C := RX2) (T := TX2) hC hl.1 hK hX hw (h0.1).1.1 (h0.1).2.1.1 (by decide) rfl (tX2_has l dom ad K (pFL I u f) R u c (h0.1) (by omega)) (lw_V q643 q644 q645 q62 q646) rfl rfl (by decide +kernel) ⟨by decide, by decide⟩ rfl rfl (Nat.le_of_ble_eq_true rfl) dX2_part_52 ⟨Nat.zero_le _, Nat.zero_le _⟩ ?_
      rintro r2 I2 R2 H locs ⟨hr2, hS2⟩ hw
      rw [hr2]
      replace hw := hw.eq (Prod.mk.inj hS2).1 (Prod.mk.inj hS2).2
      clear hS2
      refine k_beq (tgt := 79) hC dX2_part_55 (by decide) (fun c55 => ?_) (fun c55 => ?_)
      · refine lv_iconst (v := (nI 0)) hC.1 hC.2.1 dX2_part_79 (by decide) ?_
        rw [show nI 0 = upF (st (9 + c)) (st 0) (f.1 c) (onF (st (9 + c)) (st (41 + c)) (f.1 c)) from by rw [z2]; exact upF_0]
        refine lv_istore (lv' := [(6, .int (upF (st (9 + c)) (st 0) (f.1 c) (onF (st (9 + c)) (st (41 + c)) (f.1 c)))), (5, .int (onF (st (9 + c)) (st (41 + c)) (f.1 c))), (4, .int (f.1 c)), (3, .int (nI (c % 4))), (2, .int (nI (c / 4))), (0, .ref (ad u)), (1, .int (nI c))]) hC.1 hC.2.1 dX2_part_80 hl (by decide) rfl (fun ls hl => ?_)
        refine lv_aload_n hC.1 hC.2.1 dX2_part_82 rfl (lv_at hl 5 rfl) ?_
        refine lv_iload_n hC.1 hC.2.1 dX2_part_83 rfl (lv_at hl 4 rfl) ?_
        refine lv_iconst (v := (nI 1)) hC.1 hC.2.1 dX2_part_84 (by decide) ?_
        refine k_add hC dX2_part_85 ?_
        refine lv_iload_n hC.1 hC.2.1 dX2_part_86 rfl (lv_at hl 3 rfl) ?_
        refine lv_iload hC.1 hC.2.1 dX2_part_87 (lv_at hl 1 rfl) ?_
        refine g_callv (n := 3) (C := RX2) (T := TX2) hC hl.1 hK hX hw (h0.1).1.1 (h0.1).2.1.1 (by decide) rfl (tX2_come l dom ad K (pFL I u f) R u ((c / 4) + 1) (nI (c % 4)) (onF (st (9 + c)) (st (41 + c)) (f.1 c)) (h0.1) (by omega)) (lw_V q810 q812 qs17 q62 q813) rfl rfl (by decide +kernel) ⟨by decide, by decide⟩ rfl rfl (Nat.le_of_ble_eq_true rfl) dX2_part_89 ⟨Nat.zero_le _, Nat.zero_le _⟩ ?_
        rintro I2 R2 H locs hS2 hw
        replace hw := hw.eq (Prod.mk.inj hS2).1 (Prod.mk.inj hS2).2
        clear hS2
        replace hw := hw.toI (I' := pFL I u (goesF (c / 4) (nI (c % 4)) (onF (st (9 + c)) (st (41 + c)) (f.1 c)) f)) (fun n i _ hk => come_fl I u _ _ (f) (by omega) (h0.1.k4 hk))
        refine lv_aload_n hC.1 hC.2.1 dX2_part_92 rfl (lv_at hl 5 rfl) ?_
        refine lv_iload_n hC.1 hC.2.1 dX2_part_93 rfl (lv_at hl 4 rfl) ?_
        refine lv_iconst (v := (nI 1)) hC.1 hC.2.1 dX2_part_94 (by decide) ?_
        refine k_add hC dX2_part_95 ?_
        refine lv_iload_n hC.1 hC.2.1 dX2_part_96 rfl (lv_at hl 3 rfl) ?_
        refine lv_iconst (v := (nI 1)) hC.1 hC.2.1 dX2_part_97 (by decide) ?_
        refine lv_isub hC.1 hC.2.1 dX2_part_98 ?_
        refine lv_iload hC.1 hC.2.1 dX2_part_99 (lv_at hl 0 rfl) ?_
        refine g_callv (n := 3) (C := RX2) (T := TX2) hC hl.1 hK hX hw (h0.1).1.1 (h0.1).2.1.1 (by decide) rfl (tX2_come l dom ad K (pFL I u (goesF (c / 4) (nI (c % 4)) (onF (st (9 + c)) (st (41 + c)) (f.1 c)) f)) R u ((c / 4) + 1) ((nI (c % 4)) - (nI 1)) (upF (st (9 + c)) (st 0) (f.1 c) (onF (st (9 + c)) (st (41 + c)) (f.1 c))) (h0.1) (by omega)) (lw_V q810 q812 qs17 q62 q813) rfl rfl (by decide +kernel) ⟨by decide, by decide⟩ rfl rfl (Nat.le_of_ble_eq_true rfl) dX2_part_101 ⟨Nat.zero_le _, Nat.zero_le _⟩ ?_
        rintro I2 R2 H locs hS2 hw
        replace hw := hw.eq (Prod.mk.inj hS2).1 (Prod.mk.inj hS2).2
        clear hS2
        replace hw := hw.toI (I' := pFL I u (goesF (c / 4) (nI (c % 4) - nI 1) (upF (st (9 + c)) (st 0) (f.1 c) (onF (st (9 + c)) (st (41 + c)) (f.1 c))) (goesF (c / 4) (nI (c % 4)) (onF (st (9 + c)) (st (41 + c)) (f.1 c)) f))) (fun n i _ hk => come_fl I u _ _ (goesF (c / 4) (nI (c % 4)) (onF (st (9 + c)) (st (41 + c)) (f.1 c)) f) (by omega) (h0.1.k4 hk))
        refine lv_aload_n hC.1 hC.2.1 dX2_part_104 rfl (lv_at hl 5 rfl) ?_
        refine lv_iload_n hC.1 hC.2.1 dX2_part_105 rfl (lv_at hl 4 rfl) ?_
        refine lv_iconst (v := (nI 1)) hC.1 hC.2.1 dX2_part_106 (by decide) ?_
        refine k_add hC dX2_part_107 ?_
        refine lv_iload_n hC.1 hC.2.1 dX2_part_108 rfl (lv_at hl 3 rfl) ?_
        refine lv_iconst (v := (nI 1)) hC.1 hC.2.1 dX2_part_109 (by decide) ?_
        refine k_add hC dX2_part_110 ?_
        refine lv_iload hC.1 hC.2.1 dX2_part_111 (lv_at hl 2 rfl) ?_
        refine lv_iload hC.1 hC.2.1 dX2_part_113 (lv_at hl 1 rfl) ?_
        refine lv_isub hC.1 hC.2.1 dX2_part_115 ?_
        refine lv_iload hC.1 hC.2.1 dX2_part_116 (lv_at hl 0 rfl) ?_
        refine lv_isub hC.1 hC.2.1 dX2_part_118 ?_
        refine g_callv (n := 3) (C := RX2) (T := TX2) hC hl.1 hK hX hw (h0.1).1.1 (h0.1).2.1.1 (by decide) rfl (tX2_come l dom ad K (pFL I u (goesF (c / 4) (nI (c % 4) - nI 1) (upF (st (9 + c)) (st 0) (f.1 c) (onF (st (9 + c)) (st (41 + c)) (f.1 c))) (goesF (c / 4) (nI (c % 4)) (onF (st (9 + c)) (st (41 + c)) (f.1 c)) f))) R u ((c / 4) + 1) (nI ((c % 4) + 1)) (((f.1 c) - (onF (st (9 + c)) (st (41 + c)) (f.1 c))) - (upF (st (9 + c)) (st 0) (f.1 c) (onF (st (9 + c)) (st (41 + c)) (f.1 c)))) (h0.1) (by omega)) (lw_V q810 q812 qs17 q62 q813) rfl rfl (by decide +kernel) ⟨by decide, by decide⟩ rfl rfl (Nat.le_of_ble_eq_true rfl) dX2_part_119 ⟨Nat.zero_le _, Nat.zero_le _⟩ ?_
        rintro I2 R2 H locs hS2 hw
        replace hw := hw.eq (Prod.mk.inj hS2).1 (Prod.mk.inj hS2).2
        clear hS2
        replace hw := hw.toI (I' := pFL I u (goesF (c / 4) (nI (c % 4 + 1)) (f.1 c - onF (st (9 + c)) (st (41 + c)) (f.1 c) - upF (st (9 + c)) (st 0) (f.1 c) (onF (st (9 + c)) (st (41 + c)) (f.1 c))) (goesF (c / 4) (nI (c % 4) - nI 1) (upF (st (9 + c)) (st 0) (f.1 c) (onF (st (9 + c)) (st (41 + c)) (f.1 c))) (goesF (c / 4) (nI (c % 4)) (onF (st (9 + c)) (st (41 + c)) (f.1 c)) f)))) (fun n i _ hk => come_fl I u _ _ (goesF (c / 4) (nI (c % 4) - nI 1) (upF (st (9 + c)) (st 0) (f.1 c) (onF (st (9 + c)) (st (41 + c)) (f.1 c))) (goesF (c / 4) (nI (c % 4)) (onF (st (9 + c)) (st (41 + c)) (f.1 c)) f)) (by omega) (h0.1.k4 hk))
        exact g_vret hC hlk hr hw (rfl) dX2_part_122
      · exact absurd c55 (by rw [z1]; decide)
    · exact absurd c21 (by rw [z1]; decide)
  · refine lv_aload_n hC.1 hC.2.1 dX2_part_16 rfl (lv_at hl 3 rfl) ?_
    refine lv_iload_n hC.1 hC.2.1 dX2_part_17 rfl (lv_at hl 4 rfl) ?_
    refine g_calli (n := 1) (C := RX2) (T := TX2) hC hl.1 hK hX hw (h0.1).1.1 (h0.1).2.1.1 (by decide) rfl (tX2_has l dom ad K (pFL I u f) R u c (h0.1) (by omega)) (lw_V q643 q644 q645 q62 q646) rfl rfl (by decide +kernel) ⟨by decide, by decide⟩ rfl rfl (Nat.le_of_ble_eq_true rfl) dX2_part_18 ⟨Nat.zero_le _, Nat.zero_le _⟩ ?_
    rintro r2 I2 R2 H locs ⟨hr2, hS2⟩ hw
    rw [hr2]
    replace hw := hw.eq (Prod.mk.inj hS2).1 (Prod.mk.inj hS2).2
    clear hS2
    refine k_beq (tgt := 46) hC dX2_part_21 (by decide) (fun c21 => ?_) (fun c21 => ?_)
    · exact absurd c21 (by rw [z1]; simp)
    · refine lv_aload_n hC.1 hC.2.1 dX2_part_24 rfl (lv_at hl 3 rfl) ?_
      refine p_ga hC hK hw h0.1 4 3 h0.1.2.2.2.2.1 (by decide) rfl q133 rfl dX2_part_25 ?_
      refine lv_iload_n hC.1 hC.2.1 dX2_part_28 rfl (lv_at hl 4 rfl) ?_
      refine g_ldr (t := 2) (v := .ref (ad w)) hC hK hw h0.1.1.2.2.2.1 h0.1.2.1.2.2.2.1 rfl (by omega) (by omega) (by rw [z1]; rfl) dX2_part_29 ?_
      refine lv_iload hC.1 hC.2.1 dX2_part_30 (lv_at hl 0 rfl) ?_
      refine lv_aload_n hC.1 hC.2.1 dX2_part_32 rfl (lv_at hl 3 rfl) ?_
      refine p_gi hC hK hw h0.1 5 (by decide) rfl q136 rfl (v := (I u 5)) (by rw [pFL_u]; rfl) dX2_part_33 ?_
      refine lv_iload_n hC.1 hC.2.1 dX2_part_36 rfl (lv_at hl 4 rfl) ?_
      refine pS_callN (n := 2) hC hl.1 hX (tX0_has l (I u 5) (nI c)) q775 q776 q60 q777 rfl rfl (by decide +kernel) ⟨by decide, by decide⟩ rfl rfl (Nat.le_of_ble_eq_true rfl) dX2_part_37 ⟨Nat.zero_le _, Nat.zero_le _⟩ ?_
      refine w_on hC hl.1 hK hX hw z2 z5 ⟨z3, z4⟩ ⟨by decide, by decide⟩ (Nat.le_of_ble_eq_true rfl) dX2_part_40 ⟨Nat.zero_le _, Nat.zero_le _⟩ (fun H locs hw => ?_)
      refine lv_goto (tgt := 48) hC.1 hC.2.1 dX2_part_43 (by decide) ?_
      rw [show (onK k (f.1 c) (hasB (I u 5) (nI c))) = onF (st (9 + c)) (st (41 + c)) (f.1 c) from by rw [z6]; exact onK_eq z3 z4 g1]
      refine lv_istore (lv' := [(5, .int (onF (st (9 + c)) (st (41 + c)) (f.1 c))), (4, .int (f.1 c)), (3, .int (nI (c % 4))), (2, .int (nI (c / 4))), (0, .ref (ad u)), (1, .int (nI c))]) hC.1 hC.2.1 dX2_part_48 hl (by decide) rfl (fun ls hl => ?_)
      refine lv_aload_n hC.1 hC.2.1 dX2_part_50 rfl (lv_at hl 4 rfl) ?_
      refine lv_iload_n hC.1 hC.2.1 dX2_part_51 rfl (lv_at hl 5 rfl) ?_
      refine g_calli (n := 1) (C := RX2) (T := TX2) hC hl.1 hK hX hw (h0.1).1.1 (h0.1).2.1.1 (by decide) rfl (tX2_has l dom ad K (pFL I u f) R u c (h0.1) (by omega)) (lw_V q643 q644 q645 q62 q646) rfl rfl (by decide +kernel) ⟨by decide, by decide⟩ rfl rfl (Nat.le_of_ble_eq_true rfl) dX2_part_52 ⟨Nat.zero_le _, Nat.zero_le _⟩ ?_
      rintro r2 I2 R2 H locs ⟨hr2, hS2⟩ hw
      rw [hr2]
      replace hw := hw.eq (Prod.mk.inj hS2).1 (Prod.mk.inj hS2).2
      clear hS2
      refine k_beq (tgt := 79) hC dX2_part_55 (by decide) (fun c55 => ?_) (fun c55 => ?_)
      · exact absurd c55 (by rw [z1]; simp)
      · refine lv_aload_n hC.1 hC.2.1 dX2_part_58 rfl (lv_at hl 4 rfl) ?_
        refine p_ga hC hK hw h0.1 4 3 h0.1.2.2.2.2.1 (by decide) rfl q133 rfl dX2_part_59 ?_
        refine lv_iload_n hC.1 hC.2.1 dX2_part_62 rfl (lv_at hl 5 rfl) ?_
        refine g_ldr (t := 2) (v := .ref (ad w)) hC hK hw h0.1.1.2.2.2.1 h0.1.2.1.2.2.2.1 rfl (by omega) (by omega) (by rw [z1]; rfl) dX2_part_63 ?_
        refine lv_iload hC.1 hC.2.1 dX2_part_64 (lv_at hl 1 rfl) ?_
        refine lv_iload hC.1 hC.2.1 dX2_part_66 (lv_at hl 0 rfl) ?_
        refine lv_isub hC.1 hC.2.1 dX2_part_68 ?_
        refine lv_aload_n hC.1 hC.2.1 dX2_part_69 rfl (lv_at hl 4 rfl) ?_
        refine p_gi hC hK hw h0.1 1 (by decide) rfl q125 rfl (v := (nI h)) (by rw [pFL_u]; exact h0.2.1.trans h1) dX2_part_70 ?_
        refine w_north hC hl.1 hK hX hw z2 z5 ⟨z3, z4⟩ ⟨by decide, by decide⟩ (Nat.le_of_ble_eq_true rfl) dX2_part_73 ⟨Nat.zero_le _, Nat.zero_le _⟩ (fun H locs hw => ?_)
        refine lv_goto (tgt := 80) hC.1 hC.2.1 dX2_part_76 (by decide) ?_
        rw [show (nrK k ((f.1 c) - (onF (st (9 + c)) (st (41 + c)) (f.1 c))) (nI h)) = upF (st (9 + c)) (st 0) (f.1 c) (onF (st (9 + c)) (st (41 + c)) (f.1 c)) from by rw [z6, h1]; exact nrK_eq h2 z3 z4]
        refine lv_istore (lv' := [(6, .int (upF (st (9 + c)) (st 0) (f.1 c) (onF (st (9 + c)) (st (41 + c)) (f.1 c)))), (5, .int (onF (st (9 + c)) (st (41 + c)) (f.1 c))), (4, .int (f.1 c)), (3, .int (nI (c % 4))), (2, .int (nI (c / 4))), (0, .ref (ad u)), (1, .int (nI c))]) hC.1 hC.2.1 dX2_part_80 hl (by decide) rfl (fun ls hl => ?_)
        refine lv_aload_n hC.1 hC.2.1 dX2_part_82 rfl (lv_at hl 5 rfl) ?_
        refine lv_iload_n hC.1 hC.2.1 dX2_part_83 rfl (lv_at hl 4 rfl) ?_
        refine lv_iconst (v := (nI 1)) hC.1 hC.2.1 dX2_part_84 (by decide) ?_
        refine k_add hC dX2_part_85 ?_
        refine lv_iload_n hC.1 hC.2.1 dX2_part_86 rfl (lv_at hl 3 rfl) ?_
        refine lv_iload hC.1 hC.2.1 dX2_part_87 (lv_at hl 1 rfl) ?_
        refine g_callv (n := 3) (C := RX2) (T := TX2) hC hl.1 hK hX hw (h0.1).1.1 (h0.1).2.1.1 (by decide) rfl (tX2_come l dom ad K (pFL I u f) R u ((c / 4) + 1) (nI (c % 4)) (onF (st (9 + c)) (st (41 + c)) (f.1 c)) (h0.1) (by omega)) (lw_V q810 q812 qs17 q62 q813) rfl rfl (by decide +kernel) ⟨by decide, by decide⟩ rfl rfl (Nat.le_of_ble_eq_true rfl) dX2_part_89 ⟨Nat.zero_le _, Nat.zero_le _⟩ ?_
        rintro I2 R2 H locs hS2 hw
        replace hw := hw.eq (Prod.mk.inj hS2).1 (Prod.mk.inj hS2).2
        clear hS2
        replace hw := hw.toI (I' := pFL I u (goesF (c / 4) (nI (c % 4)) (onF (st (9 + c)) (st (41 + c)) (f.1 c)) f)) (fun n i _ hk => come_fl I u _ _ (f) (by omega) (h0.1.k4 hk))
        refine lv_aload_n hC.1 hC.2.1 dX2_part_92 rfl (lv_at hl 5 rfl) ?_
        refine lv_iload_n hC.1 hC.2.1 dX2_part_93 rfl (lv_at hl 4 rfl) ?_
        refine lv_iconst (v := (nI 1)) hC.1 hC.2.1 dX2_part_94 (by decide) ?_
        refine k_add hC dX2_part_95 ?_
        refine lv_iload_n hC.1 hC.2.1 dX2_part_96 rfl (lv_at hl 3 rfl) ?_
        refine lv_iconst (v := (nI 1)) hC.1 hC.2.1 dX2_part_97 (by decide) ?_
        refine lv_isub hC.1 hC.2.1 dX2_part_98 ?_
        refine lv_iload hC.1 hC.2.1 dX2_part_99 (lv_at hl 0 rfl) ?_
        refine g_callv (n := 3) (C := RX2) (T := TX2) hC hl.1 hK hX hw (h0.1).1.1 (h0.1).2.1.1 (by decide) rfl (tX2_come l dom ad K (pFL I u (goesF (c / 4) (nI (c % 4)) (onF (st (9 + c)) (st (41 + c)) (f.1 c)) f)) R u ((c / 4) + 1) ((nI (c % 4)) - (nI 1)) (upF (st (9 + c)) (st 0) (f.1 c) (onF (st (9 + c)) (st (41 + c)) (f.1 c))) (h0.1) (by omega)) (lw_V q810 q812 qs17 q62 q813) rfl rfl (by decide +kernel) ⟨by decide, by decide⟩ rfl rfl (Nat.le_of_ble_eq_true rfl) dX2_part_101 ⟨Nat.zero_le _, Nat.zero_le _⟩ ?_
        rintro I2 R2 H locs hS2 hw
        replace hw := hw.eq (Prod.mk.inj hS2).1 (Prod.mk.inj hS2).2
        clear hS2
        replace hw := hw.toI (I' := pFL I u (goesF (c / 4) (nI (c % 4) - nI 1) (upF (st (9 + c)) (st 0) (f.1 c) (onF (st (9 + c)) (st (41 + c)) (f.1 c))) (goesF (c / 4) (nI (c % 4)) (onF (st (9 + c)) (st (41 + c)) (f.1 c)) f))) (fun n i _ hk => come_fl I u _ _ (goesF (c / 4) (nI (c % 4)) (onF (st (9 + c)) (st (41 + c)) (f.1 c)) f) (by omega) (h0.1.k4 hk))
        refine lv_aload_n hC.1 hC.2.1 dX2_part_104 rfl (lv_at hl 5 rfl) ?_
        refine lv_iload_n hC.1 hC.2.1 dX2_part_105 rfl (lv_at hl 4 rfl) ?_
        refine lv_iconst (v := (nI 1)) hC.1 hC.2.1 dX2_part_106 (by decide) ?_
        refine k_add hC dX2_part_107 ?_
        refine lv_iload_n hC.1 hC.2.1 dX2_part_108 rfl (lv_at hl 3 rfl) ?_
        refine lv_iconst (v := (nI 1)) hC.1 hC.2.1 dX2_part_109 (by decide) ?_
        refine k_add hC dX2_part_110 ?_
        refine lv_iload hC.1 hC.2.1 dX2_part_111 (lv_at hl 2 rfl) ?_
        refine lv_iload hC.1 hC.2.1 dX2_part_113 (lv_at hl 1 rfl) ?_
        refine lv_isub hC.1 hC.2.1 dX2_part_115 ?_
        refine lv_iload hC.1 hC.2.1 dX2_part_116 (lv_at hl 0 rfl) ?_
        refine lv_isub hC.1 hC.2.1 dX2_part_118 ?_
        refine g_callv (n := 3) (C := RX2) (T := TX2) hC hl.1 hK hX hw (h0.1).1.1 (h0.1).2.1.1 (by decide) rfl (tX2_come l dom ad K (pFL I u (goesF (c / 4) (nI (c % 4) - nI 1) (upF (st (9 + c)) (st 0) (f.1 c) (onF (st (9 + c)) (st (41 + c)) (f.1 c))) (goesF (c / 4) (nI (c % 4)) (onF (st (9 + c)) (st (41 + c)) (f.1 c)) f))) R u ((c / 4) + 1) (nI ((c % 4) + 1)) (((f.1 c) - (onF (st (9 + c)) (st (41 + c)) (f.1 c))) - (upF (st (9 + c)) (st 0) (f.1 c) (onF (st (9 + c)) (st (41 + c)) (f.1 c)))) (h0.1) (by omega)) (lw_V q810 q812 qs17 q62 q813) rfl rfl (by decide +kernel) ⟨by decide, by decide⟩ rfl rfl (Nat.le_of_ble_eq_true rfl) dX2_part_119 ⟨Nat.zero_le _, Nat.zero_le _⟩ ?_
        rintro I2 R2 H locs hS2 hw
        replace hw := hw.eq (Prod.mk.inj hS2).1 (Prod.mk.inj hS2).2
        clear hS2
        replace hw := hw.toI (I' := pFL I u (goesF (c / 4) (nI (c % 4 + 1)) (f.1 c - onF (st (9 + c)) (st (41 + c)) (f.1 c) - upF (st (9 + c)) (st 0) (f.1 c) (onF (st (9 + c)) (st (41 + c)) (f.1 c))) (goesF (c / 4) (nI (c % 4) - nI 1) (upF (st (9 + c)) (st 0) (f.1 c) (onF (st (9 + c)) (st (41 + c)) (f.1 c))) (goesF (c / 4) (nI (c % 4)) (onF (st (9 + c)) (st (41 + c)) (f.1 c)) f)))) (fun n i _ hk => come_fl I u _ _ (goesF (c / 4) (nI (c % 4) - nI 1) (upF (st (9 + c)) (st 0) (f.1 c) (onF (st (9 + c)) (st (41 + c)) (f.1 c))) (goesF (c / 4) (nI (c % 4)) (onF (st (9 + c)) (st (41 + c)) (f.1 c)) f)) (by omega) (h0.1.k4 hk))
        exact g_vret hC hlk hr hw (rfl) dX2_part_122

theorem bl_i1 (I : mG) (u : Nat) (g : vV) : g2 I u 8 (nI 0) = va_up (g2 I u 8 (nI 0)) (u + 4) (fun j => if j < 0 then g j else I (u + 4) j) := by
  have e : (fun j => if j < 0 then g j else I (u + 4) j) = g2 I u 8 (nI 0) (u + 4) := by
    rw [g2_ne _ _ _ (by omega)]
    funext j
    rw [if_neg (by omega)]
  rw [e, va_up_id]
theorem bl_s1 (X : mG) (a : Nat) (g f : vV) {i : Nat} {v : Int32} (hv : v = g i) : g2 (va_up X a (fun j => if j < i then g j else f j)) a i v = va_up X a (fun j => if j < i + 1 then g j else f j) := by
  rw [g2_up, hv, bl0_step]
theorem bl_i2 (X : mG) (a : Nat) (g f : vV) (h : X a = f) : X = va_up X a (fun j => if j < 0 then g j else f j) := by
  have e : (fun j => if j < 0 then g j else f j) = X a := by
    rw [h]
    funext j
    rw [if_neg (by omega)]
  rw [e, va_up_id]
theorem bl_i3 {dom : List Nat} {K : gK} {R : gR} (I : mG) (u : Nat) (st : vV) (hp : isPass dom K R u) {n i : Nat} (hk : (K n).1 < 20 ∨ i < (K n).2) : va_up (va_up (g2 I u 8 (nI 0)) (u + 4) (fun j => if j < 16 then bl0 st j else I (u + 4) j)) (u + 5) (fun j => if j < 4 then (fun _ => nI 0) j else I (u + 5) j) n i = pFL I u (blF st 0) n i := by
  by_cases e5 : n = u + 5
  · have := hp.k5 hk e5
    subst e5
    rw [va_up_self, pFL_5]
    show (if i < 4 then nI 0 else _) = bl0 st (16 + i)
    rw [if_pos this]
    unfold bl0
    rw [if_neg (by omega)]
  · rw [va_up_ne _ _ e5]
    by_cases e4 : n = u + 4
    · have := hp.k4 hk e4
      subst e4
      rw [va_up_self, pFL_4]
      show (if i < 16 then bl0 st i else _) = bl0 st i
      rw [if_pos this]
    · rw [va_up_ne _ _ e4]
      by_cases e0 : n = u
      · subst e0; rw [g2_s, pFL_u]; rfl
      · rw [g2_ne _ _ _ e0, pFL_ne _ _ _ e0 e4 e5]

set_option maxHeartbeats 4000000 in
theorem tX2_blow (l : Launch) (dom : List Nat) (ad : Nat → Nat) (K : gK) (I : mG) (R : gR) (u : Nat) (st : vV) (h : Nat) (h0 : psR dom K I R u st) (h1 : st 0 = nI h) (h2 : h < 2 ^ 31) : gV l yX2_blow cX2_blow 2 ({ frames := 3, cells := 0, slots := 0, locals := 70 } : Room) [.ref (ad u)] dom ad K I R (fun S => S = (pFL I u (bl st), R)) := by
  refine gV.of (by decide) (Nat.le_of_ble_eq_true rfl) ?_
  intro D dA p e s m below meth cd ls hC hlk hr hK hX hl hw
  have hl : lv_has ls 2 [(0, .ref (ad u))] := hl
  refine lv_aload_n hC.1 hC.2.1 dX2_blow_0 rfl (lv_at hl 0 rfl) ?_
  refine lv_iconst (v := (nI 0)) hC.1 hC.2.1 dX2_blow_1 (by decide) ?_
  refine p_pi hC hK hw h0.1 8 (by decide) rfl q143 rfl rfl rfl rfl rfl dX2_blow_2 (fun H locs hw => ?_)
  refine lv_iconst (v := (nI 0)) hC.1 hC.2.1 dX2_blow_5 (by decide) ?_
  refine lv_istore_n (lv' := [(1, .int (nI 0)), (0, .ref (ad u))]) hC.1 hC.2.1 dX2_blow_6 rfl hl (by decide) rfl (fun ls hl => ?_)
  refine W.loop (fun ls q H locs => lv_has ls 2 [(0, .ref (ad u)), (1, .int (nI q))] ∧ gw D dA (nA dom ad s.heap.size) s.heap dom ad K (va_up (g2 I u 8 (nI 0)) (u + 4) (fun j => if j < q then bl0 st j else I (u + 4) j)) R H locs ∧ (q ≤ 16)) 7 (fun _ => []) (fun q => 16 - q) ?_ 0 ⟨hl.sub' [1, 0] (by rfl), hw.eq (bl_i1 I u (bl0 st)) rfl, by omega⟩
  rintro ls q H locs ⟨hl, hw, hq⟩ ih7
  refine lv_iload_n hC.1 hC.2.1 dX2_blow_7 rfl (lv_at hl 1 rfl) ?_
  refine lv_bipush (v := (nI 16)) hC.1 hC.2.1 dX2_blow_8 (by decide) ?_
  refine k_ge (tgt := 40) hC (by omega) (by omega) dX2_blow_10 (by decide) (fun c10 => ?_) (fun c10 => ?_)
  · have eN : q = 16 := by omega
    subst eN
    refine lv_iconst (v := (nI 0)) hC.1 hC.2.1 dX2_blow_40 (by decide) ?_
    refine lv_istore_n (lv' := [(1, .int (nI 0)), (0, .ref (ad u))]) hC.1 hC.2.1 dX2_blow_41 rfl hl (by decide) rfl (fun ls hl => ?_)
    refine W.loop (fun ls q H locs => lv_has ls 2 [(0, .ref (ad u)), (1, .int (nI q))] ∧ gw D dA (nA dom ad s.heap.size) s.heap dom ad K (va_up (va_up (g2 I u 8 (nI 0)) (u + 4) (fun j => if j < 16 then bl0 st j else I (u + 4) j)) (u + 5) (fun j => if j < q then (fun _ => nI 0) j else I (u + 5) j)) R H locs ∧ (q ≤ 4)) 42 (fun _ => []) (fun q => 4 - q) ?_ 0 ⟨hl.sub' [1, 0] (by rfl), hw.eq (bl_i2 _ _ (fun _ => nI 0) _ (by rw [va_up_ne _ _ (by omega), g2_ne _ _ _ (by omega)])) rfl, by omega⟩
    rintro ls q H locs ⟨hl, hw, hq⟩ ih42
    refine lv_iload_n hC.1 hC.2.1 dX2_blow_42 rfl (lv_at hl 1 rfl) ?_
    refine lv_iconst (v := (nI 4)) hC.1 hC.2.1 dX2_blow_43 (by decide) ?_
    refine k_ge (tgt := 60) hC (by omega) (by omega) dX2_blow_44 (by decide) (fun c44 => ?_) (fun c44 => ?_)
    · have eN : q = 4 := by omega
      subst eN
      refine lv_iconst (v := (nI 0)) hC.1 hC.2.1 dX2_blow_60 (by decide) ?_
      refine lv_istore_n (lv' := [(1, .int (nI 0)), (0, .ref (ad u))]) hC.1 hC.2.1 dX2_blow_61 rfl hl (by decide) rfl (fun ls hl => ?_)
      refine W.loop (fun ls q H locs => lv_has ls 2 [(0, .ref (ad u)), (1, .int (nI q))] ∧ gw D dA (nA dom ad s.heap.size) s.heap dom ad K (pFL I u (blF st q)) R H locs ∧ (q ≤ 16)) 62 (fun _ => []) (fun q => 16 - q) ?_ 0 ⟨hl.sub' [1, 0] (by rfl), hw.toI (fun n i _ hk => bl_i3 I u st h0.1 hk), by omega⟩
      rintro ls q H locs ⟨hl, hw, hq⟩ ih62
      refine lv_iload_n hC.1 hC.2.1 dX2_blow_62 rfl (lv_at hl 1 rfl) ?_
      refine lv_bipush (v := (nI 16)) hC.1 hC.2.1 dX2_blow_63 (by decide) ?_
      refine k_ge (tgt := 79) hC (by omega) (by omega) dX2_blow_65 (by decide) (fun c65 => ?_) (fun c65 => ?_)
      · have eN : q = 16 := by omega
        subst eN
        exact g_vret hC hlk hr hw (by rw [bl_eq]) dX2_blow_79
      · refine lv_aload_n hC.1 hC.2.1 dX2_blow_68 rfl (lv_at hl 0 rfl) ?_
        refine lv_iload_n hC.1 hC.2.1 dX2_blow_69 rfl (lv_at hl 1 rfl) ?_
        refine g_callv (n := 1) (C := RX2) (T := TX2) hC hl.1 hK hX hw (h0.1).1.1 (h0.1).2.1.1 (by decide) rfl (tX2_part l dom ad K I R u q st (blF st q) h (h0) (h1) (h2) (by omega)) (lw_V q771 q773 qs16 q62 q774) rfl rfl (by decide +kernel) ⟨by decide, by decide⟩ rfl rfl (Nat.le_of_ble_eq_true rfl) dX2_blow_70 ⟨Nat.zero_le _, Nat.zero_le _⟩ ?_
        rintro I2 R2 H locs hS2 hw
        replace hw := hw.eq (Prod.mk.inj hS2).1 (Prod.mk.inj hS2).2
        clear hS2
        refine k_iinc (k := 1) (d := 1) (lv' := [(1, .int (nI (q + 1))), (0, .ref (ad u))]) hC dX2_blow_73 hl rfl (by decide) (by decide) rfl (fun ls hl => ?_)
        refine lv_goto (tgt := 62) hC.1 hC.2.1 dX2_blow_76 (by decide) ?_
        exact ih62 ls (q + 1) H locs ⟨hl.sub' [1, 0] (by rfl), hw.eq (rfl) rfl, by omega⟩ (by omega)
    · refine lv_aload_n hC.1 hC.2.1 dX2_blow_47 rfl (lv_at hl 0 rfl) ?_
      refine p_ga hC hK hw h0.1 7 5 h0.1.2.2.2.2.2.2 (by decide) rfl q141 rfl dX2_blow_48 ?_
      refine lv_iload_n hC.1 hC.2.1 dX2_blow_51 rfl (lv_at hl 1 rfl) ?_
      refine lv_iconst (v := (nI 0)) hC.1 hC.2.1 dX2_blow_52 (by decide) ?_
      refine g_sti hC hK hw h0.1.1.2.2.2.2.2 h0.1.2.1.2.2.2.2.2 (by omega) (by omega) dX2_blow_53 (fun H locs hw => ?_)
      refine k_iinc (k := 1) (d := 1) (lv' := [(1, .int (nI (q + 1))), (0, .ref (ad u))]) hC dX2_blow_54 hl rfl (by decide) (by decide) rfl (fun ls hl => ?_)
      refine lv_goto (tgt := 42) hC.1 hC.2.1 dX2_blow_57 (by decide) ?_
      exact ih42 ls (q + 1) H locs ⟨hl.sub' [1, 0] (by rfl), hw.eq (bl_s1 _ _ (fun _ => nI 0) _ rfl) rfl, by omega⟩ (by omega)
  · refine lv_aload_n hC.1 hC.2.1 dX2_blow_13 rfl (lv_at hl 0 rfl) ?_
    refine p_ga hC hK hw h0.1 6 4 h0.1.2.2.2.2.2.1 (by decide) rfl q138 rfl dX2_blow_14 ?_
    refine lv_iload_n hC.1 hC.2.1 dX2_blow_17 rfl (lv_at hl 1 rfl) ?_
    refine lv_iload_n hC.1 hC.2.1 dX2_blow_18 rfl (lv_at hl 1 rfl) ?_
    refine lv_iconst (v := (nI 4)) hC.1 hC.2.1 dX2_blow_19 (by decide) ?_
    refine k_ge (tgt := 32) hC (by omega) (by omega) dX2_blow_20 (by decide) (fun c20 => ?_) (fun c20 => ?_)
    · refine lv_iconst (v := (nI 0)) hC.1 hC.2.1 dX2_blow_32 (by decide) ?_
      refine g_sti hC hK hw h0.1.1.2.2.2.2.1 h0.1.2.1.2.2.2.2.1 (by omega) (by omega) dX2_blow_33 (fun H locs hw => ?_)
      refine k_iinc (k := 1) (d := 1) (lv' := [(1, .int (nI (q + 1))), (0, .ref (ad u))]) hC dX2_blow_34 hl rfl (by decide) (by decide) rfl (fun ls hl => ?_)
      refine lv_goto (tgt := 7) hC.1 hC.2.1 dX2_blow_37 (by decide) ?_
      exact ih7 ls (q + 1) H locs ⟨hl.sub' [1, 0] (by rfl), hw.eq (bl_s1 _ _ (bl0 st) _ (by unfold bl0; rw [if_neg (by omega)])) rfl, by omega⟩ (by omega)
    · refine lv_aload_n hC.1 hC.2.1 dX2_blow_23 rfl (lv_at hl 0 rfl) ?_
      refine p_ga hC hK hw h0.1 2 1 h0.1.2.2.1 (by decide) rfl q127 rfl dX2_blow_24 ?_
      refine lv_iload_n hC.1 hC.2.1 dX2_blow_27 rfl (lv_at hl 1 rfl) ?_
      refine g_ldi hC hK hw h0.1.1.2.1 h0.1.2.1.2.1 (by omega) (by omega) (v := (st (1 + q))) (by rw [va_up_ne _ _ (by omega), g2_ne _ _ _ (by omega)]; exact (h0.2.2.1 q (by omega)).1) dX2_blow_28 ?_
      refine lv_goto (tgt := 33) hC.1 hC.2.1 dX2_blow_29 (by decide) ?_
      refine g_sti hC hK hw h0.1.1.2.2.2.2.1 h0.1.2.1.2.2.2.2.1 (by omega) (by omega) dX2_blow_33 (fun H locs hw => ?_)
      refine k_iinc (k := 1) (d := 1) (lv' := [(1, .int (nI (q + 1))), (0, .ref (ad u))]) hC dX2_blow_34 hl rfl (by decide) (by decide) rfl (fun ls hl => ?_)
      refine lv_goto (tgt := 7) hC.1 hC.2.1 dX2_blow_37 (by decide) ?_
      exact ih7 ls (q + 1) H locs ⟨hl.sub' [1, 0] (by rfl), hw.eq (bl_s1 _ _ (bl0 st) _ (by unfold bl0; rw [if_pos (by omega)])) rfl, by omega⟩ (by omega)

theorem go_i2 (I : mG) (u : Nat) (f : vV × Int32) (b : Int32) : pFL I u f = g2 (pFL I u f) u 5 (oF (I u 5) b 0) := by
  have e : oF (I u 5) b 0 = pFL I u f u 5 := by rw [pFL_u]; rfl
  rw [e, g2_id]
theorem g2_g2 (X : mG) (a i : Nat) (x y : Int32) : g2 (g2 X a i x) a i y = g2 X a i y := by
  rw [g2_eq X a i x, g2_up, upd_uu]
  rfl
theorem g2_at (X : mG) (a i : Nat) (x : Int32) : g2 X a i x a i = x := by
  rw [g2_s, upd_at, if_pos rfl]
theorem r2_up (R : gR) (a i : Nat) (f : Nat → Option Nat) (x : Option Nat) : r2 (va_up R a f) a i x = va_up R a (va_up f i x) := by
  unfold r2
  rw [va_up_self, bx_uu]
theorem oF_t {o b : Int32} {n : Nat} (h : hasB b (nI n) = true) : opC (oF o b n) n = oF o b (n + 1) := by
  show _ = if _ then _ else _
  rw [if_pos h]
theorem oF_f {o b : Int32} {n : Nat} (h : hasB b (nI n) = false) : oF o b n = oF o b (n + 1) := by
  show _ = if _ then _ else _
  rw [if_neg (by rw [h]; decide)]
theorem rF_t {f : Nat → Option Nat} {b : Int32} {n : Nat} (h : hasB b (nI n) = true) : va_up (rF f b n) n none = rF f b (n + 1) := by
  show _ = if _ then _ else _
  rw [if_pos h]
theorem rF_f {f : Nat → Option Nat} {b : Int32} {n : Nat} (h : hasB b (nI n) = false) : rF f b n = rF f b (n + 1) := by
  show _ = if _ then _ else _
  rw [if_neg (by rw [h]; decide)]
/-- the pass behind an hour, the gusts up to n raised -/
noncomputable def goI (I : mG) (u : Nat) (st : vV) (n : Nat) : mG := va_up (g2 (g2 (pFL I u (bl st)) u 5 (oF (I u 5) (hourB st) 16)) u 1 (st 0 + nI 1)) (u + 1) (fun y => rsF (hS0 st) n (1 + y))
theorem goI_i {dom : List Nat} {K : gK} {R : gR} {I : mG} {u : Nat} {st : vV} (h : psR dom K I R u st) {n i : Nat} (hk : (K n).1 < 20 ∨ i < (K n).2) : g2 (g2 (pFL I u (bl st)) u 5 (oF (I u 5) (hourB st) 16)) u 1 (st 0 + nI 1) n i = goI I u st 0 n i := by
  unfold goI
  by_cases e1 : n = u + 1
  · have hi := h.1.k1 hk e1
    subst e1
    rw [va_up_self, g2_ne _ _ _ (by omega), g2_ne _ _ _ (by omega), pFL_ne _ _ _ (by omega) (by omega) (by omega), (h.2.2.1 i hi).1]
    show _ = upd (hbF st (bl st).1 16).1 0 _ (1 + i)
    rw [upd_at, if_neg (by omega), (hbF_char st (bl st).1 16 (Nat.le_refl _)).2 _ (by omega)]
  · rw [va_up_ne _ _ e1]
theorem goI_s (I : mG) (u : Nat) (st : vV) (n : Nat) : g2 (goI I u st n) (u + 1) n (irem (rsF (hS0 st) n (1 + n) + rsF (hS0 st) n (5 + n)) (nI 32)) = goI I u st (n + 1) := by
  unfold goI
  rw [g2_up]
  congr 1
  funext y
  show (if y = n then _ else rsF (hS0 st) n (1 + y)) = upd (rsF (hS0 st) n) (1 + n) _ (1 + y)
  rw [upd_at]
  by_cases e : y = n
  · rw [if_pos e, if_pos (by omega)]
  · rw [if_neg e, if_neg (by omega)]
theorem goI_u (I : mG) (u : Nat) (st : vV) (n : Nat) : goI I u st n u = upd (upd (upd (I u) 8 (bl st).2) 5 (oF (I u 5) (hourB st) 16)) 1 (st 0 + nI 1) := by
  unfold goI
  rw [va_up_ne _ _ (by omega), g2_s, g2_s, pFL_u]
theorem goI_2 {I : mG} {u n : Nat} (st : vV) (q : Nat) (h0 : n ≠ u) (h1 : n ≠ u + 1) (h4 : n ≠ u + 4) (h5 : n ≠ u + 5) : goI I u st q n = I n := by
  unfold goI
  rw [va_up_ne _ _ h1, g2_ne _ _ _ h0, g2_ne _ _ _ h0, pFL_ne _ _ _ h0 h4 h5]
theorem go_end {dom : List Nat} {K : gK} {R : gR} {I : mG} {u : Nat} {st : vV} (h : psR dom K I R u st) : psR dom K (goI I u st 4) (va_up R (u + 3) (rF (R (u + 3)) (hourB st) 16)) u (hourS st) ∧ pOff u I (goI I u st 4) R (va_up R (u + 3) (rF (R (u + 3)) (hourB st) 16)) ∧ goI I u st 4 u 0 = I u 0 := by
  have ho : pOff u I (goI I u st 4) R (va_up R (u + 3) (rF (R (u + 3)) (hourB st) 16)) := ⟨fun n hn => ⟨goI_2 _ _ (by omega) (by omega) (by omega) (by omega), va_up_ne _ _ (by omega)⟩, fun n hn => va_up_ne _ _ hn⟩
  refine ⟨h.hour ho ?_ ?_ ?_ ?_ (va_up_self _ _ _), ho, ?_⟩
  · rw [goI_u, upd_at, if_pos rfl]
  · rw [goI_u, upd_at, if_neg (by decide), upd_at, if_pos rfl]
  · intro y hy
    unfold goI
    rw [va_up_self]
  · intro y hy
    rw [goI_2 _ _ (by omega) (by omega) (by omega) (by omega)]
  · rw [goI_u, upd_at, if_neg (by decide), upd_at, if_neg (by decide), upd_at, if_neg (by decide)]

set_option maxHeartbeats 4000000 in
theorem tX2_goOn (l : Launch) (dom : List Nat) (ad : Nat → Nat) (K : gK) (I : mG) (R : gR) (u : Nat) (st : vV) (h : Nat) (h0 : psR dom K I R u st) (h1 : st 0 = nI h) (h2 : h < 2 ^ 31) : gI l yX2_goOn cX2_goOn 3 .int ({ frames := 4, cells := 0, slots := 0, locals := 91 } : Room) [.ref (ad u)] dom ad K I R (fun r S => r = hourB st ∧ psR dom K S.1 S.2 u (hourS st) ∧ pOff u I S.1 R S.2 ∧ S.1 u 0 = I u 0) := by
  refine gI.of (by decide) (Nat.le_of_ble_eq_true rfl) ?_
  intro D dA p e s m below meth cd ls hC hlk hr hK hX hl hw
  have hl : lv_has ls 3 [(0, .ref (ad u))] := hl
  refine lv_aload_n hC.1 hC.2.1 dX2_goOn_0 rfl (lv_at hl 0 rfl) ?_
  refine g_callv (n := 0) (C := RX2) (T := TX2) hC hl.1 hK hX hw (h0.1).1.1 (h0.1).2.1.1 (by decide) rfl (tX2_blow l dom ad K I R u st h (h0) (h1) (h2)) (lw_V q767 q768 q769 q62 q770) rfl rfl (by decide +kernel) ⟨by decide, by decide⟩ rfl rfl (Nat.le_of_ble_eq_true rfl) dX2_goOn_1 ⟨Nat.zero_le _, Nat.zero_le _⟩ ?_
  rintro I2 R2 H locs hS2 hw
  replace hw := hw.eq (Prod.mk.inj hS2).1 (Prod.mk.inj hS2).2
  clear hS2
  refine lv_iconst (v := (nI 0)) hC.1 hC.2.1 dX2_goOn_4 (by decide) ?_
  refine lv_istore_n (lv' := [(1, .int (nI 0)), (0, .ref (ad u))]) hC.1 hC.2.1 dX2_goOn_5 rfl hl (by decide) rfl (fun ls hl => ?_)
  refine lv_iconst (v := (nI 0)) hC.1 hC.2.1 dX2_goOn_6 (by decide) ?_
  refine lv_istore_n (lv' := [(2, .int (nI 0)), (1, .int (nI 0)), (0, .ref (ad u))]) hC.1 hC.2.1 dX2_goOn_7 rfl hl (by decide) rfl (fun ls hl => ?_)
  refine W.loop (fun ls q H locs => lv_has ls 3 [(0, .ref (ad u)), (1, .int ((hbF st (bl st).1 q).2)), (2, .int (nI q))] ∧ gw D dA (nA dom ad s.heap.size) s.heap dom ad K (pFL I u (bl st)) R H locs ∧ (q ≤ 16)) 8 (fun _ => []) (fun q => 16 - q) ?_ 0 ⟨hl.sub' [2, 1, 0] (by rfl), hw, by omega⟩
  rintro ls q H locs ⟨hl, hw, hq⟩ ih8
  refine lv_iload_n hC.1 hC.2.1 dX2_goOn_8 rfl (lv_at hl 2 rfl) ?_
  refine lv_bipush (v := (nI 16)) hC.1 hC.2.1 dX2_goOn_9 (by decide) ?_
  refine k_ge (tgt := 56) hC (by omega) (by omega) dX2_goOn_11 (by decide) (fun c11 => ?_) (fun c11 => ?_)
  · have eN : q = 16 := by omega
    subst eN
    refine lv_iconst (v := (nI 0)) hC.1 hC.2.1 dX2_goOn_56 (by decide) ?_
    refine lv_istore_n (lv' := [(2, .int (nI 0)), (0, .ref (ad u)), (1, .int ((hbF st (bl st).1 16).2))]) hC.1 hC.2.1 dX2_goOn_57 rfl hl (by decide) rfl (fun ls hl => ?_)
    refine W.loop (fun ls q H locs => lv_has ls 3 [(0, .ref (ad u)), (1, .int (hourB st)), (2, .int (nI q))] ∧ gw D dA (nA dom ad s.heap.size) s.heap dom ad K (g2 (pFL I u (bl st)) u 5 (oF (I u 5) (hourB st) q)) (va_up R (u + 3) (rF (R (u + 3)) (hourB st) q)) H locs ∧ (q ≤ 16)) 58 (fun _ => []) (fun q => 16 - q) ?_ 0 ⟨hl.sub' [1, 2, 0] (by rw [hourB_eq]; rfl), hw.eq (go_i2 I u _ _) (by rw [show rF (R (u + 3)) (hourB st) 0 = R (u + 3) from rfl, va_up_id]), by omega⟩
    rintro ls q H locs ⟨hl, hw, hq⟩ ih58
    have hp3 : isPass dom K (va_up R (u + 3) (rF (R (u + 3)) (hourB st) q)) u := h0.1.off (va_up_ne _ _ (by omega))
    refine lv_iload_n hC.1 hC.2.1 dX2_goOn_58 rfl (lv_at hl 2 rfl) ?_
    refine lv_bipush (v := (nI 16)) hC.1 hC.2.1 dX2_goOn_59 (by decide) ?_
    refine k_ge (tgt := 83) hC (by omega) (by omega) dX2_goOn_61 (by decide) (fun c61 => ?_) (fun c61 => ?_)
    · have eN : q = 16 := by omega
      subst eN
      have hp3 : isPass dom K (va_up R (u + 3) (rF (R (u + 3)) (hourB st) 16)) u := h0.1.off (va_up_ne _ _ (by omega))
      refine lv_aload_n hC.1 hC.2.1 dX2_goOn_83 rfl (lv_at hl 0 rfl) ?_
      refine lv_dup hC.1 hC.2.1 dX2_goOn_84 rfl ?_
      refine p_gi hC hK hw hp3 1 (by decide) rfl q125 rfl (v := (st 0)) (by rw [g2_s, upd_at, if_neg (by decide), pFL_u]; exact h0.2.1) dX2_goOn_85 ?_
      refine lv_iconst (v := (nI 1)) hC.1 hC.2.1 dX2_goOn_88 (by decide) ?_
      refine lv_iadd hC.1 hC.2.1 dX2_goOn_89 ?_
      refine p_pi hC hK hw hp3 1 (by decide) rfl q125 rfl rfl rfl rfl rfl dX2_goOn_90 (fun H locs hw => ?_)
      refine lv_iconst (v := (nI 0)) hC.1 hC.2.1 dX2_goOn_93 (by decide) ?_
      refine lv_istore_n (lv' := [(2, .int (nI 0)), (0, .ref (ad u)), (1, .int (hourB st))]) hC.1 hC.2.1 dX2_goOn_94 rfl hl (by decide) rfl (fun ls hl => ?_)
      refine W.loop (fun ls q H locs => lv_has ls 3 [(0, .ref (ad u)), (1, .int (hourB st)), (2, .int (nI q))] ∧ gw D dA (nA dom ad s.heap.size) s.heap dom ad K (goI I u st q) (va_up R (u + 3) (rF (R (u + 3)) (hourB st) 16)) H locs ∧ (q ≤ 4)) 95 (fun _ => []) (fun q => 4 - q) ?_ 0 ⟨hl.sub' [1, 2, 0] (by rfl), hw.toI (fun n i _ hk => goI_i h0 hk), by omega⟩
      rintro ls q H locs ⟨hl, hw, hq⟩ ih95
      refine lv_iload_n hC.1 hC.2.1 dX2_goOn_95 rfl (lv_at hl 2 rfl) ?_
      refine lv_iconst (v := (nI 4)) hC.1 hC.2.1 dX2_goOn_96 (by decide) ?_
      refine k_ge (tgt := 128) hC (by omega) (by omega) dX2_goOn_97 (by decide) (fun c97 => ?_) (fun c97 => ?_)
      · have eN : q = 4 := by omega
        subst eN
        refine lv_iload_n hC.1 hC.2.1 dX2_goOn_128 rfl (lv_at hl 1 rfl) ?_
        exact g_iret hC hlk hr hw rfl (⟨rfl, go_end h0⟩) dX2_goOn_129
      · refine lv_aload_n hC.1 hC.2.1 dX2_goOn_100 rfl (lv_at hl 0 rfl) ?_
        refine p_ga hC hK hw hp3 2 1 hp3.2.2.1 (by decide) rfl q127 rfl dX2_goOn_101 ?_
        refine lv_iload_n hC.1 hC.2.1 dX2_goOn_104 rfl (lv_at hl 2 rfl) ?_
        refine lv_aload_n hC.1 hC.2.1 dX2_goOn_105 rfl (lv_at hl 0 rfl) ?_
        refine p_ga hC hK hw hp3 2 1 hp3.2.2.1 (by decide) rfl q127 rfl dX2_goOn_106 ?_
        refine lv_iload_n hC.1 hC.2.1 dX2_goOn_109 rfl (lv_at hl 2 rfl) ?_
        refine g_ldi hC hK hw hp3.1.2.1 hp3.2.1.2.1 (by omega) (by omega) (v := (rsF (hS0 st) q (1 + q))) (by unfold goI; rw [va_up_self]) dX2_goOn_110 ?_
        refine lv_aload_n hC.1 hC.2.1 dX2_goOn_111 rfl (lv_at hl 0 rfl) ?_
        refine p_ga hC hK hw hp3 3 2 hp3.2.2.2.1 (by decide) rfl q130 rfl dX2_goOn_112 ?_
        refine lv_iload_n hC.1 hC.2.1 dX2_goOn_115 rfl (lv_at hl 2 rfl) ?_
        refine g_ldi hC hK hw hp3.1.2.2.1 hp3.2.1.2.2.1 (by omega) (by omega) (v := (rsF (hS0 st) q (5 + q))) (by rw [goI_2 _ _ (by omega) (by omega) (by omega) (by omega), (h0.2.2.1 q (by omega)).2, rsF_o _ _ _ (by omega)]; show _ = upd (hbF st (bl st).1 16).1 0 _ (5 + q); rw [upd_at, if_neg (by omega), (hbF_char st (bl st).1 16 (Nat.le_refl _)).2 _ (by omega)]) dX2_goOn_116 ?_
        refine lv_iadd hC.1 hC.2.1 dX2_goOn_117 ?_
        refine lv_bipush (v := (nI 32)) hC.1 hC.2.1 dX2_goOn_118 (by decide) ?_
        refine lv_irem hC.1 hC.2.1 dX2_goOn_120 (by decide) ?_
        refine g_sti hC hK hw hp3.1.2.1 hp3.2.1.2.1 (by omega) (by omega) dX2_goOn_121 (fun H locs hw => ?_)
        refine k_iinc (k := 2) (d := 1) (lv' := [(2, .int (nI (q + 1))), (0, .ref (ad u)), (1, .int (hourB st))]) hC dX2_goOn_122 hl rfl (by decide) (by decide) rfl (fun ls hl => ?_)
        refine lv_goto (tgt := 95) hC.1 hC.2.1 dX2_goOn_125 (by decide) ?_
        exact ih95 ls (q + 1) H locs ⟨hl.sub' [1, 2, 0] (by rfl), hw.eq (goI_s I u st q) rfl, by omega⟩ (by omega)
    · refine lv_iload_n hC.1 hC.2.1 dX2_goOn_64 rfl (lv_at hl 1 rfl) ?_
      refine lv_iload_n hC.1 hC.2.1 dX2_goOn_65 rfl (lv_at hl 2 rfl) ?_
      refine pS_callN (n := 2) hC hl.1 hX (tX0_has l (hourB st) (nI q)) q775 q776 q60 q777 rfl rfl (by decide +kernel) ⟨by decide, by decide⟩ rfl rfl (Nat.le_of_ble_eq_true rfl) dX2_goOn_66 ⟨Nat.zero_le _, Nat.zero_le _⟩ ?_
      refine k_beq (tgt := 77) hC dX2_goOn_69 (by decide) (fun c69 => ?_) (fun c69 => ?_)
      · refine k_iinc (k := 2) (d := 1) (lv' := [(2, .int (nI (q + 1))), (0, .ref (ad u)), (1, .int (hourB st))]) hC dX2_goOn_77 hl rfl (by decide) (by decide) rfl (fun ls hl => ?_)
        refine lv_goto (tgt := 58) hC.1 hC.2.1 dX2_goOn_80 (by decide) ?_
        exact ih58 ls (q + 1) H locs ⟨hl.sub' [1, 2, 0] (by rfl), hw.eq (by rw [oF_f c69]) (by rw [rF_f c69]), by omega⟩ (by omega)
      · refine lv_aload_n hC.1 hC.2.1 dX2_goOn_72 rfl (lv_at hl 0 rfl) ?_
        refine lv_iload_n hC.1 hC.2.1 dX2_goOn_73 rfl (lv_at hl 2 rfl) ?_
        refine g_callv (n := 1) (C := RX2) (T := TX2) hC hl.1 hK hX hw (hp3).1.1 (hp3).2.1.1 (by decide) rfl (tX2_clear l dom ad K (g2 (pFL I u (bl st)) u 5 (oF (I u 5) (hourB st) q)) (va_up R (u + 3) (rF (R (u + 3)) (hourB st) q)) u q (hp3) (by omega)) (lw_V q823 q724 q725 q62 q726) rfl rfl (by decide +kernel) ⟨by decide, by decide⟩ rfl rfl (Nat.le_of_ble_eq_true rfl) dX2_goOn_74 ⟨Nat.zero_le _, Nat.zero_le _⟩ ?_
        rintro I2 R2 H locs hS2 hw
        replace hw := hw.eq (Prod.mk.inj hS2).1 (Prod.mk.inj hS2).2
        clear hS2
        refine k_iinc (k := 2) (d := 1) (lv' := [(2, .int (nI (q + 1))), (0, .ref (ad u)), (1, .int (hourB st))]) hC dX2_goOn_77 hl rfl (by decide) (by decide) rfl (fun ls hl => ?_)
        refine lv_goto (tgt := 58) hC.1 hC.2.1 dX2_goOn_80 (by decide) ?_
        exact ih58 ls (q + 1) H locs ⟨hl.sub' [1, 2, 0] (by rfl), hw.eq (by rw [g2_g2, g2_at, oF_t c69]) (by rw [r2_up, rF_t c69]), by omega⟩ (by omega)
  · refine lv_iload_n hC.1 hC.2.1 dX2_goOn_14 rfl (lv_at hl 1 rfl) ?_
    obtain ⟨g1, g2, g3, g4⟩ := h0.2.2.2 q (by omega)
    have gw := g4.wk
    rcases g4 with ⟨z1, z2⟩ | ⟨w, k, z1, z2, z3, z4, z5, z6, z7, z8⟩
    · refine lv_aload_n hC.1 hC.2.1 dX2_goOn_15 rfl (lv_at hl 0 rfl) ?_
      refine lv_iload_n hC.1 hC.2.1 dX2_goOn_16 rfl (lv_at hl 2 rfl) ?_
      refine g_calli (n := 1) (C := RX2) (T := TX2) hC hl.1 hK hX hw (h0.1).1.1 (h0.1).2.1.1 (by decide) rfl (tX2_has l dom ad K (pFL I u (bl st)) R u q (h0.1) (by omega)) (lw_V q643 q644 q645 q62 q646) rfl rfl (by decide +kernel) ⟨by decide, by decide⟩ rfl rfl (Nat.le_of_ble_eq_true rfl) dX2_goOn_17 ⟨Nat.zero_le _, Nat.zero_le _⟩ ?_
      rintro r2 I2 R2 H locs ⟨hr2, hS2⟩ hw
      rw [hr2]
      replace hw := hw.eq (Prod.mk.inj hS2).1 (Prod.mk.inj hS2).2
      clear hS2
      refine k_beq (tgt := 47) hC dX2_goOn_20 (by decide) (fun c20 => ?_) (fun c20 => ?_)
      · refine lv_iconst (v := (nI 0)) hC.1 hC.2.1 dX2_goOn_47 (by decide) ?_
        refine lv_ior hC.1 hC.2.1 dX2_goOn_48 ?_
        refine lv_istore_n (lv' := [(1, .int (((hbF st (bl st).1 q).2) ||| (nI 0))), (0, .ref (ad u)), (2, .int (nI q))]) hC.1 hC.2.1 dX2_goOn_49 rfl hl (by decide) rfl (fun ls hl => ?_)
        refine k_iinc (k := 2) (d := 1) (lv' := [(2, .int (nI (q + 1))), (1, .int (((hbF st (bl st).1 q).2) ||| (nI 0))), (0, .ref (ad u))]) hC dX2_goOn_50 hl rfl (by decide) (by decide) rfl (fun ls hl => ?_)
        refine lv_goto (tgt := 8) hC.1 hC.2.1 dX2_goOn_53 (by decide) ?_
        exact ih8 ls (q + 1) H locs ⟨hl.sub' [2, 1, 0] (by rw [hbF_step st _ (by omega), if_neg (by unfold bkB; rw [gw, z1]; simp)]; rfl), hw.eq (by rfl) rfl, by omega⟩ (by omega)
      · exact absurd c20 (by rw [z1]; decide)
    · refine lv_aload_n hC.1 hC.2.1 dX2_goOn_15 rfl (lv_at hl 0 rfl) ?_
      refine lv_iload_n hC.1 hC.2.1 dX2_goOn_16 rfl (lv_at hl 2 rfl) ?_
      refine g_calli (n := 1) (C := RX2) (T := TX2) hC hl.1 hK hX hw (h0.1).1.1 (h0.1).2.1.1 (by decide) rfl (tX2_has l dom ad K (pFL I u (bl st)) R u q (h0.1) (by omega)) (lw_V q643 q644 q645 q62 q646) rfl rfl (by decide +kernel) ⟨by decide, by decide⟩ rfl rfl (Nat.le_of_ble_eq_true rfl) dX2_goOn_17 ⟨Nat.zero_le _, Nat.zero_le _⟩ ?_
      rintro r2 I2 R2 H locs ⟨hr2, hS2⟩ hw
      rw [hr2]
      replace hw := hw.eq (Prod.mk.inj hS2).1 (Prod.mk.inj hS2).2
      clear hS2
      refine k_beq (tgt := 47) hC dX2_goOn_20 (by decide) (fun c20 => ?_) (fun c20 => ?_)
      · exact absurd c20 (by rw [z1]; simp)
      · refine lv_aload_n hC.1 hC.2.1 dX2_goOn_23 rfl (lv_at hl 0 rfl) ?_
        refine p_ga hC hK hw h0.1 6 4 h0.1.2.2.2.2.2.1 (by decide) rfl q138 rfl dX2_goOn_24 ?_
        refine lv_iload_n hC.1 hC.2.1 dX2_goOn_27 rfl (lv_at hl 2 rfl) ?_
        refine g_ldi hC hK hw h0.1.1.2.2.2.2.1 h0.1.2.1.2.2.2.2.1 (by omega) (by omega) (v := ((bl st).1 q)) (by rw [pFL_4]) dX2_goOn_28 ?_
        refine lv_aload_n hC.1 hC.2.1 dX2_goOn_29 rfl (lv_at hl 0 rfl) ?_
        refine p_ga hC hK hw h0.1 4 3 h0.1.2.2.2.2.1 (by decide) rfl q133 rfl dX2_goOn_30 ?_
        refine lv_iload_n hC.1 hC.2.1 dX2_goOn_33 rfl (lv_at hl 2 rfl) ?_
        refine g_ldr (t := 2) (v := .ref (ad w)) hC hK hw h0.1.1.2.2.2.1 h0.1.2.1.2.2.2.1 rfl (by omega) (by omega) (by rw [z1]; rfl) dX2_goOn_34 ?_
        refine w_holdsP hC hl.1 hK hX hw z2 z5 ⟨z3, z4⟩ ⟨by decide, by decide⟩ (Nat.le_of_ble_eq_true rfl) dX2_goOn_35 ⟨Nat.zero_le _, Nat.zero_le _⟩ (fun H locs hw => ?_)
        have ew := h0.1.wk z5 z3 z4
        rw [show ((pFL I u (bl st)) w 1) = st (25 + q) from by rw [pFL_ne _ _ _ (by omega) (by omega) (by omega)]; exact z8]
        refine lv_icmp_le (tgt := 47) hC.1 hC.2.1 dX2_goOn_38 (by decide) (fun c38 => ?_) (fun c38 => ?_)
        · refine lv_iconst (v := (nI 0)) hC.1 hC.2.1 dX2_goOn_47 (by decide) ?_
          refine lv_ior hC.1 hC.2.1 dX2_goOn_48 ?_
          refine lv_istore_n (lv' := [(1, .int (((hbF st (bl st).1 q).2) ||| (nI 0))), (0, .ref (ad u)), (2, .int (nI q))]) hC.1 hC.2.1 dX2_goOn_49 rfl hl (by decide) rfl (fun ls hl => ?_)
          refine k_iinc (k := 2) (d := 1) (lv' := [(2, .int (nI (q + 1))), (1, .int (((hbF st (bl st).1 q).2) ||| (nI 0))), (0, .ref (ad u))]) hC dX2_goOn_50 hl rfl (by decide) (by decide) rfl (fun ls hl => ?_)
          refine lv_goto (tgt := 8) hC.1 hC.2.1 dX2_goOn_53 (by decide) ?_
          exact ih8 ls (q + 1) H locs ⟨hl.sub' [2, 1, 0] (by rw [hbF_step st _ (by omega), if_neg (by unfold bkB; rw [Bool.and_eq_true, decide_eq_true_eq]; exact fun z => Int32.not_le.mpr z.2 c38)]; rfl), hw.eq (by rfl) rfl, by omega⟩ (by omega)
        · refine lv_iconst (v := (nI 1)) hC.1 hC.2.1 dX2_goOn_41 (by decide) ?_
          refine lv_iload_n hC.1 hC.2.1 dX2_goOn_42 rfl (lv_at hl 2 rfl) ?_
          refine lv_ishl hC.1 hC.2.1 dX2_goOn_43 ?_
          refine lv_goto (tgt := 48) hC.1 hC.2.1 dX2_goOn_44 (by decide) ?_
          refine lv_ior hC.1 hC.2.1 dX2_goOn_48 ?_
          refine lv_istore_n (lv' := [(1, .int (((hbF st (bl st).1 q).2) ||| ((nI 1) <<< ((nI q) &&& 31)))), (0, .ref (ad u)), (2, .int (nI q))]) hC.1 hC.2.1 dX2_goOn_49 rfl hl (by decide) rfl (fun ls hl => ?_)
          refine k_iinc (k := 2) (d := 1) (lv' := [(2, .int (nI (q + 1))), (1, .int (((hbF st (bl st).1 q).2) ||| ((nI 1) <<< ((nI q) &&& 31)))), (0, .ref (ad u))]) hC dX2_goOn_50 hl rfl (by decide) (by decide) rfl (fun ls hl => ?_)
          refine lv_goto (tgt := 8) hC.1 hC.2.1 dX2_goOn_53 (by decide) ?_
          exact ih8 ls (q + 1) H locs ⟨hl.sub' [2, 1, 0] (by rw [hbF_step st _ (by omega), if_pos (by unfold bkB; rw [gw, z1, Bool.and_eq_true, decide_eq_true_eq]; exact ⟨rfl, Int32.not_le.mp c38⟩)]; rfl), hw.eq (by rfl) rfl, by omega⟩ (by omega)

def bcX (I : mG) (u v : Nat) (b : Int32) : mG := g2 (g2 (g2 I u 0 b) u 1 (I v 1)) u 5 (I v 5)
def bcY (X : mG) (u v : Nat) : mG := va_up X (u + 1) (va_cpy (X (v + 1)) (X (u + 1)) 0 0 4)
def bcZ (X : mG) (u v : Nat) : mG := va_up X (u + 2) (va_cpy (X (v + 2)) (X (u + 2)) 0 0 4)
theorem psR.el {dom : List Nat} {K : gK} {I : mG} {R : gR} {v : Nat} {st : vV} (h : psR dom K I R v st) (i : Nat) (hi : i < 16) (y : Nat) (hy : R (v + 3) i = some y) : ∃ k, (K y).1 = 3 + k ∧ 1 ≤ k ∧ k ≤ 5 := by
  obtain ⟨-, -, -, g⟩ := h.2.2.2 i hi
  rcases g with ⟨g, -⟩ | ⟨w, k, a1, a2, a3, a4, a5, -⟩
  · rw [g] at hy; cases hy
  · rw [a1] at hy; cases hy; exact ⟨k, a5, a3, a4⟩
theorem cpy0 {α : Type} (f g : Nat → α) {n j : Nat} (h : j < n) : va_cpy f g 0 0 n j = f j := by
  unfold va_cpy
  rw [if_pos ⟨Nat.zero_le _, by omega⟩]
  congr 1
  omega
theorem bc_end {dom : List Nat} {K : gK} {I : mG} {R : gR} {u v : Nat} {st : vV} {b : Bool} (hu : isPass dom K R u) (h : psR dom K I R v st) (hne : u ≠ v) : psR dom K (bcZ (bcY (bcX I u v (bI b)) u v) u v) (va_up R (u + 3) (va_cpy (R (v + 3)) (R (u + 3)) 0 0 16)) u st ∧ pOff u I (bcZ (bcY (bcX I u v (bI b)) u v) u v) R (va_up R (u + 3) (va_cpy (R (v + 3)) (R (u + 3)) 0 0 16)) ∧ bcZ (bcY (bcX I u v (bI b)) u v) u v u 0 = bI b := by
  have hap := hu.apart h.1 hne
  have x0 : ∀ n, n ≠ u → bcX I u v (bI b) n = I n := fun n hn => by unfold bcX; rw [g2_ne _ _ _ hn, g2_ne _ _ _ hn, g2_ne _ _ _ hn]
  have z0 : ∀ n, n ≠ u → n ≠ u + 1 → n ≠ u + 2 → bcZ (bcY (bcX I u v (bI b)) u v) u v n = I n := fun n h1 h2 h3 => by unfold bcZ bcY; rw [va_up_ne _ _ h3, va_up_ne _ _ h2, x0 n h1]
  have zu : bcZ (bcY (bcX I u v (bI b)) u v) u v u = upd (upd (upd (I u) 0 (bI b)) 1 (I v 1)) 5 (I v 5) := by unfold bcZ bcY bcX; rw [va_up_ne _ _ (by omega), va_up_ne _ _ (by omega), g2_s, g2_s, g2_s]
  have z1 : ∀ y, y < 4 → bcZ (bcY (bcX I u v (bI b)) u v) u v (u + 1) y = I (v + 1) y := fun y hy => by unfold bcZ bcY; rw [va_up_ne _ _ (by omega), va_up_self, cpy0 _ _ hy, x0 _ (by omega)]
  have z2 : ∀ y, y < 4 → bcZ (bcY (bcX I u v (bI b)) u v) u v (u + 2) y = I (v + 2) y := fun y hy => by unfold bcZ; rw [va_up_self, cpy0 _ _ hy]; unfold bcY; rw [va_up_ne _ _ (by omega), x0 _ (by omega)]
  refine ⟨⟨hu.off (va_up_ne _ _ (by omega)), ?_, fun y hy => ?_, fun c hc => ?_⟩, ⟨fun n hn => ⟨z0 n (by omega) (by omega) (by omega), va_up_ne _ _ (by omega)⟩, fun n hn => va_up_ne _ _ hn⟩, ?_⟩
  · rw [zu, upd_at, if_neg (by decide), upd_at, if_pos rfl]; exact h.2.1
  · rw [z1 y hy, z2 y hy]; exact h.2.2.1 y hy
  · obtain ⟨g1, g2, g3, g4⟩ := h.2.2.2 c hc
    refine ⟨by rw [zu, upd_at, if_pos rfl]; exact g1, g2, g3, ?_⟩
    rw [va_up_self, cpy0 _ _ hc]
    rcases g4 with g4 | ⟨w, k, a1, a2, a3, a4, a5, a6, a7, a8⟩
    · exact Or.inl g4
    · have hw := hu.wk a5 a3 a4
      have e := z0 w (by omega) (by omega) (by omega)
      exact Or.inr ⟨w, k, a1, a2, a3, a4, a5, a6, by rw [e]; exact a7, by rw [e]; exact a8⟩
  · rw [zu, upd_at, if_neg (by decide), upd_at, if_neg (by decide), upd_at, if_pos rfl]

set_option maxHeartbeats 4000000 in
theorem tX2_become (l : Launch) (dom : List Nat) (ad : Nat → Nat) (K : gK) (I : mG) (R : gR) (u : Nat) (v : Nat) (st : vV) (b : Bool) (h0 : isPass dom K R u) (h1 : psR dom K I R v st) (h2 : u ≠ v) (h3 : I v 0 = bI b) : gV l yX2_become cX2_become 2 ({ frames := 1, cells := 0, slots := 0, locals := 60 } : Room) [.ref (ad u), .ref (ad v)] dom ad K I R (fun S => psR dom K S.1 S.2 u st ∧ pOff u I S.1 R S.2 ∧ S.1 u 0 = I v 0) := by
  refine gV.of (by decide) (Nat.le_of_ble_eq_true rfl) ?_
  intro D dA p e s m below meth cd ls hC hlk hr hK hX hl hw
  have hl : lv_has ls 2 [(0, .ref (ad u)), (1, .ref (ad v))] := hl
  refine lv_aload_n hC.1 hC.2.1 dX2_become_0 rfl (lv_at hl 0 rfl) ?_
  refine lv_aload_n hC.1 hC.2.1 dX2_become_1 rfl (lv_at hl 1 rfl) ?_
  refine p_gi hC hK hw h1.1 0 (by decide) rfl q122 rfl (v := (bI b)) (h3) dX2_become_2 ?_
  refine p_pi hC hK hw h0 0 (by decide) rfl q122 rfl rfl rfl (bI_nar _) (bI_fit _) dX2_become_5 (fun H locs hw => ?_)
  refine lv_aload_n hC.1 hC.2.1 dX2_become_8 rfl (lv_at hl 0 rfl) ?_
  refine lv_aload_n hC.1 hC.2.1 dX2_become_9 rfl (lv_at hl 1 rfl) ?_
  refine p_gi hC hK hw h1.1 1 (by decide) rfl q125 rfl (v := (I v 1)) (by rw [g2_ne _ _ _ (Ne.symm h2)]) dX2_become_10 ?_
  refine p_pi hC hK hw h0 1 (by decide) rfl q125 rfl rfl rfl rfl rfl dX2_become_13 (fun H locs hw => ?_)
  refine lv_aload_n hC.1 hC.2.1 dX2_become_16 rfl (lv_at hl 0 rfl) ?_
  refine lv_aload_n hC.1 hC.2.1 dX2_become_17 rfl (lv_at hl 1 rfl) ?_
  refine p_gi hC hK hw h1.1 5 (by decide) rfl q136 rfl (v := (I v 5)) (by rw [g2_ne _ _ _ (Ne.symm h2), g2_ne _ _ _ (Ne.symm h2)]) dX2_become_18 ?_
  refine p_pi hC hK hw h0 5 (by decide) rfl q136 rfl rfl rfl rfl rfl dX2_become_21 (fun H locs hw => ?_)
  refine lv_aload_n hC.1 hC.2.1 dX2_become_24 rfl (lv_at hl 1 rfl) ?_
  refine p_ga hC hK hw h1.1 2 1 h1.1.2.2.1 (by decide) rfl q127 rfl dX2_become_25 ?_
  refine lv_iconst (v := (nI 0)) hC.1 hC.2.1 dX2_become_28 (by decide) ?_
  refine lv_aload_n hC.1 hC.2.1 dX2_become_29 rfl (lv_at hl 0 rfl) ?_
  refine p_ga hC hK hw h0 2 1 h0.2.2.1 (by decide) rfl q127 rfl dX2_become_30 ?_
  refine lv_iconst (v := (nI 0)) hC.1 hC.2.1 dX2_become_33 (by decide) ?_
  refine lv_iconst (v := (nI 4)) hC.1 hC.2.1 dX2_become_34 (by decide) ?_
  refine g_copyi (t := 0) hC hK hw hl.1 h1.1.1.2.1 h0.1.2.1 h1.1.2.1.2.1 h0.2.1.2.1 (by decide) rfl rfl q693 (by decide) (by decide) (by decide) (by decide) (by decide) (fun i hi => rfl) (by decide) (by decide) dX2_become_35 (fun H locs hw => ?_)
  refine lv_aload_n hC.1 hC.2.1 dX2_become_38 rfl (lv_at hl 1 rfl) ?_
  refine p_ga hC hK hw h1.1 3 2 h1.1.2.2.2.1 (by decide) rfl q130 rfl dX2_become_39 ?_
  refine lv_iconst (v := (nI 0)) hC.1 hC.2.1 dX2_become_42 (by decide) ?_
  refine lv_aload_n hC.1 hC.2.1 dX2_become_43 rfl (lv_at hl 0 rfl) ?_
  refine p_ga hC hK hw h0 3 2 h0.2.2.2.1 (by decide) rfl q130 rfl dX2_become_44 ?_
  refine lv_iconst (v := (nI 0)) hC.1 hC.2.1 dX2_become_47 (by decide) ?_
  refine lv_iconst (v := (nI 4)) hC.1 hC.2.1 dX2_become_48 (by decide) ?_
  refine g_copyi (t := 0) hC hK hw hl.1 h1.1.1.2.2.1 h0.1.2.2.1 h1.1.2.1.2.2.1 h0.2.1.2.2.1 (by decide) rfl rfl q693 (by decide) (by decide) (by decide) (by decide) (by decide) (fun i hi => rfl) (by decide) (by decide) dX2_become_49 (fun H locs hw => ?_)
  refine lv_aload_n hC.1 hC.2.1 dX2_become_52 rfl (lv_at hl 1 rfl) ?_
  refine p_ga hC hK hw h1.1 4 3 h1.1.2.2.2.2.1 (by decide) rfl q133 rfl dX2_become_53 ?_
  refine lv_iconst (v := (nI 0)) hC.1 hC.2.1 dX2_become_56 (by decide) ?_
  refine lv_aload_n hC.1 hC.2.1 dX2_become_57 rfl (lv_at hl 0 rfl) ?_
  refine p_ga hC hK hw h0 4 3 h0.2.2.2.2.1 (by decide) rfl q133 rfl dX2_become_58 ?_
  refine lv_iconst (v := (nI 0)) hC.1 hC.2.1 dX2_become_61 (by decide) ?_
  refine lv_bipush (v := (nI 16)) hC.1 hC.2.1 dX2_become_62 (by decide) ?_
  refine g_copyr hC hK hw hX hl.1 h1.1.1.2.2.2.1 h0.1.2.2.2.1 h1.1.2.1.2.2.2.1 h0.2.1.2.2.2.1 q693 (by decide) (by decide) (by decide) (h1.el) (by decide) (by decide) dX2_become_64 (fun H locs hw => ?_)
  exact g_vret hC hlk hr hw (by have q := bc_end (b := b) h0 h1 h2; rw [h3]; exact q) dX2_become_67
