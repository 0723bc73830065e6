/-! WindCarverModel: contracts, third part: queries (by gen/m3.py) -/
set_option maxHeartbeats 4000000 in
theorem tX6_feltWith (l : Launch) (G : mG) (cell : Nat) (a : Nat) (b : Int32) (h0 : cell < 16) (h1 : a < 16) (h2 : b = -1 ∨ ∃ k, k < 16 ∧ b = nI k) : mI l yX6_feltWith cX6_feltWith 5 .int ({ frames := 5, cells := 0, slots := 0, locals := 117 } : Room) [.int (nI cell), .int (nI a), .int b] G (fun r G' => r = ((bl (fwS (G 6) a b)).1 cell) ∧ G' = fwG G a b) := by
  refine mI.of (by decide) rfl (fun _ => Nat.le_of_ble_eq_true rfl) ?_
  intro D dA ad p e s m below meth cd ls hC hlk hr hK hl hw
  have hl : lv_has ls 5 [(0, .ref (ad 0)), (1, .int (nI cell)), (2, .int (nI a)), (3, .int b)] := hl
  replace hw := hw.eq (scs_in G)
  refine lv_aload_n hC.1 hC.2.1 dX6_feltWith_0 rfl (lv_at hl 0 rfl) ?_
  refine m_callv (n := 0) hC hl.1 hK hw (tX6_putAside l (scs G (G 19, G 0 19, G 0 20, G 24) (G 6))  ) (lw_V q1377 q1379 qs47 q66 q1380) rfl rfl (by decide +kernel) ⟨by decide, by decide⟩ rfl rfl (Nat.le_of_ble_eq_true rfl) dX6_feltWith_1 ⟨Nat.zero_le _, Nat.zero_le _⟩ ?_
  rintro G2 H locs hG2 hw
  replace hw := hw.eq hG2
  clear hG2
  replace hw := hw.eq (aside_scs _ _ _ _ _ _)
  refine lv_iload_n hC.1 hC.2.1 dX6_feltWith_4 rfl (lv_at hl 2 rfl) ?_
  refine lv_if_lt (tgt := 18) hC.1 hC.2.1 dX6_feltWith_5 (by decide) (fun c5 => ?_) (fun c5 => ?_)
  · exact absurd c5 (nI_pos (by omega))
  · refine lv_aload_n hC.1 hC.2.1 dX6_feltWith_8 rfl (lv_at hl 0 rfl) ?_
    refine m_ga hC hK hw 5 (by decide) rfl q1121 rfl dX6_feltWith_9 ?_
    refine lv_bipush (v := (nI 9)) hC.1 hC.2.1 dX6_feltWith_12 (by decide) ?_
    refine lv_iload_n hC.1 hC.2.1 dX6_feltWith_14 rfl (lv_at hl 2 rfl) ?_
    refine k_add hC dX6_feltWith_15 ?_
    refine lv_iconst (v := (nI 1)) hC.1 hC.2.1 dX6_feltWith_16 (by decide) ?_
    refine m_st hC hK hw 6 (by decide) (by decide) (by decide) (by simp only [mLen]; omega) (by omega) dX6_feltWith_17 (fun H locs hw => ?_)
    replace hw := hw.eq (g2_scs6 _ _ _ _ _)
    refine lv_iload_n hC.1 hC.2.1 dX6_feltWith_18 rfl (lv_at hl 3 rfl) ?_
    refine lv_if_lt (tgt := 32) hC.1 hC.2.1 dX6_feltWith_19 (by decide) (fun c19 => ?_) (fun c19 => ?_)
    · refine lv_aload_n hC.1 hC.2.1 dX6_feltWith_32 rfl (lv_at hl 0 rfl) ?_
      refine lv_iload_n hC.1 hC.2.1 dX6_feltWith_33 rfl (lv_at hl 1 rfl) ?_
      refine m_calli (n := 1) hC hl.1 hK hw (tX6_feltNow l (scs G (G 19, G 0 19, G 0 20, (G 6)) (upd (G 6) (9 + a) (nI 1))) cell (by omega)) (lw_V q1359 q1361 qs45 q66 q1362) rfl rfl (by decide +kernel) ⟨by decide, by decide⟩ rfl rfl (Nat.le_of_ble_eq_true rfl) dX6_feltWith_34 ⟨Nat.zero_le _, Nat.zero_le _⟩ ?_
      rintro r2 G2 H locs ⟨hr2, hG2⟩ hw
      replace hw := hw.eq hG2
      replace hr2 : r2 = ((bl ((upd (G 6) (9 + a) (nI 1)))).1 cell) := hr2
      rw [hr2]
      clear hr2 hG2
      replace hw := hw.eq (blow_scs _ _ _ _ _ _)
      refine lv_istore (lv' := [(4, .int ((bl ((upd (G 6) (9 + a) (nI 1)))).1 cell)), (0, .ref (ad 0)), (1, .int (nI cell)), (2, .int (nI a)), (3, .int b)]) hC.1 hC.2.1 dX6_feltWith_37 hl (by decide) rfl (fun ls hl => ?_)
      refine lv_aload_n hC.1 hC.2.1 dX6_feltWith_39 rfl (lv_at hl 1 rfl) ?_
      refine m_callv (n := 0) hC hl.1 hK hw (tX6_takeBack l (scs G ((bl (upd (G 6) (9 + a) (nI 1))).1, (bl (upd (G 6) (9 + a) (nI 1))).2, G 0 20, (G 6)) (upd (G 6) (9 + a) (nI 1)))  ) (lw_V q1381 q1383 qs48 q66 q1384) rfl rfl (by decide +kernel) ⟨by decide, by decide⟩ rfl rfl (Nat.le_of_ble_eq_true rfl) dX6_feltWith_40 ⟨Nat.zero_le _, Nat.zero_le _⟩ ?_
      rintro G2 H locs hG2 hw
      replace hw := hw.eq hG2
      clear hG2
      replace hw := hw.eq (back_scs _ _ _ _ _ _)
      refine lv_iload hC.1 hC.2.1 dX6_feltWith_43 (lv_at hl 0 rfl) ?_
      exact m_iret hC hlk hr hw rfl (⟨by unfold fwS; rw [if_pos c19], by unfold fwG fwS; rw [if_pos c19]⟩) dX6_feltWith_45
    · obtain ⟨k, hk, rfl⟩ : ∃ k, k < 16 ∧ b = nI k := by rcases h2 with rfl | h2; (exact absurd (by decide) c19); exact h2
      refine lv_aload_n hC.1 hC.2.1 dX6_feltWith_22 rfl (lv_at hl 0 rfl) ?_
      refine m_ga hC hK hw 5 (by decide) rfl q1121 rfl dX6_feltWith_23 ?_
      refine lv_bipush (v := (nI 9)) hC.1 hC.2.1 dX6_feltWith_26 (by decide) ?_
      refine lv_iload_n hC.1 hC.2.1 dX6_feltWith_28 rfl (lv_at hl 3 rfl) ?_
      refine k_add hC dX6_feltWith_29 ?_
      refine lv_iconst (v := (nI 1)) hC.1 hC.2.1 dX6_feltWith_30 (by decide) ?_
      refine m_st hC hK hw 6 (by decide) (by decide) (by decide) (by simp only [mLen]; omega) (by omega) dX6_feltWith_31 (fun H locs hw => ?_)
      replace hw := hw.eq (g2_scs6 _ _ _ _ _)
      refine lv_aload_n hC.1 hC.2.1 dX6_feltWith_32 rfl (lv_at hl 0 rfl) ?_
      refine lv_iload_n hC.1 hC.2.1 dX6_feltWith_33 rfl (lv_at hl 1 rfl) ?_
      refine m_calli (n := 1) hC hl.1 hK hw (tX6_feltNow l (scs G (G 19, G 0 19, G 0 20, (G 6)) (upd (upd (G 6) (9 + a) (nI 1)) (9 + k) (nI 1))) cell (by omega)) (lw_V q1359 q1361 qs45 q66 q1362) rfl rfl (by decide +kernel) ⟨by decide, by decide⟩ rfl rfl (Nat.le_of_ble_eq_true rfl) dX6_feltWith_34 ⟨Nat.zero_le _, Nat.zero_le _⟩ ?_
      rintro r2 G2 H locs ⟨hr2, hG2⟩ hw
      replace hw := hw.eq hG2
      replace hr2 : r2 = ((bl ((upd (upd (G 6) (9 + a) (nI 1)) (9 + k) (nI 1)))).1 cell) := hr2
      rw [hr2]
      clear hr2 hG2
      replace hw := hw.eq (blow_scs _ _ _ _ _ _)
      refine lv_istore (lv' := [(4, .int ((bl ((upd (upd (G 6) (9 + a) (nI 1)) (9 + k) (nI 1)))).1 cell)), (0, .ref (ad 0)), (1, .int (nI cell)), (2, .int (nI a)), (3, .int (nI k))]) hC.1 hC.2.1 dX6_feltWith_37 hl (by decide) rfl (fun ls hl => ?_)
      refine lv_aload_n hC.1 hC.2.1 dX6_feltWith_39 rfl (lv_at hl 1 rfl) ?_
      refine m_callv (n := 0) hC hl.1 hK hw (tX6_takeBack l (scs G ((bl (upd (upd (G 6) (9 + a) (nI 1)) (9 + k) (nI 1))).1, (bl (upd (upd (G 6) (9 + a) (nI 1)) (9 + k) (nI 1))).2, G 0 20, (G 6)) (upd (upd (G 6) (9 + a) (nI 1)) (9 + k) (nI 1)))  ) (lw_V q1381 q1383 qs48 q66 q1384) rfl rfl (by decide +kernel) ⟨by decide, by decide⟩ rfl rfl (Nat.le_of_ble_eq_true rfl) dX6_feltWith_40 ⟨Nat.zero_le _, Nat.zero_le _⟩ ?_
      rintro G2 H locs hG2 hw
      replace hw := hw.eq hG2
      clear hG2
      replace hw := hw.eq (back_scs _ _ _ _ _ _)
      refine lv_iload hC.1 hC.2.1 dX6_feltWith_43 (lv_at hl 0 rfl) ?_
      exact m_iret hC hlk hr hw rfl (⟨by rw [fwS_b (by omega)], by unfold fwG; rw [fwS_b (by omega)]⟩) dX6_feltWith_45

noncomputable def mX6_lacks (G : mG) (line : Nat) (i : Int32) (n : Nat) : Int32 × mG := if 0 ≤ (G 2 line) then if (inB i 0 ((G 2 line) - (nI n))) = false then (((-1000010 : Int32) - (nI 2)), g2 G 0 3 (nI 2)) else ((nI 0), G) else (((-1000010 : Int32) - (nI 1)), g2 G 0 3 (nI 1))
set_option maxHeartbeats 4000000 in
theorem tX6_lacks (l : Launch) (G : mG) (line : Nat) (i : Int32) (n : Nat) (h0 : line < 8) : mI l yX6_lacks cX6_lacks 4 .int ({ frames := 1, cells := 0, slots := 0, locals := 25 } : Room) [.int (nI line), .int i, .int (nI n)] G (fun r G' => r = ((mX6_lacks G line i n).1) ∧ G' = (mX6_lacks G line i n).2) := by
  refine mI.of (by decide) rfl (fun _ => Nat.le_of_ble_eq_true rfl) ?_
  intro D dA ad p e s m below meth cd ls hC hlk hr hK hl hw
  have hl : lv_has ls 4 [(0, .ref (ad 0)), (1, .int (nI line)), (2, .int i), (3, .int (nI n))] := hl
  refine lv_aload_n hC.1 hC.2.1 dX6_lacks_0 rfl (lv_at hl 0 rfl) ?_
  refine m_ga hC hK hw 1 (by decide) rfl q1117 rfl dX6_lacks_1 ?_
  refine lv_iload_n hC.1 hC.2.1 dX6_lacks_4 rfl (lv_at hl 1 rfl) ?_
  refine m_ld hC hK hw 2 (by decide) (by decide) (by decide) (by simp only [mLen]; omega) (by omega) (v := (G 2 line)) (rfl) dX6_lacks_5 ?_
  refine lv_if_ge (tgt := 15) hC.1 hC.2.1 dX6_lacks_6 (by decide) (fun c6 => ?_) (fun c6 => ?_)
  · refine lv_iload_n hC.1 hC.2.1 dX6_lacks_15 rfl (lv_at hl 2 rfl) ?_
    refine lv_i2l hC.1 hC.2.1 dX6_lacks_16 rfl ?_
    refine lv_lconst (v := 0) hC.1 hC.2.1 dX6_lacks_17 (by decide) ?_
    refine lv_aload_n hC.1 hC.2.1 dX6_lacks_18 rfl (lv_at hl 0 rfl) ?_
    refine m_ga hC hK hw 1 (by decide) rfl q1117 rfl dX6_lacks_19 ?_
    refine lv_iload_n hC.1 hC.2.1 dX6_lacks_22 rfl (lv_at hl 1 rfl) ?_
    refine m_ld hC hK hw 2 (by decide) (by decide) (by decide) (by simp only [mLen]; omega) (by omega) (v := (G 2 line)) (rfl) dX6_lacks_23 ?_
    refine lv_iload_n hC.1 hC.2.1 dX6_lacks_24 rfl (lv_at hl 3 rfl) ?_
    refine lv_isub hC.1 hC.2.1 dX6_lacks_25 ?_
    refine lv_i2l hC.1 hC.2.1 dX6_lacks_26 rfl ?_
    refine pS_call (n := 3) hC hl.1 (tX6_inI l i 0 ((G 2 line) - (nI n))) (lw_S q1210 q1211 q66 q1212) rfl rfl (by decide +kernel) ⟨by decide, by decide⟩ rfl rfl (Nat.le_of_ble_eq_true rfl) dX6_lacks_27 ⟨Nat.zero_le _, Nat.zero_le _⟩ ?_
    refine k_beq (tgt := 37) hC dX6_lacks_30 (by decide) (fun c30 => ?_) (fun c30 => ?_)
    · refine lv_aload_n hC.1 hC.2.1 dX6_lacks_37 rfl (lv_at hl 0 rfl) ?_
      refine lv_iconst (v := (nI 2)) hC.1 hC.2.1 dX6_lacks_38 (by decide) ?_
      refine m_calli (n := 1) hC hl.1 hK hw (tX6_find l G (nI 2) ) (lw_V q1215 q1217 qs28 q66 q1218) rfl rfl (by decide +kernel) ⟨by decide, by decide⟩ rfl rfl (Nat.le_of_ble_eq_true rfl) dX6_lacks_39 ⟨Nat.zero_le _, Nat.zero_le _⟩ ?_
      rintro r2 G2 H locs ⟨hr2, hG2⟩ hw
      replace hw := hw.eq hG2
      rw [hr2]
      clear hr2 hG2
      exact m_iret hC hlk hr hw rfl (by unfold mX6_lacks; rw [if_pos c6]; rw [if_pos c30]; exact ⟨by (dsimp only; try rfl), by (dsimp only; try rfl)⟩) dX6_lacks_42
    · refine lv_iconst (v := (nI 0)) hC.1 hC.2.1 dX6_lacks_33 (by decide) ?_
      refine lv_goto (tgt := 42) hC.1 hC.2.1 dX6_lacks_34 (by decide) ?_
      exact m_iret hC hlk hr hw rfl (by unfold mX6_lacks; rw [if_pos c6]; rw [if_neg (b_nf c30)]; exact ⟨by (dsimp only; try rfl), by (dsimp only; try rfl)⟩) dX6_lacks_42
  · refine lv_aload_n hC.1 hC.2.1 dX6_lacks_9 rfl (lv_at hl 0 rfl) ?_
    refine lv_iconst (v := (nI 1)) hC.1 hC.2.1 dX6_lacks_10 (by decide) ?_
    refine m_calli (n := 1) hC hl.1 hK hw (tX6_find l G (nI 1) ) (lw_V q1215 q1217 qs28 q66 q1218) rfl rfl (by decide +kernel) ⟨by decide, by decide⟩ rfl rfl (Nat.le_of_ble_eq_true rfl) dX6_lacks_11 ⟨Nat.zero_le _, Nat.zero_le _⟩ ?_
    rintro r2 G2 H locs ⟨hr2, hG2⟩ hw
    replace hw := hw.eq hG2
    rw [hr2]
    clear hr2 hG2
    exact m_iret hC hlk hr hw rfl (by unfold mX6_lacks; rw [if_neg c6]; exact ⟨by (dsimp only; try rfl), by (dsimp only; try rfl)⟩) dX6_lacks_14

theorem lacks_6 (G : mG) (line : Nat) (i : Int32) (n : Nat) : (mX6_lacks G line i n).2 6 = G 6 := by
  unfold mX6_lacks
  repeat' split
  all_goals rfl
theorem lacks_ok {G : mG} {line n : Nat} {i : Int32} (hs : szOk G) (hl : line < 8) (hn : n ≤ 40) (c : 0 ≤ (mX6_lacks G line i n).1) : (mX6_lacks G line i n).2 = G ∧ (mX6_lacks G line i n).1 = nI 0 ∧ ∃ j k, i = nI j ∧ G 2 line = nI k ∧ j + n ≤ k ∧ k ≤ 40 := by
  unfold mX6_lacks at c ⊢
  by_cases h1 : 0 ≤ G 2 line
  · rw [if_pos h1] at c ⊢
    obtain ⟨k, hk, ek⟩ := sz_pos (hs line hl) h1
    cases h2 : inB i 0 (G 2 line - nI n) with
    | false =>
      rw [h2, if_pos rfl] at c
      exact absurd c (show ¬ (0 : Int32) ≤ -1000010 - nI 2 by decide)
    | true =>
      rw [if_neg (by decide)]
      refine ⟨rfl, rfl, ?_⟩
      rw [ek] at h2
      rcases Nat.lt_or_ge k n with h3 | h3
      · exfalso
        simp only [inB, Bool.and_eq_true, decide_eq_true_eq] at h2
        exact absurd (Int32.le_trans h2.1 h2.2) (by rw [Int32.not_le]; exact pk_sneg (by omega) h3)
      · rw [pk_sub h3] at h2
        obtain ⟨j, hj, rfl⟩ := inB_nat (by omega) h2
        exact ⟨j, k, rfl, ek, by omega, hk⟩
  · rw [if_neg h1] at c
    exact absurd c (show ¬ (0 : Int32) ≤ -1000010 - nI 1 by decide)

noncomputable def mX6_most (G : mG) (y : Int32) (what : Int32) : Int32 × mG := if ¬ (G 0 4) = 0 then if (inB y 0 (nI 3)) = false then ((-1000001 : Int32), G) else if (inB what 0 (nI 1)) = true then (mostV (G 6) (ix y) what, G) else ((-1000001 : Int32), G) else ((-1000002 : Int32), G)
set_option maxHeartbeats 4000000 in
theorem tX6_most (l : Launch) (G : mG) (y : Int32) (what : Int32) (h0 : kdOk (G 6)) : mI l yX6_most cX6_most 7 .int ({ frames := 4, cells := 0, slots := 0, locals := 96 } : Room) [.int y, .int what] G (fun r G' => r = ((mX6_most G y what).1) ∧ ∃ X, G' = scs (mX6_most G y what).2 X (G 6)) := by
  refine mI.of (by decide) rfl (fun _ => Nat.le_of_ble_eq_true rfl) ?_
  intro D dA ad p e s m below meth cd ls hC hlk hr hK hl hw
  have hl : lv_has ls 7 [(0, .ref (ad 0)), (1, .int y), (2, .int what)] := hl
  refine lv_aload_n hC.1 hC.2.1 dX6_most_0 rfl (lv_at hl 0 rfl) ?_
  refine m_gi hC hK hw 4 (by decide) rfl q1120 rfl (v := (G 0 4)) (rfl) dX6_most_1 ?_
  refine lv_if_ne (tgt := 10) hC.1 hC.2.1 dX6_most_4 (by decide) (fun c4 => ?_) (fun c4 => ?_)
  · refine lv_iload_n hC.1 hC.2.1 dX6_most_10 rfl (lv_at hl 1 rfl) ?_
    refine pS_call (n := 1) hC hl.1 (tX6_isRowOfPass l y ) (lw_S q1329 q1330 q66 q1331) rfl rfl (by decide +kernel) ⟨by decide, by decide⟩ rfl rfl (Nat.le_of_ble_eq_true rfl) dX6_most_11 ⟨Nat.zero_le _, Nat.zero_le _⟩ ?_
    refine k_beq (tgt := 27) hC dX6_most_14 (by decide) (fun c14 => ?_) (fun c14 => ?_)
    · refine lv_ldc hC.1 hC.2.1 hC.2.2.2.1 (hC.2.2.2.2 _ q1214) dX6_most_27 ?_
      exact m_iret hC hlk hr hw rfl (⟨by unfold mX6_most; rw [if_pos c4]; rw [if_pos c14]; try (first | rfl | (dsimp only; try rfl)), by unfold mX6_most; rw [if_pos c4]; rw [if_pos c14]; dsimp only; exact ⟨_, scs_in _⟩⟩) dX6_most_29
    · refine lv_iload_n hC.1 hC.2.1 dX6_most_17 rfl (lv_at hl 2 rfl) ?_
      refine lv_i2l hC.1 hC.2.1 dX6_most_18 rfl ?_
      refine lv_lconst (v := 0) hC.1 hC.2.1 dX6_most_19 (by decide) ?_
      refine lv_lconst (v := 1) hC.1 hC.2.1 dX6_most_20 (by decide) ?_
      refine pS_call (n := 3) hC hl.1 (tX6_inI l what 0 (nI 1)) (lw_S q1210 q1211 q66 q1212) rfl rfl (by decide +kernel) ⟨by decide, by decide⟩ rfl rfl (Nat.le_of_ble_eq_true rfl) dX6_most_21 ⟨Nat.zero_le _, Nat.zero_le _⟩ ?_
      refine k_bne (tgt := 30) hC dX6_most_24 (by decide) (fun c24 => ?_) (fun c24 => ?_)
      · obtain ⟨q, hq, rfl⟩ := inB_nat (n := 3) (by decide) c14
        replace hw := hw.eq (scs_in G)
        refine lv_ldc hC.1 hC.2.1 hC.2.2.2.1 (hC.2.2.2.2 _ q1363) dX6_most_30 ?_
        refine lv_istore_n (lv' := [(3, .int (-1000000 : Int32)), (0, .ref (ad 0)), (1, .int (nI q)), (2, .int what)]) hC.1 hC.2.1 dX6_most_32 rfl hl (by decide) rfl (fun ls hl => ?_)
        refine lv_iconst (v := (-1)) hC.1 hC.2.1 dX6_most_33 (by decide) ?_
        refine lv_istore (lv' := [(4, .int (-1 : Int32)), (3, .int (-1000000 : Int32)), (0, .ref (ad 0)), (1, .int (nI q)), (2, .int what)]) hC.1 hC.2.1 dX6_most_34 hl (by decide) rfl (fun ls hl => ?_)
        refine lv_iconst (v := (nI 0)) hC.1 hC.2.1 dX6_most_36 (by decide) ?_
        refine lv_istore (lv' := [(5, .int (nI 0)), (4, .int (-1 : Int32)), (3, .int (-1000000 : Int32)), (0, .ref (ad 0)), (1, .int (nI q)), (2, .int what)]) hC.1 hC.2.1 dX6_most_37 hl (by decide) rfl (fun ls hl => ?_)
        refine W.loop (fun ls i H locs => lv_has ls 7 [(0, .ref (ad 0)), (1, .int (nI q)), (2, .int what), (3, .int ((msF (G 6) q i).1)), (4, .int ((msF (G 6) q i).2)), (5, .int (nI i))] ∧ (∃ f_ l_ b_ a_, mw D dA (nA mDom ad s.heap.size) s.heap ad (scs G (f_, l_, b_, a_) (G 6)) H locs) ∧ (i ≤ 16)) 39 (fun _ => []) (fun i => 16 - i) ?_ 0 ⟨hl.sub' [3, 4, 5, 2, 1, 0] (by rfl), ⟨_, _, _, _, hw⟩, by omega⟩
        rintro ls i H locs ⟨hl, ⟨f_, l_, b_, a_, hw⟩, hi⟩ ih39
        refine lv_iload hC.1 hC.2.1 dX6_most_39 (lv_at hl 5 rfl) ?_
        refine lv_bipush (v := (nI 16)) hC.1 hC.2.1 dX6_most_41 (by decide) ?_
        refine k_ge (tgt := 128) hC (by omega) (by omega) dX6_most_43 (by decide) (fun c43 => ?_) (fun c43 => ?_)
        · have e_i : i = 16 := by omega
          subst e_i
          refine lv_iload_n hC.1 hC.2.1 dX6_most_128 rfl (lv_at hl 3 rfl) ?_
          refine lv_if_ge (tgt := 137) hC.1 hC.2.1 dX6_most_129 (by decide) (fun c129 => ?_) (fun c129 => ?_)
          · refine lv_iload_n hC.1 hC.2.1 dX6_most_137 rfl (lv_at hl 2 rfl) ?_
            refine lv_if_ne (tgt := 145) hC.1 hC.2.1 dX6_most_138 (by decide) (fun c138 => ?_) (fun c138 => ?_)
            · refine lv_iload hC.1 hC.2.1 dX6_most_145 (lv_at hl 4 rfl) ?_
              exact m_iret hC hlk hr hw rfl (⟨by unfold mX6_most; simp only [ix_nI (show q < 2147483648 by omega)]; rw [if_pos c4]; rw [if_neg (b_nf c14)]; rw [if_pos c24]; dsimp only; unfold mostV; rw [if_pos c129, if_pos c138], by unfold mX6_most; simp only [ix_nI (show q < 2147483648 by omega)]; rw [if_pos c4]; rw [if_neg (b_nf c14)]; rw [if_pos c24]; dsimp only; exact ⟨_, rfl⟩⟩) dX6_most_147
            · refine lv_iload_n hC.1 hC.2.1 dX6_most_141 rfl (lv_at hl 3 rfl) ?_
              refine lv_goto (tgt := 147) hC.1 hC.2.1 dX6_most_142 (by decide) ?_
              exact m_iret hC hlk hr hw rfl (⟨by unfold mX6_most; simp only [ix_nI (show q < 2147483648 by omega)]; rw [if_pos c4]; rw [if_neg (b_nf c14)]; rw [if_pos c24]; dsimp only; unfold mostV; rw [if_pos c129, if_neg (not_not_intro c138)], by unfold mX6_most; simp only [ix_nI (show q < 2147483648 by omega)]; rw [if_pos c4]; rw [if_neg (b_nf c14)]; rw [if_pos c24]; dsimp only; exact ⟨_, rfl⟩⟩) dX6_most_147
          · refine lv_ldc hC.1 hC.2.1 hC.2.2.2.1 (hC.2.2.2.2 _ q1363) dX6_most_132 ?_
            refine lv_goto (tgt := 147) hC.1 hC.2.1 dX6_most_134 (by decide) ?_
            exact m_iret hC hlk hr hw rfl (⟨by unfold mX6_most; simp only [ix_nI (show q < 2147483648 by omega)]; rw [if_pos c4]; rw [if_neg (b_nf c14)]; rw [if_pos c24]; dsimp only; unfold mostV; rw [if_neg c129], by unfold mX6_most; simp only [ix_nI (show q < 2147483648 by omega)]; rw [if_pos c4]; rw [if_neg (b_nf c14)]; rw [if_pos c24]; dsimp only; exact ⟨_, rfl⟩⟩) dX6_most_147
        · refine lv_aload_n hC.1 hC.2.1 dX6_most_46 rfl (lv_at hl 0 rfl) ?_
          refine lv_iload hC.1 hC.2.1 dX6_most_47 (lv_at hl 5 rfl) ?_
          refine m_calli (n := 1) hC hl.1 hK hw (tX6_isWork l (scs G (f_, l_, b_, a_) (G 6)) i (by omega)) (lw_V q1301 q1303 qs38 q66 q1304) rfl rfl (by decide +kernel) ⟨by decide, by decide⟩ rfl rfl (Nat.le_of_ble_eq_true rfl) dX6_most_49 ⟨Nat.zero_le _, Nat.zero_le _⟩ ?_
          rintro r2 G2 H locs ⟨hr2, hG2⟩ hw
          replace hw := hw.eq hG2
          replace hr2 : r2 = (bI (isWk ((G 6)) i)) := hr2
          rw [hr2]
          clear hr2 hG2
          refine k_bne (tgt := 122) hC dX6_most_52 (by decide) (fun c52 => ?_) (fun c52 => ?_)
          · refine k_iinc (k := 5) (d := 1) (lv' := [(5, .int (nI (i + 1))), (0, .ref (ad 0)), (1, .int (nI q)), (2, .int what), (3, .int ((msF (G 6) q i).1)), (4, .int ((msF (G 6) q i).2))]) hC dX6_most_122 hl rfl (by decide) (by decide) rfl (fun ls hl => ?_)
            refine lv_goto (tgt := 39) hC.1 hC.2.1 dX6_most_125 (by decide) ?_
            have e5 := ms_w (y := q) c52
            exact ih39 ls (i + 1) H locs ⟨hl.sub' [1, 2, 3, 4, 5, 0] (by rw [e5]; rfl), ⟨_, _, _, _, hw⟩, by omega⟩ (by omega)
          · refine lv_aload_n hC.1 hC.2.1 dX6_most_55 rfl (lv_at hl 0 rfl) ?_
            refine m_ga hC hK hw 5 (by decide) rfl q1121 rfl dX6_most_56 ?_
            refine lv_bipush (v := (nI 9)) hC.1 hC.2.1 dX6_most_59 (by decide) ?_
            refine lv_iload hC.1 hC.2.1 dX6_most_61 (lv_at hl 5 rfl) ?_
            refine k_add hC dX6_most_63 ?_
            refine lv_iconst (v := (nI 1)) hC.1 hC.2.1 dX6_most_64 (by decide) ?_
            refine m_st hC hK hw 6 (by decide) (by decide) (by decide) (by simp only [mLen]; omega) (by omega) dX6_most_65 (fun H locs hw => ?_)
            replace hw := hw.eq (g2_scs6 _ _ _ _ _)
            refine lv_aload_n hC.1 hC.2.1 dX6_most_66 rfl (lv_at hl 0 rfl) ?_
            refine m_callv (n := 0) hC hl.1 hK hw (tX6_blow l (scs G (f_, l_, b_, a_) (upd (G 6) (9 + i) (nI 1)))  ) (lw_V q1343 q1345 qs43 q66 q1346) rfl rfl (by decide +kernel) ⟨by decide, by decide⟩ rfl rfl (Nat.le_of_ble_eq_true rfl) dX6_most_67 ⟨Nat.zero_le _, Nat.zero_le _⟩ ?_
            rintro G2 H locs hG2 hw
            replace hw := hw.eq hG2
            clear hG2
            replace hw := hw.eq (blow_scs _ _ _ _ _ _)
            refine lv_aload_n hC.1 hC.2.1 dX6_most_70 rfl (lv_at hl 0 rfl) ?_
            refine m_ga hC hK hw 5 (by decide) rfl q1121 rfl dX6_most_71 ?_
            refine lv_bipush (v := (nI 9)) hC.1 hC.2.1 dX6_most_74 (by decide) ?_
            refine lv_iload hC.1 hC.2.1 dX6_most_76 (lv_at hl 5 rfl) ?_
            refine k_add hC dX6_most_78 ?_
            refine lv_iconst (v := (nI 0)) hC.1 hC.2.1 dX6_most_79 (by decide) ?_
            refine m_st hC hK hw 6 (by decide) (by decide) (by decide) (by simp only [mLen]; omega) (by omega) dX6_most_80 (fun H locs hw => ?_)
            replace hw := hw.eq (g2_scs6 _ _ _ _ _)
            replace hw := hw.eq (congrArg (scs G _) (kd_back h0 (by omega) c52 _))
            refine lv_aload_n hC.1 hC.2.1 dX6_most_81 rfl (lv_at hl 0 rfl) ?_
            refine m_ga hC hK hw 18 (by decide) rfl q1134 rfl dX6_most_82 ?_
            refine lv_bipush (v := (nI 16)) hC.1 hC.2.1 dX6_most_85 (by decide) ?_
            refine lv_iload_n hC.1 hC.2.1 dX6_most_87 rfl (lv_at hl 1 rfl) ?_
            refine k_add hC dX6_most_88 ?_
            refine m_ld hC hK hw 19 (by decide) (by decide) (by decide) (by simp only [mLen]; omega) (by omega) (v := (((bl (upd (G 6) (9 + i) (nI 1))).1) (16 + q))) (rfl) dX6_most_89 ?_
            refine lv_istore (lv' := [(6, .int (((bl (upd (G 6) (9 + i) (nI 1))).1) (16 + q))), (0, .ref (ad 0)), (1, .int (nI q)), (2, .int what), (3, .int ((msF (G 6) q i).1)), (4, .int ((msF (G 6) q i).2)), (5, .int (nI i))]) hC.1 hC.2.1 dX6_most_90 hl (by decide) rfl (fun ls hl => ?_)
            refine lv_iload hC.1 hC.2.1 dX6_most_92 (lv_at hl 0 rfl) ?_
            refine lv_iload hC.1 hC.2.1 dX6_most_94 (lv_at hl 5 rfl) ?_
            refine lv_icmp_le (tgt := 104) hC.1 hC.2.1 dX6_most_96 (by decide) (fun c96 => ?_) (fun c96 => ?_)
            · refine lv_iload_n hC.1 hC.2.1 dX6_most_104 rfl (lv_at hl 4 rfl) ?_
              refine lv_istore_n (lv' := [(3, .int ((msF (G 6) q i).1)), (6, .int (((bl (upd (G 6) (9 + i) (nI 1))).1) (16 + q))), (0, .ref (ad 0)), (1, .int (nI q)), (2, .int what), (4, .int ((msF (G 6) q i).2)), (5, .int (nI i))]) hC.1 hC.2.1 dX6_most_105 rfl hl (by decide) rfl (fun ls hl => ?_)
              refine lv_iload hC.1 hC.2.1 dX6_most_106 (lv_at hl 1 rfl) ?_
              refine lv_iload hC.1 hC.2.1 dX6_most_108 (lv_at hl 5 rfl) ?_
              refine lv_icmp_le (tgt := 118) hC.1 hC.2.1 dX6_most_110 (by decide) (fun c110 => ?_) (fun c110 => ?_)
              · refine lv_iload hC.1 hC.2.1 dX6_most_118 (lv_at hl 5 rfl) ?_
                refine lv_istore (lv' := [(4, .int ((msF (G 6) q i).2)), (3, .int ((msF (G 6) q i).1)), (6, .int (((bl (upd (G 6) (9 + i) (nI 1))).1) (16 + q))), (0, .ref (ad 0)), (1, .int (nI q)), (2, .int what), (5, .int (nI i))]) hC.1 hC.2.1 dX6_most_120 hl (by decide) rfl (fun ls hl => ?_)
                refine k_iinc (k := 6) (d := 1) (lv' := [(5, .int (nI (i + 1))), (4, .int ((msF (G 6) q i).2)), (3, .int ((msF (G 6) q i).1)), (6, .int (((bl (upd (G 6) (9 + i) (nI 1))).1) (16 + q))), (0, .ref (ad 0)), (1, .int (nI q)), (2, .int what)]) hC dX6_most_122 hl rfl (by decide) (by decide) rfl (fun ls hl => ?_)
                refine lv_goto (tgt := 39) hC.1 hC.2.1 dX6_most_125 (by decide) ?_
                have e5 := ms_k c52 c96
                exact ih39 ls (i + 1) H locs ⟨hl.sub' [4, 5, 6, 2, 1, 0] (by rw [e5]; rfl), ⟨_, _, _, _, hw⟩, by omega⟩ (by omega)
              · exact absurd c96 c110
            · refine lv_iload hC.1 hC.2.1 dX6_most_99 (lv_at hl 6 rfl) ?_
              refine lv_goto (tgt := 105) hC.1 hC.2.1 dX6_most_101 (by decide) ?_
              refine lv_istore_n (lv' := [(3, .int (nI i)), (6, .int (((bl (upd (G 6) (9 + i) (nI 1))).1) (16 + q))), (0, .ref (ad 0)), (1, .int (nI q)), (2, .int what), (4, .int ((msF (G 6) q i).2)), (5, .int (nI i))]) hC.1 hC.2.1 dX6_most_105 rfl hl (by decide) rfl (fun ls hl => ?_)
              refine lv_iload hC.1 hC.2.1 dX6_most_106 (lv_at hl 1 rfl) ?_
              refine lv_iload hC.1 hC.2.1 dX6_most_108 (lv_at hl 5 rfl) ?_
              refine lv_icmp_le (tgt := 118) hC.1 hC.2.1 dX6_most_110 (by decide) (fun c110 => ?_) (fun c110 => ?_)
              · exact absurd c110 c96
              · refine lv_iload hC.1 hC.2.1 dX6_most_113 (lv_at hl 1 rfl) ?_
                refine lv_goto (tgt := 120) hC.1 hC.2.1 dX6_most_115 (by decide) ?_
                refine lv_istore (lv' := [(4, .int (((bl (upd (G 6) (9 + i) (nI 1))).1) (16 + q))), (3, .int (nI i)), (6, .int (((bl (upd (G 6) (9 + i) (nI 1))).1) (16 + q))), (0, .ref (ad 0)), (1, .int (nI q)), (2, .int what), (5, .int (nI i))]) hC.1 hC.2.1 dX6_most_120 hl (by decide) rfl (fun ls hl => ?_)
                refine k_iinc (k := 6) (d := 1) (lv' := [(5, .int (nI (i + 1))), (4, .int (((bl (upd (G 6) (9 + i) (nI 1))).1) (16 + q))), (3, .int (nI i)), (6, .int (((bl (upd (G 6) (9 + i) (nI 1))).1) (16 + q))), (0, .ref (ad 0)), (1, .int (nI q)), (2, .int what)]) hC dX6_most_122 hl rfl (by decide) (by decide) rfl (fun ls hl => ?_)
                refine lv_goto (tgt := 39) hC.1 hC.2.1 dX6_most_125 (by decide) ?_
                have e5 := ms_n c52 c96
                exact ih39 ls (i + 1) H locs ⟨hl.sub' [4, 5, 6, 2, 1, 0] (by rw [e5]; rfl), ⟨_, _, _, _, hw⟩, by omega⟩ (by omega)
      · refine lv_ldc hC.1 hC.2.1 hC.2.2.2.1 (hC.2.2.2.2 _ q1214) dX6_most_27 ?_
        exact m_iret hC hlk hr hw rfl (⟨by unfold mX6_most; rw [if_pos c4]; rw [if_neg (b_nf c14)]; rw [if_neg (b_nt c24)]; try (first | rfl | (dsimp only; try rfl)), by unfold mX6_most; rw [if_pos c4]; rw [if_neg (b_nf c14)]; rw [if_neg (b_nt c24)]; dsimp only; exact ⟨_, scs_in _⟩⟩) dX6_most_29
  · refine lv_ldc hC.1 hC.2.1 hC.2.2.2.1 (hC.2.2.2.2 _ q1294) dX6_most_7 ?_
    exact m_iret hC hlk hr hw rfl (⟨by unfold mX6_most; rw [if_neg (not_not_intro c4)]; try (first | rfl | (dsimp only; try rfl)), by unfold mX6_most; rw [if_neg (not_not_intro c4)]; dsimp only; exact ⟨_, scs_in _⟩⟩) dX6_most_9

noncomputable def mX6_hidden (G : mG) (kind : Int32) (y : Int32) (row : Int32) (i : Int32) : Int32 × mG := if ¬ (G 0 4) = 0 then if (inB kind (nI 1) (nI 5)) = false then ((-1000001 : Int32), G) else if (inB y 0 (nI 3)) = false then ((-1000001 : Int32), G) else if (inB row 0 (nI 7)) = true then if 0 ≤ ((mX6_lacks G (ix row) i 4).1) then (hdF (G 3) (G 6) kind (40 * (ix row) + (ix i)) (ix y) 16, g2 G 0 3 (nI 0)) else (((mX6_lacks G (ix row) i 4).1), (mX6_lacks G (ix row) i 4).2) else ((-1000001 : Int32), G) else ((-1000002 : Int32), G)
set_option maxHeartbeats 4000000 in
theorem tX6_hidden (l : Launch) (G : mG) (kind : Int32) (y : Int32) (row : Int32) (i : Int32) (h0 : kdOk (G 6)) (h1 : szOk G) : mI l yX6_hidden cX6_hidden 10 .int ({ frames := 4, cells := 0, slots := 0, locals := 96 } : Room) [.int kind, .int y, .int row, .int i] G (fun r G' => r = ((mX6_hidden G kind y row i).1) ∧ ∃ X, G' = scs (mX6_hidden G kind y row i).2 X (G 6)) := by
  refine mI.of (by decide) rfl (fun _ => Nat.le_of_ble_eq_true rfl) ?_
  intro D dA ad p e s m below meth cd ls hC hlk hr hK hl hw
  have hl : lv_has ls 10 [(0, .ref (ad 0)), (1, .int kind), (2, .int y), (3, .int row), (4, .int i)] := hl
  refine lv_aload_n hC.1 hC.2.1 dX6_hidden_0 rfl (lv_at hl 0 rfl) ?_
  refine m_gi hC hK hw 4 (by decide) rfl q1120 rfl (v := (G 0 4)) (rfl) dX6_hidden_1 ?_
  refine lv_if_ne (tgt := 10) hC.1 hC.2.1 dX6_hidden_4 (by decide) (fun c4 => ?_) (fun c4 => ?_)
  · refine lv_iload_n hC.1 hC.2.1 dX6_hidden_10 rfl (lv_at hl 1 rfl) ?_
    refine lv_i2l hC.1 hC.2.1 dX6_hidden_11 rfl ?_
    refine lv_lconst (v := 1) hC.1 hC.2.1 dX6_hidden_12 (by decide) ?_
    refine lv_ldc2 hC.1 hC.2.1 hC.2.2.2.1 (hC.2.2.2.2 _ q1299) dX6_hidden_13 ?_
    refine pS_call (n := 3) hC hl.1 (tX6_inI l kind (nI 1) (nI 5)) (lw_S q1210 q1211 q66 q1212) rfl rfl (by decide +kernel) ⟨by decide, by decide⟩ rfl rfl (Nat.le_of_ble_eq_true rfl) dX6_hidden_16 ⟨Nat.zero_le _, Nat.zero_le _⟩ ?_
    refine k_beq (tgt := 36) hC dX6_hidden_19 (by decide) (fun c19 => ?_) (fun c19 => ?_)
    · refine lv_ldc hC.1 hC.2.1 hC.2.2.2.1 (hC.2.2.2.2 _ q1214) dX6_hidden_36 ?_
      exact m_iret hC hlk hr hw rfl (⟨by unfold mX6_hidden; rw [if_pos c4]; rw [if_pos c19]; try (first | rfl | (dsimp only; try rfl)), by unfold mX6_hidden; rw [if_pos c4]; rw [if_pos c19]; dsimp only; exact ⟨_, scs_in _⟩⟩) dX6_hidden_38
    · refine lv_iload_n hC.1 hC.2.1 dX6_hidden_22 rfl (lv_at hl 2 rfl) ?_
      refine pS_call (n := 1) hC hl.1 (tX6_isRowOfPass l y ) (lw_S q1329 q1330 q66 q1331) rfl rfl (by decide +kernel) ⟨by decide, by decide⟩ rfl rfl (Nat.le_of_ble_eq_true rfl) dX6_hidden_23 ⟨Nat.zero_le _, Nat.zero_le _⟩ ?_
      refine k_beq (tgt := 36) hC dX6_hidden_26 (by decide) (fun c26 => ?_) (fun c26 => ?_)
      · refine lv_ldc hC.1 hC.2.1 hC.2.2.2.1 (hC.2.2.2.2 _ q1214) dX6_hidden_36 ?_
        exact m_iret hC hlk hr hw rfl (⟨by unfold mX6_hidden; rw [if_pos c4]; rw [if_neg (b_nf c19)]; rw [if_pos c26]; try (first | rfl | (dsimp only; try rfl)), by unfold mX6_hidden; rw [if_pos c4]; rw [if_neg (b_nf c19)]; rw [if_pos c26]; dsimp only; exact ⟨_, scs_in _⟩⟩) dX6_hidden_38
      · obtain ⟨q, hq, rfl⟩ := inB_nat (n := 3) (by decide) c26
        refine lv_iload_n hC.1 hC.2.1 dX6_hidden_29 rfl (lv_at hl 3 rfl) ?_
        refine pS_call (n := 1) hC hl.1 (tX6_isRow l row ) (lw_S q1206 q1207 q66 q1208) rfl rfl (by decide +kernel) ⟨by decide, by decide⟩ rfl rfl (Nat.le_of_ble_eq_true rfl) dX6_hidden_30 ⟨Nat.zero_le _, Nat.zero_le _⟩ ?_
        refine k_bne (tgt := 39) hC dX6_hidden_33 (by decide) (fun c33 => ?_) (fun c33 => ?_)
        · obtain ⟨rr, hrr, rfl⟩ := inB_nat (n := 7) (by decide) c33
          refine lv_aload_n hC.1 hC.2.1 dX6_hidden_39 rfl (lv_at hl 0 rfl) ?_
          refine lv_iload_n hC.1 hC.2.1 dX6_hidden_40 rfl (lv_at hl 3 rfl) ?_
          refine lv_iload hC.1 hC.2.1 dX6_hidden_41 (lv_at hl 4 rfl) ?_
          refine lv_iconst (v := (nI 4)) hC.1 hC.2.1 dX6_hidden_43 (by decide) ?_
          refine m_calli (n := 3) hC hl.1 hK hw (tX6_lacks l G rr i 4 (by omega)) (lw_V q1404 q1406 qs49 q66 q1407) rfl rfl (by decide +kernel) ⟨by decide, by decide⟩ rfl rfl (Nat.le_of_ble_eq_true rfl) dX6_hidden_44 ⟨Nat.zero_le _, Nat.zero_le _⟩ ?_
          rintro r2 G2 H locs ⟨hr2, hG2⟩ hw
          replace hw := hw.eq hG2
          rw [hr2]
          clear hr2 hG2
          refine lv_istore (lv' := [(5, .int ((mX6_lacks G rr i 4).1)), (0, .ref (ad 0)), (1, .int kind), (2, .int (nI q)), (3, .int (nI rr)), (4, .int i)]) hC.1 hC.2.1 dX6_hidden_47 hl (by decide) rfl (fun ls hl => ?_)
          refine lv_iload hC.1 hC.2.1 dX6_hidden_49 (lv_at hl 0 rfl) ?_
          refine lv_if_ge (tgt := 57) hC.1 hC.2.1 dX6_hidden_51 (by decide) (fun c51 => ?_) (fun c51 => ?_)
          · obtain ⟨eG, eV, j, k, rfl, ek, hjk, hk40⟩ := lacks_ok h1 (by omega) (by decide) c51
            replace hw := hw.eq (eG.trans (scs_in G))
            refine lv_iconst (v := (nI 0)) hC.1 hC.2.1 dX6_hidden_57 (by decide) ?_
            refine lv_istore (lv' := [(6, .int (nI 0)), (5, .int ((mX6_lacks G rr (nI j) 4).1)), (0, .ref (ad 0)), (1, .int kind), (2, .int (nI q)), (3, .int (nI rr)), (4, .int (nI j))]) hC.1 hC.2.1 dX6_hidden_58 hl (by decide) rfl (fun ls hl => ?_)
            refine lv_iconst (v := (nI 0)) hC.1 hC.2.1 dX6_hidden_60 (by decide) ?_
            refine lv_istore (lv' := [(7, .int (nI 0)), (6, .int (nI 0)), (5, .int ((mX6_lacks G rr (nI j) 4).1)), (0, .ref (ad 0)), (1, .int kind), (2, .int (nI q)), (3, .int (nI rr)), (4, .int (nI j))]) hC.1 hC.2.1 dX6_hidden_61 hl (by decide) rfl (fun ls hl => ?_)
            refine W.loop (fun ls n H locs => lv_has ls 10 [(0, .ref (ad 0)), (1, .int kind), (2, .int (nI q)), (3, .int (nI rr)), (4, .int (nI j)), (6, .int (hdF (G 3) (G 6) kind (40 * rr + j) q n)), (7, .int (nI n))] ∧ (∃ f_ l_ b_ a_, mw D dA (nA mDom ad s.heap.size) s.heap ad (scs G (f_, l_, b_, a_) (G 6)) H locs) ∧ (n ≤ 16)) 63 (fun _ => []) (fun n => 16 - n) ?_ 0 ⟨hl.sub' [3, 4, 5, 6, 7, 1, 0] (by rfl), ⟨_, _, _, _, hw⟩, by omega⟩
            rintro ls n H locs ⟨hl, ⟨f_, l_, b_, a_, hw⟩, hn⟩ ih63
            refine lv_iload hC.1 hC.2.1 dX6_hidden_63 (lv_at hl 6 rfl) ?_
            refine lv_bipush (v := (nI 16)) hC.1 hC.2.1 dX6_hidden_65 (by decide) ?_
            refine k_ge (tgt := 188) hC (by omega) (by omega) dX6_hidden_67 (by decide) (fun c67 => ?_) (fun c67 => ?_)
            · have e_n : n = 16 := by omega
              subst e_n
              refine lv_aload_n hC.1 hC.2.1 dX6_hidden_188 rfl (lv_at hl 0 rfl) ?_
              refine lv_iload hC.1 hC.2.1 dX6_hidden_189 (lv_at hl 5 rfl) ?_
              refine m_calli (n := 1) hC hl.1 hK hw (tX6_well l (scs G (f_, l_, b_, a_) (G 6)) (hdF (G 3) (G 6) kind (40 * rr + j) q 16) ) (lw_V q1220 q1222 qs29 q66 q1223) rfl rfl (by decide +kernel) ⟨by decide, by decide⟩ rfl rfl (Nat.le_of_ble_eq_true rfl) dX6_hidden_191 ⟨Nat.zero_le _, Nat.zero_le _⟩ ?_
              rintro r2 G2 H locs ⟨hr2, hG2⟩ hw
              replace hw := hw.eq hG2
              rw [hr2]
              clear hr2 hG2
              exact m_iret hC hlk hr hw rfl (⟨by unfold mX6_hidden; simp only [ix_nI (show q < 2147483648 by omega), ix_nI (show rr < 2147483648 by omega), ix_nI (show j < 2147483648 by omega)]; rw [if_pos c4]; rw [if_neg (b_nf c19)]; rw [if_neg (b_nf c26)]; rw [if_pos c33]; rw [if_pos c51]; try (first | rfl | (dsimp only; try rfl)), by unfold mX6_hidden; simp only [ix_nI (show q < 2147483648 by omega), ix_nI (show rr < 2147483648 by omega), ix_nI (show j < 2147483648 by omega)]; rw [if_pos c4]; rw [if_neg (b_nf c19)]; rw [if_neg (b_nf c26)]; rw [if_pos c33]; rw [if_pos c51]; dsimp only; exact ⟨_, g2_scs3 _ _ _ _⟩⟩) dX6_hidden_194
            · refine lv_aload_n hC.1 hC.2.1 dX6_hidden_70 rfl (lv_at hl 0 rfl) ?_
              refine lv_iload hC.1 hC.2.1 dX6_hidden_71 (lv_at hl 6 rfl) ?_
              refine m_calli (n := 1) hC hl.1 hK hw (tX6_isWork l (scs G (f_, l_, b_, a_) (G 6)) n (by omega)) (lw_V q1301 q1303 qs38 q66 q1304) rfl rfl (by decide +kernel) ⟨by decide, by decide⟩ rfl rfl (Nat.le_of_ble_eq_true rfl) dX6_hidden_73 ⟨Nat.zero_le _, Nat.zero_le _⟩ ?_
              rintro r2 G2 H locs ⟨hr2, hG2⟩ hw
              replace hw := hw.eq hG2
              replace hr2 : r2 = (bI (isWk ((G 6)) n)) := hr2
              rw [hr2]
              clear hr2 hG2
              refine k_bne (tgt := 182) hC dX6_hidden_76 (by decide) (fun c76 => ?_) (fun c76 => ?_)
              · refine k_iinc (k := 6) (d := 1) (lv' := [(7, .int (nI (n + 1))), (0, .ref (ad 0)), (1, .int kind), (2, .int (nI q)), (3, .int (nI rr)), (4, .int (nI j)), (6, .int (hdF (G 3) (G 6) kind (40 * rr + j) q n))]) hC dX6_hidden_182 hl rfl (by decide) (by decide) rfl (fun ls hl => ?_)
                refine lv_goto (tgt := 63) hC.1 hC.2.1 dX6_hidden_185 (by decide) ?_
                have e5 := hd_w (it := G 3) (kind := kind) (o := 40 * rr + j) (y := q) c76
                exact ih63 ls (n + 1) H locs ⟨hl.sub' [1, 2, 3, 4, 5, 6, 0] (by rw [e5]; rfl), ⟨_, _, _, _, hw⟩, by omega⟩ (by omega)
              · refine lv_aload_n hC.1 hC.2.1 dX6_hidden_79 rfl (lv_at hl 0 rfl) ?_
                refine m_ga hC hK hw 5 (by decide) rfl q1121 rfl dX6_hidden_80 ?_
                refine lv_bipush (v := (nI 9)) hC.1 hC.2.1 dX6_hidden_83 (by decide) ?_
                refine lv_iload hC.1 hC.2.1 dX6_hidden_85 (lv_at hl 6 rfl) ?_
                refine k_add hC dX6_hidden_87 ?_
                refine lv_iload_n hC.1 hC.2.1 dX6_hidden_88 rfl (lv_at hl 1 rfl) ?_
                refine m_st hC hK hw 6 (by decide) (by decide) (by decide) (by simp only [mLen]; omega) (by omega) dX6_hidden_89 (fun H locs hw => ?_)
                replace hw := hw.eq (g2_scs6 _ _ _ _ _)
                refine lv_aload_n hC.1 hC.2.1 dX6_hidden_90 rfl (lv_at hl 0 rfl) ?_
                refine m_callv (n := 0) hC hl.1 hK hw (tX6_blow l (scs G (f_, l_, b_, a_) (upd (G 6) (9 + n) kind))  ) (lw_V q1343 q1345 qs43 q66 q1346) rfl rfl (by decide +kernel) ⟨by decide, by decide⟩ rfl rfl (Nat.le_of_ble_eq_true rfl) dX6_hidden_91 ⟨Nat.zero_le _, Nat.zero_le _⟩ ?_
                rintro G2 H locs hG2 hw
                replace hw := hw.eq hG2
                clear hG2
                replace hw := hw.eq (blow_scs _ _ _ _ _ _)
                refine lv_iconst (v := (nI 1)) hC.1 hC.2.1 dX6_hidden_94 (by decide) ?_
                refine lv_istore (lv' := [(8, .int (nI 1)), (0, .ref (ad 0)), (1, .int kind), (2, .int (nI q)), (3, .int (nI rr)), (4, .int (nI j)), (6, .int (hdF (G 3) (G 6) kind (40 * rr + j) q n)), (7, .int (nI n))]) hC.1 hC.2.1 dX6_hidden_95 hl (by decide) rfl (fun ls hl => ?_)
                refine lv_iconst (v := (nI 0)) hC.1 hC.2.1 dX6_hidden_97 (by decide) ?_
                refine lv_istore (lv' := [(9, .int (nI 0)), (8, .int (nI 1)), (0, .ref (ad 0)), (1, .int kind), (2, .int (nI q)), (3, .int (nI rr)), (4, .int (nI j)), (6, .int (hdF (G 3) (G 6) kind (40 * rr + j) q n)), (7, .int (nI n))]) hC.1 hC.2.1 dX6_hidden_98 hl (by decide) rfl (fun ls hl => ?_)
                refine W.loop (fun ls x H locs => lv_has ls 10 [(0, .ref (ad 0)), (1, .int kind), (2, .int (nI q)), (3, .int (nI rr)), (4, .int (nI j)), (6, .int (hdF (G 3) (G 6) kind (40 * rr + j) q n)), (7, .int (nI n)), (8, .int (bI (allB (hdP (G 3) (G 6) kind (40 * rr + j) q n) x))), (9, .int (nI x))] ∧ (∃ b_ a_, mw D dA (nA mDom ad s.heap.size) s.heap ad (scs G ((bl (upd (G 6) (9 + n) kind)).1, (bl (upd (G 6) (9 + n) kind)).2, b_, a_) (upd (G 6) (9 + n) kind)) H locs) ∧ (x ≤ 4)) 100 (fun _ => []) (fun x => 4 - x) ?_ 0 ⟨hl.sub' [2, 3, 4, 5, 6, 7, 8, 1, 0] (by rfl), ⟨_, _, hw⟩, by omega⟩
                rintro ls x H locs ⟨hl, ⟨b_, a_, hw⟩, hx⟩ ih100
                refine lv_iload hC.1 hC.2.1 dX6_hidden_100 (lv_at hl 8 rfl) ?_
                refine lv_iconst (v := (nI 4)) hC.1 hC.2.1 dX6_hidden_102 (by decide) ?_
                refine k_ge (tgt := 153) hC (by omega) (by omega) dX6_hidden_103 (by decide) (fun c103 => ?_) (fun c103 => ?_)
                · have e_x : x = 4 := by omega
                  subst e_x
                  refine lv_aload_n hC.1 hC.2.1 dX6_hidden_153 rfl (lv_at hl 0 rfl) ?_
                  refine m_ga hC hK hw 5 (by decide) rfl q1121 rfl dX6_hidden_154 ?_
                  refine lv_bipush (v := (nI 9)) hC.1 hC.2.1 dX6_hidden_157 (by decide) ?_
                  refine lv_iload hC.1 hC.2.1 dX6_hidden_159 (lv_at hl 6 rfl) ?_
                  refine k_add hC dX6_hidden_161 ?_
                  refine lv_iconst (v := (nI 0)) hC.1 hC.2.1 dX6_hidden_162 (by decide) ?_
                  refine m_st hC hK hw 6 (by decide) (by decide) (by decide) (by simp only [mLen]; omega) (by omega) dX6_hidden_163 (fun H locs hw => ?_)
                  replace hw := hw.eq (g2_scs6 _ _ _ _ _)
                  replace hw := hw.eq (congrArg (scs G _) (kd_back h0 (by omega) c76 _))
                  refine lv_iload hC.1 hC.2.1 dX6_hidden_164 (lv_at hl 5 rfl) ?_
                  refine lv_iload hC.1 hC.2.1 dX6_hidden_166 (lv_at hl 7 rfl) ?_
                  refine k_beq (tgt := 178) hC dX6_hidden_168 (by decide) (fun c168 => ?_) (fun c168 => ?_)
                  · refine lv_iconst (v := (nI 0)) hC.1 hC.2.1 dX6_hidden_178 (by decide) ?_
                    refine lv_ior hC.1 hC.2.1 dX6_hidden_179 ?_
                    refine lv_istore (lv' := [(6, .int ((hdF (G 3) (G 6) kind (40 * rr + j) q n) ||| (nI 0))), (0, .ref (ad 0)), (1, .int kind), (2, .int (nI q)), (3, .int (nI rr)), (4, .int (nI j)), (7, .int (nI n)), (8, .int (bI (allB (hdP (G 3) (G 6) kind (40 * rr + j) q n) 4))), (9, .int (nI 4))]) hC.1 hC.2.1 dX6_hidden_180 hl (by decide) rfl (fun ls hl => ?_)
                    refine k_iinc (k := 6) (d := 1) (lv' := [(7, .int (nI (n + 1))), (6, .int ((hdF (G 3) (G 6) kind (40 * rr + j) q n) ||| (nI 0))), (0, .ref (ad 0)), (1, .int kind), (2, .int (nI q)), (3, .int (nI rr)), (4, .int (nI j)), (8, .int (bI (allB (hdP (G 3) (G 6) kind (40 * rr + j) q n) 4))), (9, .int (nI 4))]) hC dX6_hidden_182 hl rfl (by decide) (by decide) rfl (fun ls hl => ?_)
                    refine lv_goto (tgt := 63) hC.1 hC.2.1 dX6_hidden_185 (by decide) ?_
                    have e5 := hd_f c76 c168
                    exact ih63 ls (n + 1) H locs ⟨hl.sub' [2, 3, 4, 5, 6, 1, 0] (by rw [e5]; rfl), ⟨_, _, _, _, hw⟩, by omega⟩ (by omega)
                  · refine lv_iconst (v := (nI 1)) hC.1 hC.2.1 dX6_hidden_171 (by decide) ?_
                    refine lv_iload hC.1 hC.2.1 dX6_hidden_172 (lv_at hl 6 rfl) ?_
                    refine lv_ishl hC.1 hC.2.1 dX6_hidden_174 ?_
                    refine lv_goto (tgt := 179) hC.1 hC.2.1 dX6_hidden_175 (by decide) ?_
                    refine lv_ior hC.1 hC.2.1 dX6_hidden_179 ?_
                    refine lv_istore (lv' := [(6, .int ((hdF (G 3) (G 6) kind (40 * rr + j) q n) ||| ((nI 1) <<< ((nI n) &&& 31)))), (0, .ref (ad 0)), (1, .int kind), (2, .int (nI q)), (3, .int (nI rr)), (4, .int (nI j)), (7, .int (nI n)), (8, .int (bI (allB (hdP (G 3) (G 6) kind (40 * rr + j) q n) 4))), (9, .int (nI 4))]) hC.1 hC.2.1 dX6_hidden_180 hl (by decide) rfl (fun ls hl => ?_)
                    refine k_iinc (k := 6) (d := 1) (lv' := [(7, .int (nI (n + 1))), (6, .int ((hdF (G 3) (G 6) kind (40 * rr + j) q n) ||| ((nI 1) <<< ((nI n) &&& 31)))), (0, .ref (ad 0)), (1, .int kind), (2, .int (nI q)), (3, .int (nI rr)), (4, .int (nI j)), (8, .int (bI (allB (hdP (G 3) (G 6) kind (40 * rr + j) q n) 4))), (9, .int (nI 4))]) hC dX6_hidden_182 hl rfl (by decide) (by decide) rfl (fun ls hl => ?_)
                    refine lv_goto (tgt := 63) hC.1 hC.2.1 dX6_hidden_185 (by decide) ?_
                    have e5 := hd_t c76 c168
                    exact ih63 ls (n + 1) H locs ⟨hl.sub' [2, 3, 4, 5, 6, 1, 0] (by rw [e5]; rfl), ⟨_, _, _, _, hw⟩, by omega⟩ (by omega)
                · refine lv_iload hC.1 hC.2.1 dX6_hidden_106 (lv_at hl 7 rfl) ?_
                  refine k_beq (tgt := 144) hC dX6_hidden_108 (by decide) (fun c108 => ?_) (fun c108 => ?_)
                  · refine lv_iconst (v := (nI 0)) hC.1 hC.2.1 dX6_hidden_144 (by decide) ?_
                    refine lv_istore (lv' := [(8, .int (nI 0)), (0, .ref (ad 0)), (1, .int kind), (2, .int (nI q)), (3, .int (nI rr)), (4, .int (nI j)), (6, .int (hdF (G 3) (G 6) kind (40 * rr + j) q n)), (7, .int (nI n)), (9, .int (nI x))]) hC.1 hC.2.1 dX6_hidden_145 hl (by decide) rfl (fun ls hl => ?_)
                    refine k_iinc (k := 8) (d := 1) (lv' := [(9, .int (nI (x + 1))), (8, .int (nI 0)), (0, .ref (ad 0)), (1, .int kind), (2, .int (nI q)), (3, .int (nI rr)), (4, .int (nI j)), (6, .int (hdF (G 3) (G 6) kind (40 * rr + j) q n)), (7, .int (nI n))]) hC dX6_hidden_147 hl rfl (by decide) (by decide) rfl (fun ls hl => ?_)
                    refine lv_goto (tgt := 100) hC.1 hC.2.1 dX6_hidden_150 (by decide) ?_
                    exact ih100 ls (x + 1) H locs ⟨hl.sub' [2, 3, 4, 5, 6, 7, 8, 1, 0] (by rw [← bI_of_f (b := allB (hdP (G 3) (G 6) kind (40 * rr + j) q n) (x + 1)) (all_f1 c108)]; rfl), ⟨_, _, hw⟩, by omega⟩ (by omega)
                  · refine lv_aload_n hC.1 hC.2.1 dX6_hidden_111 rfl (lv_at hl 0 rfl) ?_
                    refine m_ga hC hK hw 2 (by decide) rfl q1118 rfl dX6_hidden_112 ?_
                    refine lv_bipush (v := (nI 40)) hC.1 hC.2.1 dX6_hidden_115 (by decide) ?_
                    refine lv_iload_n hC.1 hC.2.1 dX6_hidden_117 rfl (lv_at hl 3 rfl) ?_
                    refine k_mul hC dX6_hidden_118 ?_
                    refine lv_iload hC.1 hC.2.1 dX6_hidden_119 (lv_at hl 4 rfl) ?_
                    refine k_add hC dX6_hidden_121 ?_
                    refine lv_iload hC.1 hC.2.1 dX6_hidden_122 (lv_at hl 8 rfl) ?_
                    refine k_add hC dX6_hidden_124 ?_
                    refine m_ld hC hK hw 3 (by decide) (by decide) (by decide) (by simp only [mLen]; omega) (by omega) (v := (G 3 (((40 * rr) + j) + x))) (rfl) dX6_hidden_125 ?_
                    refine lv_aload_n hC.1 hC.2.1 dX6_hidden_126 rfl (lv_at hl 0 rfl) ?_
                    refine m_ga hC hK hw 18 (by decide) rfl q1134 rfl dX6_hidden_127 ?_
                    refine lv_iconst (v := (nI 4)) hC.1 hC.2.1 dX6_hidden_130 (by decide) ?_
                    refine lv_iload hC.1 hC.2.1 dX6_hidden_131 (lv_at hl 8 rfl) ?_
                    refine k_mul hC dX6_hidden_133 ?_
                    refine lv_iload_n hC.1 hC.2.1 dX6_hidden_134 rfl (lv_at hl 2 rfl) ?_
                    refine k_add hC dX6_hidden_135 ?_
                    refine m_ld hC hK hw 19 (by decide) (by decide) (by decide) (by simp only [mLen]; omega) (by omega) (v := (((bl (upd (G 6) (9 + n) kind)).1) ((4 * x) + q))) (rfl) dX6_hidden_136 ?_
                    refine lv_icmp_ne (tgt := 144) hC.1 hC.2.1 dX6_hidden_137 (by decide) (fun c137 => ?_) (fun c137 => ?_)
                    · refine lv_iconst (v := (nI 0)) hC.1 hC.2.1 dX6_hidden_144 (by decide) ?_
                      refine lv_istore (lv' := [(8, .int (nI 0)), (0, .ref (ad 0)), (1, .int kind), (2, .int (nI q)), (3, .int (nI rr)), (4, .int (nI j)), (6, .int (hdF (G 3) (G 6) kind (40 * rr + j) q n)), (7, .int (nI n)), (9, .int (nI x))]) hC.1 hC.2.1 dX6_hidden_145 hl (by decide) rfl (fun ls hl => ?_)
                      refine k_iinc (k := 8) (d := 1) (lv' := [(9, .int (nI (x + 1))), (8, .int (nI 0)), (0, .ref (ad 0)), (1, .int kind), (2, .int (nI q)), (3, .int (nI rr)), (4, .int (nI j)), (6, .int (hdF (G 3) (G 6) kind (40 * rr + j) q n)), (7, .int (nI n))]) hC dX6_hidden_147 hl rfl (by decide) (by decide) rfl (fun ls hl => ?_)
                      refine lv_goto (tgt := 100) hC.1 hC.2.1 dX6_hidden_150 (by decide) ?_
                      exact ih100 ls (x + 1) H locs ⟨hl.sub' [2, 3, 4, 5, 6, 7, 8, 1, 0] (by rw [← bI_of_f (b := allB (hdP (G 3) (G 6) kind (40 * rr + j) q n) (x + 1)) (all_f2 (decide_eq_false c137))]; rfl), ⟨_, _, hw⟩, by omega⟩ (by omega)
                    · refine lv_iconst (v := (nI 1)) hC.1 hC.2.1 dX6_hidden_140 (by decide) ?_
                      refine lv_goto (tgt := 145) hC.1 hC.2.1 dX6_hidden_141 (by decide) ?_
                      refine lv_istore (lv' := [(8, .int (nI 1)), (0, .ref (ad 0)), (1, .int kind), (2, .int (nI q)), (3, .int (nI rr)), (4, .int (nI j)), (6, .int (hdF (G 3) (G 6) kind (40 * rr + j) q n)), (7, .int (nI n)), (9, .int (nI x))]) hC.1 hC.2.1 dX6_hidden_145 hl (by decide) rfl (fun ls hl => ?_)
                      refine k_iinc (k := 8) (d := 1) (lv' := [(9, .int (nI (x + 1))), (8, .int (nI 1)), (0, .ref (ad 0)), (1, .int kind), (2, .int (nI q)), (3, .int (nI rr)), (4, .int (nI j)), (6, .int (hdF (G 3) (G 6) kind (40 * rr + j) q n)), (7, .int (nI n))]) hC dX6_hidden_147 hl rfl (by decide) (by decide) rfl (fun ls hl => ?_)
                      refine lv_goto (tgt := 100) hC.1 hC.2.1 dX6_hidden_150 (by decide) ?_
                      exact ih100 ls (x + 1) H locs ⟨hl.sub' [2, 3, 4, 5, 6, 7, 8, 1, 0] (by rw [← bI_of_t (b := allB (hdP (G 3) (G 6) kind (40 * rr + j) q n) (x + 1)) (all_t c108 (decide_eq_true c137))]; rfl), ⟨_, _, hw⟩, by omega⟩ (by omega)
          · refine lv_iload hC.1 hC.2.1 dX6_hidden_54 (lv_at hl 0 rfl) ?_
            exact m_iret hC hlk hr hw rfl (⟨by unfold mX6_hidden; simp only [ix_nI (show q < 2147483648 by omega), ix_nI (show rr < 2147483648 by omega)]; rw [if_pos c4]; rw [if_neg (b_nf c19)]; rw [if_neg (b_nf c26)]; rw [if_pos c33]; rw [if_neg c51]; try (first | rfl | (dsimp only; try rfl)), by unfold mX6_hidden; simp only [ix_nI (show q < 2147483648 by omega), ix_nI (show rr < 2147483648 by omega)]; rw [if_pos c4]; rw [if_neg (b_nf c19)]; rw [if_neg (b_nf c26)]; rw [if_pos c33]; rw [if_neg c51]; dsimp only; exact ⟨_, (scs_in _).trans (by rw [lacks_6])⟩⟩) dX6_hidden_56
        · refine lv_ldc hC.1 hC.2.1 hC.2.2.2.1 (hC.2.2.2.2 _ q1214) dX6_hidden_36 ?_
          exact m_iret hC hlk hr hw rfl (⟨by unfold mX6_hidden; simp only [ix_nI (show q < 2147483648 by omega)]; rw [if_pos c4]; rw [if_neg (b_nf c19)]; rw [if_neg (b_nf c26)]; rw [if_neg (b_nt c33)]; try (first | rfl | (dsimp only; try rfl)), by unfold mX6_hidden; simp only [ix_nI (show q < 2147483648 by omega)]; rw [if_pos c4]; rw [if_neg (b_nf c19)]; rw [if_neg (b_nf c26)]; rw [if_neg (b_nt c33)]; dsimp only; exact ⟨_, scs_in _⟩⟩) dX6_hidden_38
  · refine lv_ldc hC.1 hC.2.1 hC.2.2.2.1 (hC.2.2.2.2 _ q1294) dX6_hidden_7 ?_
    exact m_iret hC hlk hr hw rfl (⟨by unfold mX6_hidden; rw [if_neg (not_not_intro c4)]; try (first | rfl | (dsimp only; try rfl)), by unfold mX6_hidden; rw [if_neg (not_not_intro c4)]; dsimp only; exact ⟨_, scs_in _⟩⟩) dX6_hidden_9

noncomputable def mX6_walls (G : mG) (cell : Int32) (v : Int32) (k : Int32) : Int32 × mG := if ¬ (G 0 4) = 0 then if (inB cell 0 (nI 15)) = false then ((-1000001 : Int32), G) else if (inB v 0 (nI 99)) = false then ((-1000001 : Int32), G) else if (inB k (-1) (nI 1)) = true then (wallsV (G 6) (ix cell) v k, G) else ((-1000001 : Int32), G) else ((-1000002 : Int32), G)
set_option maxHeartbeats 4000000 in
theorem tX6_walls (l : Launch) (G : mG) (cell : Int32) (v : Int32) (k : Int32) : mI l yX6_walls cX6_walls 6 .int ({ frames := 6, cells := 0, slots := 0, locals := 141 } : Room) [.int cell, .int v, .int k] G (fun r G' => r = ((mX6_walls G cell v k).1) ∧ ∃ X, G' = scs (mX6_walls G cell v k).2 X (G 6)) := by
  refine mI.of (by decide) rfl (fun _ => Nat.le_of_ble_eq_true rfl) ?_
  intro D dA ad p e s m below meth cd ls hC hlk hr hK hl hw
  have hl : lv_has ls 6 [(0, .ref (ad 0)), (1, .int cell), (2, .int v), (3, .int k)] := hl
  refine lv_aload_n hC.1 hC.2.1 dX6_walls_0 rfl (lv_at hl 0 rfl) ?_
  refine m_gi hC hK hw 4 (by decide) rfl q1120 rfl (v := (G 0 4)) (rfl) dX6_walls_1 ?_
  refine lv_if_ne (tgt := 10) hC.1 hC.2.1 dX6_walls_4 (by decide) (fun c4 => ?_) (fun c4 => ?_)
  · refine lv_iload_n hC.1 hC.2.1 dX6_walls_10 rfl (lv_at hl 1 rfl) ?_
    refine pS_call (n := 1) hC hl.1 (tX6_isCell l cell ) (lw_S q1295 q1296 q66 q1297) rfl rfl (by decide +kernel) ⟨by decide, by decide⟩ rfl rfl (Nat.le_of_ble_eq_true rfl) dX6_walls_11 ⟨Nat.zero_le _, Nat.zero_le _⟩ ?_
    refine k_beq (tgt := 41) hC dX6_walls_14 (by decide) (fun c14 => ?_) (fun c14 => ?_)
    · refine lv_ldc hC.1 hC.2.1 hC.2.2.2.1 (hC.2.2.2.2 _ q1214) dX6_walls_41 ?_
      exact m_iret hC hlk hr hw rfl (⟨by unfold mX6_walls; rw [if_pos c4]; rw [if_pos c14]; try (first | rfl | (dsimp only; try rfl)), by unfold mX6_walls; rw [if_pos c4]; rw [if_pos c14]; dsimp only; exact ⟨_, scs_in _⟩⟩) dX6_walls_43
    · refine lv_iload_n hC.1 hC.2.1 dX6_walls_17 rfl (lv_at hl 2 rfl) ?_
      refine lv_i2l hC.1 hC.2.1 dX6_walls_18 rfl ?_
      refine lv_lconst (v := 0) hC.1 hC.2.1 dX6_walls_19 (by decide) ?_
      refine lv_ldc2 hC.1 hC.2.1 hC.2.2.2.1 (hC.2.2.2.2 _ q1300) dX6_walls_20 ?_
      refine pS_call (n := 3) hC hl.1 (tX6_inI l v 0 (nI 99)) (lw_S q1210 q1211 q66 q1212) rfl rfl (by decide +kernel) ⟨by decide, by decide⟩ rfl rfl (Nat.le_of_ble_eq_true rfl) dX6_walls_23 ⟨Nat.zero_le _, Nat.zero_le _⟩ ?_
      refine k_beq (tgt := 41) hC dX6_walls_26 (by decide) (fun c26 => ?_) (fun c26 => ?_)
      · refine lv_ldc hC.1 hC.2.1 hC.2.2.2.1 (hC.2.2.2.2 _ q1214) dX6_walls_41 ?_
        exact m_iret hC hlk hr hw rfl (⟨by unfold mX6_walls; rw [if_pos c4]; rw [if_neg (b_nf c14)]; rw [if_pos c26]; try (first | rfl | (dsimp only; try rfl)), by unfold mX6_walls; rw [if_pos c4]; rw [if_neg (b_nf c14)]; rw [if_pos c26]; dsimp only; exact ⟨_, scs_in _⟩⟩) dX6_walls_43
      · refine lv_iload_n hC.1 hC.2.1 dX6_walls_29 rfl (lv_at hl 3 rfl) ?_
        refine lv_i2l hC.1 hC.2.1 dX6_walls_30 rfl ?_
        refine lv_ldc2 hC.1 hC.2.1 hC.2.2.2.1 (hC.2.2.2.2 _ q1412) dX6_walls_31 ?_
        refine lv_lconst (v := 1) hC.1 hC.2.1 dX6_walls_34 (by decide) ?_
        refine pS_call (n := 3) hC hl.1 (tX6_inI l k (-1) (nI 1)) (lw_S q1210 q1211 q66 q1212) rfl rfl (by decide +kernel) ⟨by decide, by decide⟩ rfl rfl (Nat.le_of_ble_eq_true rfl) dX6_walls_35 ⟨Nat.zero_le _, Nat.zero_le _⟩ ?_
        refine k_bne (tgt := 44) hC dX6_walls_38 (by decide) (fun c38 => ?_) (fun c38 => ?_)
        · obtain ⟨q, hq, rfl⟩ := inB_nat (n := 15) (by decide) c14
          replace hw := hw.eq (scs_in G)
          refine lv_aload_n hC.1 hC.2.1 dX6_walls_44 rfl (lv_at hl 0 rfl) ?_
          refine lv_iload_n hC.1 hC.2.1 dX6_walls_45 rfl (lv_at hl 1 rfl) ?_
          refine m_calli (n := 1) hC hl.1 hK hw (tX6_feltNow l (scs G (G 19, G 0 19, G 0 20, G 24) (G 6)) q (by omega)) (lw_V q1359 q1361 qs45 q66 q1362) rfl rfl (by decide +kernel) ⟨by decide, by decide⟩ rfl rfl (Nat.le_of_ble_eq_true rfl) dX6_walls_46 ⟨Nat.zero_le _, Nat.zero_le _⟩ ?_
          rintro r2 G2 H locs ⟨hr2, hG2⟩ hw
          replace hw := hw.eq hG2
          replace hr2 : r2 = ((bl ((G 6))).1 q) := hr2
          rw [hr2]
          clear hr2 hG2
          replace hw := hw.eq (blow_scs _ _ _ _ _ _)
          refine lv_iload_n hC.1 hC.2.1 dX6_walls_49 rfl (lv_at hl 2 rfl) ?_
          refine lv_icmp_lt (tgt := 64) hC.1 hC.2.1 dX6_walls_50 (by decide) (fun c50 => ?_) (fun c50 => ?_)
          · refine lv_iconst (v := (nI 0)) hC.1 hC.2.1 dX6_walls_64 (by decide) ?_
            refine lv_istore (lv' := [(4, .int (nI 0)), (0, .ref (ad 0)), (1, .int (nI q)), (2, .int v), (3, .int k)]) hC.1 hC.2.1 dX6_walls_65 hl (by decide) rfl (fun ls hl => ?_)
            refine W.loop (fun ls a H locs => lv_has ls 6 [(0, .ref (ad 0)), (1, .int (nI q)), (2, .int v), (3, .int k), (4, .int (nI a))] ∧ (∃ f_ l_ b_ a_, mw D dA (nA mDom ad s.heap.size) s.heap ad (scs G (f_, l_, b_, a_) (G 6)) H locs) ∧ (a ≤ 16) ∧ (fstP (wl1 (G 6) q v) 16 0 = fstP (wl1 (G 6) q v) (16 - a) a)) 67 (fun _ => []) (fun a => 16 - a) ?_ 0 ⟨hl.sub' [1, 2, 3, 4, 0] (by rfl), ⟨_, _, _, _, hw⟩, by omega, rfl⟩
            rintro ls a H locs ⟨hl, ⟨f_, l_, b_, a_, hw⟩, ha, hE⟩ ih67
            refine lv_iload hC.1 hC.2.1 dX6_walls_67 (lv_at hl 4 rfl) ?_
            refine lv_bipush (v := (nI 16)) hC.1 hC.2.1 dX6_walls_69 (by decide) ?_
            refine k_ge (tgt := 121) hC (by omega) (by omega) dX6_walls_71 (by decide) (fun c71 => ?_) (fun c71 => ?_)
            · have hN := fst_end hE (by omega)
              clear hE ih67 ha
              refine lv_iconst (v := (nI 0)) hC.1 hC.2.1 dX6_walls_121 (by decide) ?_
              refine lv_istore (lv' := [(4, .int (nI 0)), (0, .ref (ad 0)), (1, .int (nI q)), (2, .int v), (3, .int k)]) hC.1 hC.2.1 dX6_walls_122 hl (by decide) rfl (fun ls hl => ?_)
              refine W.loop (fun ls d H locs => lv_has ls 6 [(0, .ref (ad 0)), (1, .int (nI q)), (2, .int v), (3, .int k), (4, .int (nI d))] ∧ (∃ f_ l_ b_ a_, mw D dA (nA mDom ad s.heap.size) s.heap ad (scs G (f_, l_, b_, a_) (G 6)) H locs) ∧ (d ≤ 16) ∧ (fstP (wl3 (G 6) q v) 16 0 = fstP (wl3 (G 6) q v) (16 - d) d)) 124 (fun _ => []) (fun d => 16 - d) ?_ 0 ⟨hl.sub' [1, 2, 3, 4, 0] (by rfl), ⟨_, _, _, _, hw⟩, by omega, rfl⟩
              rintro ls d H locs ⟨hl, ⟨f_, l_, b_, a_, hw⟩, hd, hF⟩ ih124
              refine lv_iload hC.1 hC.2.1 dX6_walls_124 (lv_at hl 4 rfl) ?_
              refine lv_bipush (v := (nI 16)) hC.1 hC.2.1 dX6_walls_126 (by decide) ?_
              refine k_ge (tgt := 207) hC (by omega) (by omega) dX6_walls_128 (by decide) (fun c128 => ?_) (fun c128 => ?_)
              · refine lv_ldc hC.1 hC.2.1 hC.2.2.2.1 (hC.2.2.2.2 _ q1363) dX6_walls_207 ?_
                exact m_iret hC hlk hr hw rfl (⟨by unfold mX6_walls; simp only [ix_nI (show q < 2147483648 by omega)]; rw [if_pos c4]; rw [if_neg (b_nf c14)]; rw [if_neg (b_nf c26)]; rw [if_pos c38]; dsimp only; unfold wallsV; rw [if_pos c50, hN, fst_end hF (by omega)], by unfold mX6_walls; simp only [ix_nI (show q < 2147483648 by omega)]; rw [if_pos c4]; rw [if_neg (b_nf c14)]; rw [if_neg (b_nf c26)]; rw [if_pos c38]; dsimp only; exact ⟨_, rfl⟩⟩) dX6_walls_209
              · refine lv_iload hC.1 hC.2.1 dX6_walls_131 (lv_at hl 4 rfl) ?_
                refine lv_iconst (v := (nI 1)) hC.1 hC.2.1 dX6_walls_133 (by decide) ?_
                refine k_add hC dX6_walls_134 ?_
                refine lv_istore (lv' := [(5, .int (nI (d + 1))), (0, .ref (ad 0)), (1, .int (nI q)), (2, .int v), (3, .int k), (4, .int (nI d))]) hC.1 hC.2.1 dX6_walls_135 hl (by decide) rfl (fun ls hl => ?_)
                refine W.loop (fun ls t H locs => lv_has ls 6 [(0, .ref (ad 0)), (1, .int (nI q)), (2, .int v), (3, .int k), (4, .int (nI d)), (5, .int (nI (d + 1 + t)))] ∧ (∃ f_ l_ b_ a_, mw D dA (nA mDom ad s.heap.size) s.heap ad (scs G (f_, l_, b_, a_) (G 6)) H locs) ∧ (t ≤ 15 - d) ∧ (fstP (fun t => wl2 (G 6) q v d (d + 1 + t)) (15 - d) 0 = fstP (fun t => wl2 (G 6) q v d (d + 1 + t)) (15 - d - t) t)) 137 (fun _ => []) (fun t => 15 - d - t) ?_ 0 ⟨hl.sub' [1, 2, 3, 4, 5, 0] (by rfl), ⟨_, _, _, _, hw⟩, by omega, rfl⟩
                rintro ls t H locs ⟨hl, ⟨f_, l_, b_, a_, hw⟩, ht, hI⟩ ih137
                refine lv_iload hC.1 hC.2.1 dX6_walls_137 (lv_at hl 5 rfl) ?_
                refine lv_bipush (v := (nI 16)) hC.1 hC.2.1 dX6_walls_139 (by decide) ?_
                refine k_ge (tgt := 201) hC (by omega) (by omega) dX6_walls_141 (by decide) (fun c141 => ?_) (fun c141 => ?_)
                · refine k_iinc (k := 4) (d := 1) (lv' := [(4, .int (nI (d + 1))), (0, .ref (ad 0)), (1, .int (nI q)), (2, .int v), (3, .int k), (5, .int (nI (d + 1 + t)))]) hC dX6_walls_201 hl rfl (by decide) (by decide) rfl (fun ls hl => ?_)
                  refine lv_goto (tgt := 124) hC.1 hC.2.1 dX6_walls_204 (by decide) ?_
                  exact ih124 ls (d + 1) H locs ⟨hl.sub' [1, 2, 3, 4, 0] (by rfl), ⟨_, _, _, _, hw⟩, by omega, fst_next hF (by omega) (wl3_f (fst_end hI (by omega)))⟩ (by omega)
                · refine lv_aload_n hC.1 hC.2.1 dX6_walls_144 rfl (lv_at hl 0 rfl) ?_
                  refine lv_iload hC.1 hC.2.1 dX6_walls_145 (lv_at hl 4 rfl) ?_
                  refine m_calli (n := 1) hC hl.1 hK hw (tX6_isWork l (scs G (f_, l_, b_, a_) (G 6)) d (by omega)) (lw_V q1301 q1303 qs38 q66 q1304) rfl rfl (by decide +kernel) ⟨by decide, by decide⟩ rfl rfl (Nat.le_of_ble_eq_true rfl) dX6_walls_147 ⟨Nat.zero_le _, Nat.zero_le _⟩ ?_
                  rintro r2 G2 H locs ⟨hr2, hG2⟩ hw
                  replace hw := hw.eq hG2
                  replace hr2 : r2 = (bI (isWk ((G 6)) d)) := hr2
                  rw [hr2]
                  clear hr2 hG2
                  refine k_bne (tgt := 195) hC dX6_walls_150 (by decide) (fun c150 => ?_) (fun c150 => ?_)
                  · refine k_iinc (k := 5) (d := 1) (lv' := [(5, .int (nI ((d + 1 + t) + 1))), (0, .ref (ad 0)), (1, .int (nI q)), (2, .int v), (3, .int k), (4, .int (nI d))]) hC dX6_walls_195 hl rfl (by decide) (by decide) rfl (fun ls hl => ?_)
                    refine lv_goto (tgt := 137) hC.1 hC.2.1 dX6_walls_198 (by decide) ?_
                    exact ih137 ls (t + 1) H locs ⟨hl.sub' [1, 2, 3, 4, 5, 0] (by rfl), ⟨_, _, _, _, hw⟩, by omega, fst_next hI (by omega) (wl2_f1 c150)⟩ (by omega)
                  · refine lv_aload_n hC.1 hC.2.1 dX6_walls_153 rfl (lv_at hl 0 rfl) ?_
                    refine lv_iload hC.1 hC.2.1 dX6_walls_154 (lv_at hl 5 rfl) ?_
                    refine m_calli (n := 1) hC hl.1 hK hw (tX6_isWork l (scs G (f_, l_, b_, a_) (G 6)) (d + 1 + t) (by omega)) (lw_V q1301 q1303 qs38 q66 q1304) rfl rfl (by decide +kernel) ⟨by decide, by decide⟩ rfl rfl (Nat.le_of_ble_eq_true rfl) dX6_walls_156 ⟨Nat.zero_le _, Nat.zero_le _⟩ ?_
                    rintro r2 G2 H locs ⟨hr2, hG2⟩ hw
                    replace hw := hw.eq hG2
                    replace hr2 : r2 = (bI (isWk ((G 6)) (d + 1 + t))) := hr2
                    rw [hr2]
                    clear hr2 hG2
                    refine k_bne (tgt := 195) hC dX6_walls_159 (by decide) (fun c159 => ?_) (fun c159 => ?_)
                    · refine k_iinc (k := 5) (d := 1) (lv' := [(5, .int (nI ((d + 1 + t) + 1))), (0, .ref (ad 0)), (1, .int (nI q)), (2, .int v), (3, .int k), (4, .int (nI d))]) hC dX6_walls_195 hl rfl (by decide) (by decide) rfl (fun ls hl => ?_)
                      refine lv_goto (tgt := 137) hC.1 hC.2.1 dX6_walls_198 (by decide) ?_
                      exact ih137 ls (t + 1) H locs ⟨hl.sub' [1, 2, 3, 4, 5, 0] (by rfl), ⟨_, _, _, _, hw⟩, by omega, fst_next hI (by omega) (wl2_f2 c159)⟩ (by omega)
                    · refine lv_aload_n hC.1 hC.2.1 dX6_walls_162 rfl (lv_at hl 0 rfl) ?_
                      refine lv_iload_n hC.1 hC.2.1 dX6_walls_163 rfl (lv_at hl 1 rfl) ?_
                      refine lv_iload hC.1 hC.2.1 dX6_walls_164 (lv_at hl 4 rfl) ?_
                      refine lv_iload hC.1 hC.2.1 dX6_walls_166 (lv_at hl 5 rfl) ?_
                      refine m_calli (n := 3) hC hl.1 hK hw (tX6_feltWith l (scs G (f_, l_, b_, a_) (G 6)) q d (nI (d + 1 + t)) (by omega) (by omega) (Or.inr ⟨_, by omega, rfl⟩)) (lw_V q1413 q1415 qs50 q66 q1416) rfl rfl (by decide +kernel) ⟨by decide, by decide⟩ rfl rfl (Nat.le_of_ble_eq_true rfl) dX6_walls_168 ⟨Nat.zero_le _, Nat.zero_le _⟩ ?_
                      rintro r2 G2 H locs ⟨hr2, hG2⟩ hw
                      replace hw := hw.eq hG2
                      replace hr2 : r2 = ((bl (fwS ((G 6)) d (nI (d + 1 + t)))).1 q) := hr2
                      rw [hr2]
                      clear hr2 hG2
                      replace hw := hw.eq (fw_scs _ _ _ _ _ _ _ _)
                      refine lv_iload_n hC.1 hC.2.1 dX6_walls_171 rfl (lv_at hl 2 rfl) ?_
                      refine lv_icmp_lt (tgt := 195) hC.1 hC.2.1 dX6_walls_172 (by decide) (fun c172 => ?_) (fun c172 => ?_)
                      · refine k_iinc (k := 5) (d := 1) (lv' := [(5, .int (nI ((d + 1 + t) + 1))), (0, .ref (ad 0)), (1, .int (nI q)), (2, .int v), (3, .int k), (4, .int (nI d))]) hC dX6_walls_195 hl rfl (by decide) (by decide) rfl (fun ls hl => ?_)
                        refine lv_goto (tgt := 137) hC.1 hC.2.1 dX6_walls_198 (by decide) ?_
                        exact ih137 ls (t + 1) H locs ⟨hl.sub' [1, 2, 3, 4, 5, 0] (by rfl), ⟨_, _, _, _, hw⟩, by omega, fst_next hI (by omega) (wl2_f3 (by omega) c172)⟩ (by omega)
                      · refine lv_iload_n hC.1 hC.2.1 dX6_walls_175 rfl (lv_at hl 3 rfl) ?_
                        refine lv_if_ge (tgt := 183) hC.1 hC.2.1 dX6_walls_176 (by decide) (fun c176 => ?_) (fun c176 => ?_)
                        · refine lv_iload_n hC.1 hC.2.1 dX6_walls_183 rfl (lv_at hl 3 rfl) ?_
                          refine lv_if_ne (tgt := 192) hC.1 hC.2.1 dX6_walls_184 (by decide) (fun c184 => ?_) (fun c184 => ?_)
                          · refine lv_iload hC.1 hC.2.1 dX6_walls_192 (lv_at hl 5 rfl) ?_
                            exact m_iret hC hlk hr hw rfl (⟨by unfold mX6_walls; simp only [ix_nI (show q < 2147483648 by omega)]; rw [if_pos c4]; rw [if_neg (b_nf c14)]; rw [if_neg (b_nf c26)]; rw [if_pos c38]; dsimp only; unfold wallsV; have h2 : wl2b (G 6) q v d = some t := fst_hit hI (by omega) (wl2_t (by omega) c150 c159 c172); rw [if_pos c50, hN, fst_hit hF (by omega) (wl3_t h2)]; dsimp only; rw [if_pos c176, if_pos c184]; rw [h2]; rfl, by unfold mX6_walls; simp only [ix_nI (show q < 2147483648 by omega)]; rw [if_pos c4]; rw [if_neg (b_nf c14)]; rw [if_neg (b_nf c26)]; rw [if_pos c38]; dsimp only; exact ⟨_, rfl⟩⟩) dX6_walls_194
                          · refine lv_iload hC.1 hC.2.1 dX6_walls_187 (lv_at hl 4 rfl) ?_
                            refine lv_goto (tgt := 194) hC.1 hC.2.1 dX6_walls_189 (by decide) ?_
                            exact m_iret hC hlk hr hw rfl (⟨by unfold mX6_walls; simp only [ix_nI (show q < 2147483648 by omega)]; rw [if_pos c4]; rw [if_neg (b_nf c14)]; rw [if_neg (b_nf c26)]; rw [if_pos c38]; dsimp only; unfold wallsV; have h2 : wl2b (G 6) q v d = some t := fst_hit hI (by omega) (wl2_t (by omega) c150 c159 c172); rw [if_pos c50, hN, fst_hit hF (by omega) (wl3_t h2)]; dsimp only; rw [if_pos c176, if_neg (not_not_intro c184)], by unfold mX6_walls; simp only [ix_nI (show q < 2147483648 by omega)]; rw [if_pos c4]; rw [if_neg (b_nf c14)]; rw [if_neg (b_nf c26)]; rw [if_pos c38]; dsimp only; exact ⟨_, rfl⟩⟩) dX6_walls_194
                        · refine lv_iconst (v := (nI 2)) hC.1 hC.2.1 dX6_walls_179 (by decide) ?_
                          refine lv_goto (tgt := 194) hC.1 hC.2.1 dX6_walls_180 (by decide) ?_
                          exact m_iret hC hlk hr hw rfl (⟨by unfold mX6_walls; simp only [ix_nI (show q < 2147483648 by omega)]; rw [if_pos c4]; rw [if_neg (b_nf c14)]; rw [if_neg (b_nf c26)]; rw [if_pos c38]; dsimp only; unfold wallsV; have h2 : wl2b (G 6) q v d = some t := fst_hit hI (by omega) (wl2_t (by omega) c150 c159 c172); rw [if_pos c50, hN, fst_hit hF (by omega) (wl3_t h2)]; dsimp only; rw [if_neg c176], by unfold mX6_walls; simp only [ix_nI (show q < 2147483648 by omega)]; rw [if_pos c4]; rw [if_neg (b_nf c14)]; rw [if_neg (b_nf c26)]; rw [if_pos c38]; dsimp only; exact ⟨_, rfl⟩⟩) dX6_walls_194
            · refine lv_aload_n hC.1 hC.2.1 dX6_walls_74 rfl (lv_at hl 0 rfl) ?_
              refine lv_iload hC.1 hC.2.1 dX6_walls_75 (lv_at hl 4 rfl) ?_
              refine m_calli (n := 1) hC hl.1 hK hw (tX6_isWork l (scs G (f_, l_, b_, a_) (G 6)) a (by omega)) (lw_V q1301 q1303 qs38 q66 q1304) rfl rfl (by decide +kernel) ⟨by decide, by decide⟩ rfl rfl (Nat.le_of_ble_eq_true rfl) dX6_walls_77 ⟨Nat.zero_le _, Nat.zero_le _⟩ ?_
              rintro r2 G2 H locs ⟨hr2, hG2⟩ hw
              replace hw := hw.eq hG2
              replace hr2 : r2 = (bI (isWk ((G 6)) a)) := hr2
              rw [hr2]
              clear hr2 hG2
              refine k_bne (tgt := 115) hC dX6_walls_80 (by decide) (fun c80 => ?_) (fun c80 => ?_)
              · refine k_iinc (k := 4) (d := 1) (lv' := [(4, .int (nI (a + 1))), (0, .ref (ad 0)), (1, .int (nI q)), (2, .int v), (3, .int k)]) hC dX6_walls_115 hl rfl (by decide) (by decide) rfl (fun ls hl => ?_)
                refine lv_goto (tgt := 67) hC.1 hC.2.1 dX6_walls_118 (by decide) ?_
                exact ih67 ls (a + 1) H locs ⟨hl.sub' [1, 2, 3, 4, 0] (by rfl), ⟨_, _, _, _, hw⟩, by omega, fst_next hE (by omega) (wl1_f1 c80)⟩ (by omega)
              · refine lv_aload_n hC.1 hC.2.1 dX6_walls_83 rfl (lv_at hl 0 rfl) ?_
                refine lv_iload_n hC.1 hC.2.1 dX6_walls_84 rfl (lv_at hl 1 rfl) ?_
                refine lv_iload hC.1 hC.2.1 dX6_walls_85 (lv_at hl 4 rfl) ?_
                refine lv_iconst (v := (-1)) hC.1 hC.2.1 dX6_walls_87 (by decide) ?_
                refine m_calli (n := 3) hC hl.1 hK hw (tX6_feltWith l (scs G (f_, l_, b_, a_) (G 6)) q a (-1 : Int32) (by omega) (by omega) (Or.inl rfl)) (lw_V q1413 q1415 qs50 q66 q1416) rfl rfl (by decide +kernel) ⟨by decide, by decide⟩ rfl rfl (Nat.le_of_ble_eq_true rfl) dX6_walls_88 ⟨Nat.zero_le _, Nat.zero_le _⟩ ?_
                rintro r2 G2 H locs ⟨hr2, hG2⟩ hw
                replace hw := hw.eq hG2
                replace hr2 : r2 = ((bl (fwS ((G 6)) a (-1 : Int32))).1 q) := hr2
                rw [hr2]
                clear hr2 hG2
                replace hw := hw.eq (fw_scs _ _ _ _ _ _ _ _)
                refine lv_iload_n hC.1 hC.2.1 dX6_walls_91 rfl (lv_at hl 2 rfl) ?_
                refine lv_icmp_lt (tgt := 115) hC.1 hC.2.1 dX6_walls_92 (by decide) (fun c92 => ?_) (fun c92 => ?_)
                · refine k_iinc (k := 4) (d := 1) (lv' := [(4, .int (nI (a + 1))), (0, .ref (ad 0)), (1, .int (nI q)), (2, .int v), (3, .int k)]) hC dX6_walls_115 hl rfl (by decide) (by decide) rfl (fun ls hl => ?_)
                  refine lv_goto (tgt := 67) hC.1 hC.2.1 dX6_walls_118 (by decide) ?_
                  exact ih67 ls (a + 1) H locs ⟨hl.sub' [1, 2, 3, 4, 0] (by rfl), ⟨_, _, _, _, hw⟩, by omega, fst_next hE (by omega) (wl1_f2 c92)⟩ (by omega)
                · refine lv_iload_n hC.1 hC.2.1 dX6_walls_95 rfl (lv_at hl 3 rfl) ?_
                  refine lv_if_ge (tgt := 103) hC.1 hC.2.1 dX6_walls_96 (by decide) (fun c96 => ?_) (fun c96 => ?_)
                  · refine lv_iload_n hC.1 hC.2.1 dX6_walls_103 rfl (lv_at hl 3 rfl) ?_
                    refine lv_if_ne (tgt := 112) hC.1 hC.2.1 dX6_walls_104 (by decide) (fun c104 => ?_) (fun c104 => ?_)
                    · refine lv_ldc hC.1 hC.2.1 hC.2.2.2.1 (hC.2.2.2.2 _ q1363) dX6_walls_112 ?_
                      exact m_iret hC hlk hr hw rfl (⟨by unfold mX6_walls; simp only [ix_nI (show q < 2147483648 by omega)]; rw [if_pos c4]; rw [if_neg (b_nf c14)]; rw [if_neg (b_nf c26)]; rw [if_pos c38]; dsimp only; unfold wallsV; rw [if_pos c50, fst_hit hE (by omega) (wl1_t c80 c92)]; dsimp only; rw [if_pos c96, if_pos c104], by unfold mX6_walls; simp only [ix_nI (show q < 2147483648 by omega)]; rw [if_pos c4]; rw [if_neg (b_nf c14)]; rw [if_neg (b_nf c26)]; rw [if_pos c38]; dsimp only; exact ⟨_, rfl⟩⟩) dX6_walls_114
                    · refine lv_iload hC.1 hC.2.1 dX6_walls_107 (lv_at hl 4 rfl) ?_
                      refine lv_goto (tgt := 114) hC.1 hC.2.1 dX6_walls_109 (by decide) ?_
                      exact m_iret hC hlk hr hw rfl (⟨by unfold mX6_walls; simp only [ix_nI (show q < 2147483648 by omega)]; rw [if_pos c4]; rw [if_neg (b_nf c14)]; rw [if_neg (b_nf c26)]; rw [if_pos c38]; dsimp only; unfold wallsV; rw [if_pos c50, fst_hit hE (by omega) (wl1_t c80 c92)]; dsimp only; rw [if_pos c96, if_neg (not_not_intro c104)], by unfold mX6_walls; simp only [ix_nI (show q < 2147483648 by omega)]; rw [if_pos c4]; rw [if_neg (b_nf c14)]; rw [if_neg (b_nf c26)]; rw [if_pos c38]; dsimp only; exact ⟨_, rfl⟩⟩) dX6_walls_114
                  · refine lv_iconst (v := (nI 1)) hC.1 hC.2.1 dX6_walls_99 (by decide) ?_
                    refine lv_goto (tgt := 114) hC.1 hC.2.1 dX6_walls_100 (by decide) ?_
                    exact m_iret hC hlk hr hw rfl (⟨by unfold mX6_walls; simp only [ix_nI (show q < 2147483648 by omega)]; rw [if_pos c4]; rw [if_neg (b_nf c14)]; rw [if_neg (b_nf c26)]; rw [if_pos c38]; dsimp only; unfold wallsV; rw [if_pos c50, fst_hit hE (by omega) (wl1_t c80 c92)]; dsimp only; rw [if_neg c96], by unfold mX6_walls; simp only [ix_nI (show q < 2147483648 by omega)]; rw [if_pos c4]; rw [if_neg (b_nf c14)]; rw [if_neg (b_nf c26)]; rw [if_pos c38]; dsimp only; exact ⟨_, rfl⟩⟩) dX6_walls_114
          · refine lv_iload_n hC.1 hC.2.1 dX6_walls_53 rfl (lv_at hl 3 rfl) ?_
            refine lv_if_ge (tgt := 61) hC.1 hC.2.1 dX6_walls_54 (by decide) (fun c54 => ?_) (fun c54 => ?_)
            · refine lv_ldc hC.1 hC.2.1 hC.2.2.2.1 (hC.2.2.2.2 _ q1363) dX6_walls_61 ?_
              exact m_iret hC hlk hr hw rfl (⟨by unfold mX6_walls; simp only [ix_nI (show q < 2147483648 by omega)]; rw [if_pos c4]; rw [if_neg (b_nf c14)]; rw [if_neg (b_nf c26)]; rw [if_pos c38]; dsimp only; unfold wallsV; rw [if_neg c50, if_pos c54], by unfold mX6_walls; simp only [ix_nI (show q < 2147483648 by omega)]; rw [if_pos c4]; rw [if_neg (b_nf c14)]; rw [if_neg (b_nf c26)]; rw [if_pos c38]; dsimp only; exact ⟨_, rfl⟩⟩) dX6_walls_63
            · refine lv_iconst (v := (nI 0)) hC.1 hC.2.1 dX6_walls_57 (by decide) ?_
              refine lv_goto (tgt := 63) hC.1 hC.2.1 dX6_walls_58 (by decide) ?_
              exact m_iret hC hlk hr hw rfl (⟨by unfold mX6_walls; simp only [ix_nI (show q < 2147483648 by omega)]; rw [if_pos c4]; rw [if_neg (b_nf c14)]; rw [if_neg (b_nf c26)]; rw [if_pos c38]; dsimp only; unfold wallsV; rw [if_neg c50, if_neg c54], by unfold mX6_walls; simp only [ix_nI (show q < 2147483648 by omega)]; rw [if_pos c4]; rw [if_neg (b_nf c14)]; rw [if_neg (b_nf c26)]; rw [if_pos c38]; dsimp only; exact ⟨_, rfl⟩⟩) dX6_walls_63
        · refine lv_ldc hC.1 hC.2.1 hC.2.2.2.1 (hC.2.2.2.2 _ q1214) dX6_walls_41 ?_
          exact m_iret hC hlk hr hw rfl (⟨by unfold mX6_walls; rw [if_pos c4]; rw [if_neg (b_nf c14)]; rw [if_neg (b_nf c26)]; rw [if_neg (b_nt c38)]; try (first | rfl | (dsimp only; try rfl)), by unfold mX6_walls; rw [if_pos c4]; rw [if_neg (b_nf c14)]; rw [if_neg (b_nf c26)]; rw [if_neg (b_nt c38)]; dsimp only; exact ⟨_, scs_in _⟩⟩) dX6_walls_43
  · refine lv_ldc hC.1 hC.2.1 hC.2.2.2.1 (hC.2.2.2.2 _ q1294) dX6_walls_7 ?_
    exact m_iret hC hlk hr hw rfl (⟨by unfold mX6_walls; rw [if_neg (not_not_intro c4)]; try (first | rfl | (dsimp only; try rfl)), by unfold mX6_walls; rw [if_neg (not_not_intro c4)]; dsimp only; exact ⟨_, scs_in _⟩⟩) dX6_walls_9

noncomputable def mX6_breaks (G : mG) (what : Int32) : Int32 × mG := if ¬ (G 0 4) = 0 then if (inB what 0 (nI 1)) = true then (brV (G 6) what, G) else ((-1000001 : Int32), G) else ((-1000002 : Int32), G)
set_option maxHeartbeats 4000000 in
theorem tX6_breaks (l : Launch) (G : mG) (what : Int32) : mI l yX6_breaks cX6_breaks 5 .int ({ frames := 5, cells := 0, slots := 0, locals := 117 } : Room) [.int what] G (fun r G' => r = ((mX6_breaks G what).1) ∧ ∃ X, G' = scs (mX6_breaks G what).2 X (G 6)) := by
  refine mI.of (by decide) rfl (fun _ => Nat.le_of_ble_eq_true rfl) ?_
  intro D dA ad p e s m below meth cd ls hC hlk hr hK hl hw
  have hl : lv_has ls 5 [(0, .ref (ad 0)), (1, .int what)] := hl
  refine lv_aload_n hC.1 hC.2.1 dX6_breaks_0 rfl (lv_at hl 0 rfl) ?_
  refine m_gi hC hK hw 4 (by decide) rfl q1120 rfl (v := (G 0 4)) (rfl) dX6_breaks_1 ?_
  refine lv_if_ne (tgt := 10) hC.1 hC.2.1 dX6_breaks_4 (by decide) (fun c4 => ?_) (fun c4 => ?_)
  · refine lv_iload_n hC.1 hC.2.1 dX6_breaks_10 rfl (lv_at hl 1 rfl) ?_
    refine lv_i2l hC.1 hC.2.1 dX6_breaks_11 rfl ?_
    refine lv_lconst (v := 0) hC.1 hC.2.1 dX6_breaks_12 (by decide) ?_
    refine lv_lconst (v := 1) hC.1 hC.2.1 dX6_breaks_13 (by decide) ?_
    refine pS_call (n := 3) hC hl.1 (tX6_inI l what 0 (nI 1)) (lw_S q1210 q1211 q66 q1212) rfl rfl (by decide +kernel) ⟨by decide, by decide⟩ rfl rfl (Nat.le_of_ble_eq_true rfl) dX6_breaks_14 ⟨Nat.zero_le _, Nat.zero_le _⟩ ?_
    refine k_bne (tgt := 23) hC dX6_breaks_17 (by decide) (fun c17 => ?_) (fun c17 => ?_)
    · replace hw := hw.eq (scs_in G)
      refine lv_aload_n hC.1 hC.2.1 dX6_breaks_23 rfl (lv_at hl 0 rfl) ?_
      refine m_callv (n := 0) hC hl.1 hK hw (tX6_putAside l (scs G (G 19, G 0 19, G 0 20, G 24) (G 6))  ) (lw_V q1377 q1379 qs47 q66 q1380) rfl rfl (by decide +kernel) ⟨by decide, by decide⟩ rfl rfl (Nat.le_of_ble_eq_true rfl) dX6_breaks_24 ⟨Nat.zero_le _, Nat.zero_le _⟩ ?_
      rintro G2 H locs hG2 hw
      replace hw := hw.eq hG2
      clear hG2
      replace hw := hw.eq (aside_scs _ _ _ _ _ _)
      refine lv_iconst (v := (nI 0)) hC.1 hC.2.1 dX6_breaks_27 (by decide) ?_
      refine lv_istore_n (lv' := [(2, .int (nI 0)), (0, .ref (ad 0)), (1, .int what)]) hC.1 hC.2.1 dX6_breaks_28 rfl hl (by decide) rfl (fun ls hl => ?_)
      refine lv_aload_n hC.1 hC.2.1 dX6_breaks_29 rfl (lv_at hl 1 rfl) ?_
      refine lv_iconst (v := (nI 0)) hC.1 hC.2.1 dX6_breaks_30 (by decide) ?_
      refine m_pi hC hK hw 20 (by decide) rfl rfl q1136 rfl rfl rfl rfl dX6_breaks_31 (fun H locs hw => ?_)
      replace hw := hw.eq (g2_scs20 _ _ _ _ _ _ _)
      replace hw := hw.eq (brS_0 _ _ _ _)
      refine W.loop (fun ls z H locs => lv_has ls 5 [(0, .ref (ad 0)), (1, .int what), (2, .int (nI z))] ∧ (∃ f_ l_, mw D dA (nA mDom ad s.heap.size) s.heap ad (scs G (f_, l_, brB (G 6) z, G 6) (stN (G 6) z)) H locs) ∧ (z ≤ 40) ∧ (brR (G 6) = brL (G 6) (40 - z) z (brB (G 6) z))) 34 (fun _ => []) (fun z => 40 - z) ?_ 0 ⟨hl.sub' [1, 2, 0] (by rfl), ⟨_, _, hw⟩, by decide, brR_eq _⟩
      rintro ls z H locs ⟨hl, ⟨f_, l_, hw⟩, hz, hB⟩ ih34
      refine lv_iload_n hC.1 hC.2.1 dX6_breaks_34 rfl (lv_at hl 2 rfl) ?_
      refine lv_bipush (v := (nI 40)) hC.1 hC.2.1 dX6_breaks_35 (by decide) ?_
      refine k_ge (tgt := 57) hC (by omega) (by omega) dX6_breaks_37 (by decide) (fun c37 => ?_) (fun c37 => ?_)
      · have hX : brR (G 6) = (z, brB (G 6) z) := brL_end hB (by omega)
        refine lv_aload_n hC.1 hC.2.1 dX6_breaks_57 rfl (lv_at hl 0 rfl) ?_
        refine m_callv (n := 0) hC hl.1 hK hw (tX6_takeBack l (scs G (f_, l_, brB (G 6) z, G 6) (stN (G 6) z))  ) (lw_V q1381 q1383 qs48 q66 q1384) rfl rfl (by decide +kernel) ⟨by decide, by decide⟩ rfl rfl (Nat.le_of_ble_eq_true rfl) dX6_breaks_58 ⟨Nat.zero_le _, Nat.zero_le _⟩ ?_
        rintro G2 H locs hG2 hw
        replace hw := hw.eq hG2
        clear hG2
        replace hw := hw.eq (back_scs _ _ _ _ _ _)
        refine lv_ldc hC.1 hC.2.1 hC.2.2.2.1 (hC.2.2.2.2 _ q1363) dX6_breaks_61 ?_
        refine lv_istore_n (lv' := [(3, .int (-1000000 : Int32)), (0, .ref (ad 0)), (1, .int what), (2, .int (nI z))]) hC.1 hC.2.1 dX6_breaks_63 rfl hl (by decide) rfl (fun ls hl => ?_)
        refine lv_bipush (v := (nI 15)) hC.1 hC.2.1 dX6_breaks_64 (by decide) ?_
        refine lv_istore (lv' := [(4, .int (nI 15)), (3, .int (-1000000 : Int32)), (0, .ref (ad 0)), (1, .int what), (2, .int (nI z))]) hC.1 hC.2.1 dX6_breaks_66 hl (by decide) rfl (fun ls hl => ?_)
        refine W.loop (fun ls t H locs => lv_has ls 5 [(0, .ref (ad 0)), (1, .int what), (2, .int (nI z)), (3, .int (lowG (brB (G 6) z) t)), (4, .int (cdn t))] ∧ (∃ f_ l_, mw D dA (nA mDom ad s.heap.size) s.heap ad (scs G (f_, l_, (brB (G 6) z), G 6) (G 6)) H locs) ∧ (t ≤ 16)) 68 (fun _ => []) (fun t => 16 - t) ?_ 0 ⟨hl.sub' [2, 3, 4, 1, 0] (by rw [cdn_0]; rfl), ⟨_, _, hw⟩, by omega⟩
        rintro ls t H locs ⟨hl, ⟨f_, l_, hw⟩, ht⟩ ih68
        refine lv_iload hC.1 hC.2.1 dX6_breaks_68 (lv_at hl 4 rfl) ?_
        refine lv_if_lt (tgt := 98) hC.1 hC.2.1 dX6_breaks_70 (by decide) (fun c70 => ?_) (fun c70 => ?_)
        · have e_t : t = 16 := by rcases Nat.lt_or_ge t 16 with h | h; exact absurd c70 (cdn_ge t h); omega
          subst e_t
          refine lv_iload_n hC.1 hC.2.1 dX6_breaks_98 rfl (lv_at hl 3 rfl) ?_
          refine lv_if_ge (tgt := 107) hC.1 hC.2.1 dX6_breaks_99 (by decide) (fun c99 => ?_) (fun c99 => ?_)
          · refine lv_iload_n hC.1 hC.2.1 dX6_breaks_107 rfl (lv_at hl 1 rfl) ?_
            refine lv_if_ne (tgt := 115) hC.1 hC.2.1 dX6_breaks_108 (by decide) (fun c108 => ?_) (fun c108 => ?_)
            · refine lv_iload_n hC.1 hC.2.1 dX6_breaks_115 rfl (lv_at hl 3 rfl) ?_
              exact m_iret hC hlk hr hw rfl (⟨by unfold mX6_breaks; rw [if_pos c4]; rw [if_pos c17]; dsimp only; unfold brV; rw [hX]; dsimp only; rw [if_pos c99, if_pos c108], by unfold mX6_breaks; rw [if_pos c4]; rw [if_pos c17]; dsimp only; exact ⟨_, rfl⟩⟩) dX6_breaks_116
            · refine lv_iload_n hC.1 hC.2.1 dX6_breaks_111 rfl (lv_at hl 2 rfl) ?_
              refine lv_goto (tgt := 116) hC.1 hC.2.1 dX6_breaks_112 (by decide) ?_
              exact m_iret hC hlk hr hw rfl (⟨by unfold mX6_breaks; rw [if_pos c4]; rw [if_pos c17]; dsimp only; unfold brV; rw [hX]; dsimp only; rw [if_pos c99, if_neg (not_not_intro c108)], by unfold mX6_breaks; rw [if_pos c4]; rw [if_pos c17]; dsimp only; exact ⟨_, rfl⟩⟩) dX6_breaks_116
          · refine lv_ldc hC.1 hC.2.1 hC.2.2.2.1 (hC.2.2.2.2 _ q1363) dX6_breaks_102 ?_
            refine lv_goto (tgt := 116) hC.1 hC.2.1 dX6_breaks_104 (by decide) ?_
            exact m_iret hC hlk hr hw rfl (⟨by unfold mX6_breaks; rw [if_pos c4]; rw [if_pos c17]; dsimp only; unfold brV; rw [hX]; dsimp only; rw [if_neg c99], by unfold mX6_breaks; rw [if_pos c4]; rw [if_pos c17]; dsimp only; exact ⟨_, rfl⟩⟩) dX6_breaks_116
        · refine lv_aload_n hC.1 hC.2.1 dX6_breaks_73 rfl (lv_at hl 0 rfl) ?_
          refine m_gi hC hK hw 20 (by decide) rfl q1136 rfl (v := (brB (G 6) z)) (rfl) dX6_breaks_74 ?_
          refine lv_iload hC.1 hC.2.1 dX6_breaks_77 (lv_at hl 4 rfl) ?_
          refine pS_call (n := 2) hC hl.1 (tX6_has l (brB (G 6) z) (cdn t) ) (lw_S q1397 q1398 q66 q1399) rfl rfl (by decide +kernel) ⟨by decide, by decide⟩ rfl rfl (Nat.le_of_ble_eq_true rfl) dX6_breaks_79 ⟨Nat.zero_le _, Nat.zero_le _⟩ ?_
          refine k_beq (tgt := 90) hC dX6_breaks_82 (by decide) (fun c82 => ?_) (fun c82 => ?_)
          · refine lv_iload_n hC.1 hC.2.1 dX6_breaks_90 rfl (lv_at hl 3 rfl) ?_
            refine lv_istore_n (lv' := [(3, .int (lowG (brB (G 6) z) t)), (0, .ref (ad 0)), (1, .int what), (2, .int (nI z)), (4, .int (cdn t))]) hC.1 hC.2.1 dX6_breaks_91 rfl hl (by decide) rfl (fun ls hl => ?_)
            refine lv_iinc (v := (cdn t) + (-1)) (k := 4) (lv' := [(4, .int ((cdn t) + (-1))), (3, .int (lowG (brB (G 6) z) t)), (0, .ref (ad 0)), (1, .int what), (2, .int (nI z))]) hC.1 hC.2.1 dX6_breaks_92 hl rfl (k_im1 _) (by decide) rfl (fun ls hl => ?_)
            refine lv_goto (tgt := 68) hC.1 hC.2.1 dX6_breaks_95 (by decide) ?_
            have e5 := low_f c82
            have ht16 : t < 16 := by rcases Nat.lt_or_ge t 16 with h | h; exact h; exact absurd (show cdn t < 0 by rw [show t = 16 by omega]; decide) c70
            exact ih68 ls (t + 1) H locs ⟨hl.sub' [2, 3, 4, 1, 0] (by rw [e5, ← cdn_step]; rfl), ⟨_, _, hw⟩, by omega⟩ (by omega)
          · refine lv_iload hC.1 hC.2.1 dX6_breaks_85 (lv_at hl 4 rfl) ?_
            refine lv_goto (tgt := 91) hC.1 hC.2.1 dX6_breaks_87 (by decide) ?_
            refine lv_istore_n (lv' := [(3, .int (cdn t)), (0, .ref (ad 0)), (1, .int what), (2, .int (nI z)), (4, .int (cdn t))]) hC.1 hC.2.1 dX6_breaks_91 rfl hl (by decide) rfl (fun ls hl => ?_)
            refine lv_iinc (v := (cdn t) + (-1)) (k := 4) (lv' := [(4, .int ((cdn t) + (-1))), (3, .int (cdn t)), (0, .ref (ad 0)), (1, .int what), (2, .int (nI z))]) hC.1 hC.2.1 dX6_breaks_92 hl rfl (k_im1 _) (by decide) rfl (fun ls hl => ?_)
            refine lv_goto (tgt := 68) hC.1 hC.2.1 dX6_breaks_95 (by decide) ?_
            have e5 := low_t c82
            have ht16 : t < 16 := by rcases Nat.lt_or_ge t 16 with h | h; exact h; exact absurd (show cdn t < 0 by rw [show t = 16 by omega]; decide) c70
            exact ih68 ls (t + 1) H locs ⟨hl.sub' [2, 3, 4, 1, 0] (by rw [e5, ← cdn_step]; rfl), ⟨_, _, hw⟩, by omega⟩ (by omega)
      · refine lv_aload_n hC.1 hC.2.1 dX6_breaks_40 rfl (lv_at hl 0 rfl) ?_
        refine m_gi hC hK hw 20 (by decide) rfl q1136 rfl (v := (brB (G 6) z)) (rfl) dX6_breaks_41 ?_
        refine lv_if_ne (tgt := 57) hC.1 hC.2.1 dX6_breaks_44 (by decide) (fun c44 => ?_) (fun c44 => ?_)
        · have hX : brR (G 6) = (z, brB (G 6) z) := brL_hit hB (by omega) c44
          refine lv_aload_n hC.1 hC.2.1 dX6_breaks_57 rfl (lv_at hl 0 rfl) ?_
          refine m_callv (n := 0) hC hl.1 hK hw (tX6_takeBack l (scs G (f_, l_, brB (G 6) z, G 6) (stN (G 6) z))  ) (lw_V q1381 q1383 qs48 q66 q1384) rfl rfl (by decide +kernel) ⟨by decide, by decide⟩ rfl rfl (Nat.le_of_ble_eq_true rfl) dX6_breaks_58 ⟨Nat.zero_le _, Nat.zero_le _⟩ ?_
          rintro G2 H locs hG2 hw
          replace hw := hw.eq hG2
          clear hG2
          replace hw := hw.eq (back_scs _ _ _ _ _ _)
          refine lv_ldc hC.1 hC.2.1 hC.2.2.2.1 (hC.2.2.2.2 _ q1363) dX6_breaks_61 ?_
          refine lv_istore_n (lv' := [(3, .int (-1000000 : Int32)), (0, .ref (ad 0)), (1, .int what), (2, .int (nI z))]) hC.1 hC.2.1 dX6_breaks_63 rfl hl (by decide) rfl (fun ls hl => ?_)
          refine lv_bipush (v := (nI 15)) hC.1 hC.2.1 dX6_breaks_64 (by decide) ?_
          refine lv_istore (lv' := [(4, .int (nI 15)), (3, .int (-1000000 : Int32)), (0, .ref (ad 0)), (1, .int what), (2, .int (nI z))]) hC.1 hC.2.1 dX6_breaks_66 hl (by decide) rfl (fun ls hl => ?_)
          refine W.loop (fun ls t H locs => lv_has ls 5 [(0, .ref (ad 0)), (1, .int what), (2, .int (nI z)), (3, .int (lowG (brB (G 6) z) t)), (4, .int (cdn t))] ∧ (∃ f_ l_, mw D dA (nA mDom ad s.heap.size) s.heap ad (scs G (f_, l_, (brB (G 6) z), G 6) (G 6)) H locs) ∧ (t ≤ 16)) 68 (fun _ => []) (fun t => 16 - t) ?_ 0 ⟨hl.sub' [2, 3, 4, 1, 0] (by rw [cdn_0]; rfl), ⟨_, _, hw⟩, by omega⟩
          rintro ls t H locs ⟨hl, ⟨f_, l_, hw⟩, ht⟩ ih68
          refine lv_iload hC.1 hC.2.1 dX6_breaks_68 (lv_at hl 4 rfl) ?_
          refine lv_if_lt (tgt := 98) hC.1 hC.2.1 dX6_breaks_70 (by decide) (fun c70 => ?_) (fun c70 => ?_)
          · have e_t : t = 16 := by rcases Nat.lt_or_ge t 16 with h | h; exact absurd c70 (cdn_ge t h); omega
            subst e_t
            refine lv_iload_n hC.1 hC.2.1 dX6_breaks_98 rfl (lv_at hl 3 rfl) ?_
            refine lv_if_ge (tgt := 107) hC.1 hC.2.1 dX6_breaks_99 (by decide) (fun c99 => ?_) (fun c99 => ?_)
            · refine lv_iload_n hC.1 hC.2.1 dX6_breaks_107 rfl (lv_at hl 1 rfl) ?_
              refine lv_if_ne (tgt := 115) hC.1 hC.2.1 dX6_breaks_108 (by decide) (fun c108 => ?_) (fun c108 => ?_)
              · refine lv_iload_n hC.1 hC.2.1 dX6_breaks_115 rfl (lv_at hl 3 rfl) ?_
                exact m_iret hC hlk hr hw rfl (⟨by unfold mX6_breaks; rw [if_pos c4]; rw [if_pos c17]; dsimp only; unfold brV; rw [hX]; dsimp only; rw [if_pos c99, if_pos c108], by unfold mX6_breaks; rw [if_pos c4]; rw [if_pos c17]; dsimp only; exact ⟨_, rfl⟩⟩) dX6_breaks_116
              · refine lv_iload_n hC.1 hC.2.1 dX6_breaks_111 rfl (lv_at hl 2 rfl) ?_
                refine lv_goto (tgt := 116) hC.1 hC.2.1 dX6_breaks_112 (by decide) ?_
                exact m_iret hC hlk hr hw rfl (⟨by unfold mX6_breaks; rw [if_pos c4]; rw [if_pos c17]; dsimp only; unfold brV; rw [hX]; dsimp only; rw [if_pos c99, if_neg (not_not_intro c108)], by unfold mX6_breaks; rw [if_pos c4]; rw [if_pos c17]; dsimp only; exact ⟨_, rfl⟩⟩) dX6_breaks_116
            · refine lv_ldc hC.1 hC.2.1 hC.2.2.2.1 (hC.2.2.2.2 _ q1363) dX6_breaks_102 ?_
              refine lv_goto (tgt := 116) hC.1 hC.2.1 dX6_breaks_104 (by decide) ?_
              exact m_iret hC hlk hr hw rfl (⟨by unfold mX6_breaks; rw [if_pos c4]; rw [if_pos c17]; dsimp only; unfold brV; rw [hX]; dsimp only; rw [if_neg c99], by unfold mX6_breaks; rw [if_pos c4]; rw [if_pos c17]; dsimp only; exact ⟨_, rfl⟩⟩) dX6_breaks_116
          · refine lv_aload_n hC.1 hC.2.1 dX6_breaks_73 rfl (lv_at hl 0 rfl) ?_
            refine m_gi hC hK hw 20 (by decide) rfl q1136 rfl (v := (brB (G 6) z)) (rfl) dX6_breaks_74 ?_
            refine lv_iload hC.1 hC.2.1 dX6_breaks_77 (lv_at hl 4 rfl) ?_
            refine pS_call (n := 2) hC hl.1 (tX6_has l (brB (G 6) z) (cdn t) ) (lw_S q1397 q1398 q66 q1399) rfl rfl (by decide +kernel) ⟨by decide, by decide⟩ rfl rfl (Nat.le_of_ble_eq_true rfl) dX6_breaks_79 ⟨Nat.zero_le _, Nat.zero_le _⟩ ?_
            refine k_beq (tgt := 90) hC dX6_breaks_82 (by decide) (fun c82 => ?_) (fun c82 => ?_)
            · refine lv_iload_n hC.1 hC.2.1 dX6_breaks_90 rfl (lv_at hl 3 rfl) ?_
              refine lv_istore_n (lv' := [(3, .int (lowG (brB (G 6) z) t)), (0, .ref (ad 0)), (1, .int what), (2, .int (nI z)), (4, .int (cdn t))]) hC.1 hC.2.1 dX6_breaks_91 rfl hl (by decide) rfl (fun ls hl => ?_)
              refine lv_iinc (v := (cdn t) + (-1)) (k := 4) (lv' := [(4, .int ((cdn t) + (-1))), (3, .int (lowG (brB (G 6) z) t)), (0, .ref (ad 0)), (1, .int what), (2, .int (nI z))]) hC.1 hC.2.1 dX6_breaks_92 hl rfl (k_im1 _) (by decide) rfl (fun ls hl => ?_)
              refine lv_goto (tgt := 68) hC.1 hC.2.1 dX6_breaks_95 (by decide) ?_
              have e5 := low_f c82
              have ht16 : t < 16 := by rcases Nat.lt_or_ge t 16 with h | h; exact h; exact absurd (show cdn t < 0 by rw [show t = 16 by omega]; decide) c70
              exact ih68 ls (t + 1) H locs ⟨hl.sub' [2, 3, 4, 1, 0] (by rw [e5, ← cdn_step]; rfl), ⟨_, _, hw⟩, by omega⟩ (by omega)
            · refine lv_iload hC.1 hC.2.1 dX6_breaks_85 (lv_at hl 4 rfl) ?_
              refine lv_goto (tgt := 91) hC.1 hC.2.1 dX6_breaks_87 (by decide) ?_
              refine lv_istore_n (lv' := [(3, .int (cdn t)), (0, .ref (ad 0)), (1, .int what), (2, .int (nI z)), (4, .int (cdn t))]) hC.1 hC.2.1 dX6_breaks_91 rfl hl (by decide) rfl (fun ls hl => ?_)
              refine lv_iinc (v := (cdn t) + (-1)) (k := 4) (lv' := [(4, .int ((cdn t) + (-1))), (3, .int (cdn t)), (0, .ref (ad 0)), (1, .int what), (2, .int (nI z))]) hC.1 hC.2.1 dX6_breaks_92 hl rfl (k_im1 _) (by decide) rfl (fun ls hl => ?_)
              refine lv_goto (tgt := 68) hC.1 hC.2.1 dX6_breaks_95 (by decide) ?_
              have e5 := low_t c82
              have ht16 : t < 16 := by rcases Nat.lt_or_ge t 16 with h | h; exact h; exact absurd (show cdn t < 0 by rw [show t = 16 by omega]; decide) c70
              exact ih68 ls (t + 1) H locs ⟨hl.sub' [2, 3, 4, 1, 0] (by rw [e5, ← cdn_step]; rfl), ⟨_, _, hw⟩, by omega⟩ (by omega)
        · refine lv_aload_n hC.1 hC.2.1 dX6_breaks_47 rfl (lv_at hl 0 rfl) ?_
          refine m_callv (n := 0) hC hl.1 hK hw (tX6_oneHour l (scs G (f_, l_, brB (G 6) z, G 6) (stN (G 6) z))  ) (lw_V q1339 q1341 qs42 q66 q1342) rfl rfl (by decide +kernel) ⟨by decide, by decide⟩ rfl rfl (Nat.le_of_ble_eq_true rfl) dX6_breaks_48 ⟨Nat.zero_le _, Nat.zero_le _⟩ ?_
          rintro G2 H locs hG2 hw
          replace hw := hw.eq hG2
          clear hG2
          replace hw := hw.eq (hour_scs _ _ _ _ _ _)
          refine k_iinc (k := 2) (d := 1) (lv' := [(2, .int (nI (z + 1))), (0, .ref (ad 0)), (1, .int what)]) hC dX6_breaks_51 hl rfl (by decide) (by decide) rfl (fun ls hl => ?_)
          refine lv_goto (tgt := 34) hC.1 hC.2.1 dX6_breaks_54 (by decide) ?_
          replace hw := hw.eq (brS_s _ _ _ _ _ _)
          exact ih34 ls (z + 1) H locs ⟨hl.sub' [1, 2, 0] (by rfl), ⟨_, _, hw⟩, by omega, by rw [← brB_s]; exact brL_next hB (by omega) c44⟩ (by omega)
    · refine lv_ldc hC.1 hC.2.1 hC.2.2.2.1 (hC.2.2.2.2 _ q1214) dX6_breaks_20 ?_
      exact m_iret hC hlk hr hw rfl (⟨by unfold mX6_breaks; rw [if_pos c4]; rw [if_neg (b_nt c17)]; try (first | rfl | (dsimp only; try rfl)), by unfold mX6_breaks; rw [if_pos c4]; rw [if_neg (b_nt c17)]; dsimp only; exact ⟨_, scs_in _⟩⟩) dX6_breaks_22
  · refine lv_ldc hC.1 hC.2.1 hC.2.2.2.1 (hC.2.2.2.2 _ q1294) dX6_breaks_7 ?_
    exact m_iret hC hlk hr hw rfl (⟨by unfold mX6_breaks; rw [if_neg (not_not_intro c4)]; try (first | rfl | (dsimp only; try rfl)), by unfold mX6_breaks; rw [if_neg (not_not_intro c4)]; dsimp only; exact ⟨_, scs_in _⟩⟩) dX6_breaks_9

noncomputable def mX6_stands (G : mG) (row : Int32) (i : Int32) : Int32 × mG := if ¬ (G 0 4) = 0 then if (inB row 0 (nI 7)) = true then if 0 ≤ ((mX6_lacks G (ix row) i 16).1) then (nI (sdV (G 3) (G 6) (40 * (ix row) + (ix i))), g2 G 0 3 (nI 0)) else (((mX6_lacks G (ix row) i 16).1), (mX6_lacks G (ix row) i 16).2) else ((-1000001 : Int32), G) else ((-1000002 : Int32), G)
set_option maxHeartbeats 4000000 in
theorem tX6_stands (l : Launch) (G : mG) (row : Int32) (i : Int32) (h0 : szOk G) : mI l yX6_stands cX6_stands 7 .int ({ frames := 5, cells := 0, slots := 0, locals := 117 } : Room) [.int row, .int i] G (fun r G' => r = ((mX6_stands G row i).1) ∧ ∃ X, G' = scs (mX6_stands G row i).2 X (G 6)) := by
  refine mI.of (by decide) rfl (fun _ => Nat.le_of_ble_eq_true rfl) ?_
  intro D dA ad p e s m below meth cd ls hC hlk hr hK hl hw
  have hl : lv_has ls 7 [(0, .ref (ad 0)), (1, .int row), (2, .int i)] := hl
  refine lv_aload_n hC.1 hC.2.1 dX6_stands_0 rfl (lv_at hl 0 rfl) ?_
  refine m_gi hC hK hw 4 (by decide) rfl q1120 rfl (v := (G 0 4)) (rfl) dX6_stands_1 ?_
  refine lv_if_ne (tgt := 10) hC.1 hC.2.1 dX6_stands_4 (by decide) (fun c4 => ?_) (fun c4 => ?_)
  · refine lv_iload_n hC.1 hC.2.1 dX6_stands_10 rfl (lv_at hl 1 rfl) ?_
    refine pS_call (n := 1) hC hl.1 (tX6_isRow l row ) (lw_S q1206 q1207 q66 q1208) rfl rfl (by decide +kernel) ⟨by decide, by decide⟩ rfl rfl (Nat.le_of_ble_eq_true rfl) dX6_stands_11 ⟨Nat.zero_le _, Nat.zero_le _⟩ ?_
    refine k_bne (tgt := 20) hC dX6_stands_14 (by decide) (fun c14 => ?_) (fun c14 => ?_)
    · obtain ⟨rr, hrr, rfl⟩ := inB_nat (n := 7) (by decide) c14
      refine lv_aload_n hC.1 hC.2.1 dX6_stands_20 rfl (lv_at hl 0 rfl) ?_
      refine lv_iload_n hC.1 hC.2.1 dX6_stands_21 rfl (lv_at hl 1 rfl) ?_
      refine lv_iload_n hC.1 hC.2.1 dX6_stands_22 rfl (lv_at hl 2 rfl) ?_
      refine lv_bipush (v := (nI 16)) hC.1 hC.2.1 dX6_stands_23 (by decide) ?_
      refine m_calli (n := 3) hC hl.1 hK hw (tX6_lacks l G rr i 16 (by omega)) (lw_V q1404 q1406 qs49 q66 q1407) rfl rfl (by decide +kernel) ⟨by decide, by decide⟩ rfl rfl (Nat.le_of_ble_eq_true rfl) dX6_stands_25 ⟨Nat.zero_le _, Nat.zero_le _⟩ ?_
      rintro r2 G2 H locs ⟨hr2, hG2⟩ hw
      replace hw := hw.eq hG2
      rw [hr2]
      clear hr2 hG2
      refine lv_istore_n (lv' := [(3, .int ((mX6_lacks G rr i 16).1)), (0, .ref (ad 0)), (1, .int (nI rr)), (2, .int i)]) hC.1 hC.2.1 dX6_stands_28 rfl hl (by decide) rfl (fun ls hl => ?_)
      refine lv_iload_n hC.1 hC.2.1 dX6_stands_29 rfl (lv_at hl 0 rfl) ?_
      refine lv_if_ge (tgt := 35) hC.1 hC.2.1 dX6_stands_30 (by decide) (fun c30 => ?_) (fun c30 => ?_)
      · obtain ⟨eG, eV, j, k, rfl, ek, hjk, hk40⟩ := lacks_ok h0 (by omega) (by decide) c30
        replace hw := hw.eq (eG.trans (scs_in G))
        refine lv_aload_n hC.1 hC.2.1 dX6_stands_35 rfl (lv_at hl 1 rfl) ?_
        refine m_callv (n := 0) hC hl.1 hK hw (tX6_putAside l (scs G (G 19, G 0 19, G 0 20, G 24) (G 6))  ) (lw_V q1377 q1379 qs47 q66 q1380) rfl rfl (by decide +kernel) ⟨by decide, by decide⟩ rfl rfl (Nat.le_of_ble_eq_true rfl) dX6_stands_36 ⟨Nat.zero_le _, Nat.zero_le _⟩ ?_
        rintro G2 H locs hG2 hw
        replace hw := hw.eq hG2
        clear hG2
        replace hw := hw.eq (aside_scs _ _ _ _ _ _)
        refine lv_iconst (v := (nI 0)) hC.1 hC.2.1 dX6_stands_39 (by decide) ?_
        refine lv_istore (lv' := [(4, .int (nI 0)), (3, .int ((mX6_lacks G rr (nI j) 16).1)), (0, .ref (ad 0)), (1, .int (nI rr)), (2, .int (nI j))]) hC.1 hC.2.1 dX6_stands_40 hl (by decide) rfl (fun ls hl => ?_)
        refine lv_iconst (v := (nI 1)) hC.1 hC.2.1 dX6_stands_42 (by decide) ?_
        refine lv_istore (lv' := [(5, .int (nI 1)), (4, .int (nI 0)), (3, .int ((mX6_lacks G rr (nI j) 16).1)), (0, .ref (ad 0)), (1, .int (nI rr)), (2, .int (nI j))]) hC.1 hC.2.1 dX6_stands_43 hl (by decide) rfl (fun ls hl => ?_)
        refine W.loop (fun ls z H locs => lv_has ls 7 [(0, .ref (ad 0)), (1, .int (nI rr)), (2, .int (nI j)), (4, .int (nI z.1)), (5, .int (bI z.2))] ∧ (∃ f_ l_ b_, mw D dA (nA mDom ad s.heap.size) s.heap ad (scs G (f_, l_, b_, G 6) (stN (G 6) (sdM z))) H locs) ∧ (z.1 ≤ 40) ∧ (z.2 = true → fstP (sdE (G 3) (G 6) (40 * rr + j)) 40 0 = fstP (sdE (G 3) (G 6) (40 * rr + j)) (40 - z.1) z.1) ∧ (z.2 = false → fstP (sdE (G 3) (G 6) (40 * rr + j)) 40 0 = some z.1)) 45 (fun _ => []) (fun z => 2 * (40 - z.1) + (if z.2 = true then 1 else 0)) ?_ ((0, true) : Nat × Bool) ⟨hl.sub' [3, 4, 5, 1, 0] (by rfl), ⟨_, _, _, hw⟩, by decide, fun _ => rfl, (fun h => by cases h)⟩
        rintro ls z H locs ⟨hl, ⟨f_, l_, b_, hw⟩, hz, hT, hF⟩ ih45
        refine lv_iload hC.1 hC.2.1 dX6_stands_45 (lv_at hl 4 rfl) ?_
        refine k_beq (tgt := 135) hC dX6_stands_47 (by decide) (fun c47 => ?_) (fun c47 => ?_)
        · refine lv_aload_n hC.1 hC.2.1 dX6_stands_135 rfl (lv_at hl 0 rfl) ?_
          refine m_callv (n := 0) hC hl.1 hK hw (tX6_takeBack l (scs G (f_, l_, b_, G 6) (stN (G 6) (sdM z)))  ) (lw_V q1381 q1383 qs48 q66 q1384) rfl rfl (by decide +kernel) ⟨by decide, by decide⟩ rfl rfl (Nat.le_of_ble_eq_true rfl) dX6_stands_136 ⟨Nat.zero_le _, Nat.zero_le _⟩ ?_
          rintro G2 H locs hG2 hw
          replace hw := hw.eq hG2
          clear hG2
          replace hw := hw.eq (back_scs _ _ _ _ _ _)
          refine lv_aload_n hC.1 hC.2.1 dX6_stands_139 rfl (lv_at hl 0 rfl) ?_
          refine lv_iload hC.1 hC.2.1 dX6_stands_140 (lv_at hl 3 rfl) ?_
          refine m_calli (n := 1) hC hl.1 hK hw (tX6_well l (scs G (f_, l_, b_, G 6) (G 6)) (nI z.1) ) (lw_V q1220 q1222 qs29 q66 q1223) rfl rfl (by decide +kernel) ⟨by decide, by decide⟩ rfl rfl (Nat.le_of_ble_eq_true rfl) dX6_stands_142 ⟨Nat.zero_le _, Nat.zero_le _⟩ ?_
          rintro r2 G2 H locs ⟨hr2, hG2⟩ hw
          replace hw := hw.eq hG2
          rw [hr2]
          clear hr2 hG2
          exact m_iret hC hlk hr hw rfl (⟨by unfold mX6_stands; simp only [ix_nI (show rr < 2147483648 by omega), ix_nI (show j < 2147483648 by omega)]; rw [if_pos c4]; rw [if_pos c14]; rw [if_pos c30]; dsimp only; unfold sdV; rw [hF c47]; rfl, by unfold mX6_stands; simp only [ix_nI (show rr < 2147483648 by omega), ix_nI (show j < 2147483648 by omega)]; rw [if_pos c4]; rw [if_pos c14]; rw [if_pos c30]; dsimp only; exact ⟨_, g2_scs3 _ _ _ _⟩⟩) dX6_stands_145
        · refine lv_iload hC.1 hC.2.1 dX6_stands_50 (lv_at hl 3 rfl) ?_
          refine lv_bipush (v := (nI 40)) hC.1 hC.2.1 dX6_stands_52 (by decide) ?_
          refine k_ge (tgt := 135) hC (by omega) (by omega) dX6_stands_54 (by decide) (fun c54 => ?_) (fun c54 => ?_)
          · refine lv_aload_n hC.1 hC.2.1 dX6_stands_135 rfl (lv_at hl 0 rfl) ?_
            refine m_callv (n := 0) hC hl.1 hK hw (tX6_takeBack l (scs G (f_, l_, b_, G 6) (stN (G 6) (sdM z)))  ) (lw_V q1381 q1383 qs48 q66 q1384) rfl rfl (by decide +kernel) ⟨by decide, by decide⟩ rfl rfl (Nat.le_of_ble_eq_true rfl) dX6_stands_136 ⟨Nat.zero_le _, Nat.zero_le _⟩ ?_
            rintro G2 H locs hG2 hw
            replace hw := hw.eq hG2
            clear hG2
            replace hw := hw.eq (back_scs _ _ _ _ _ _)
            refine lv_aload_n hC.1 hC.2.1 dX6_stands_139 rfl (lv_at hl 0 rfl) ?_
            refine lv_iload hC.1 hC.2.1 dX6_stands_140 (lv_at hl 3 rfl) ?_
            refine m_calli (n := 1) hC hl.1 hK hw (tX6_well l (scs G (f_, l_, b_, G 6) (G 6)) (nI z.1) ) (lw_V q1220 q1222 qs29 q66 q1223) rfl rfl (by decide +kernel) ⟨by decide, by decide⟩ rfl rfl (Nat.le_of_ble_eq_true rfl) dX6_stands_142 ⟨Nat.zero_le _, Nat.zero_le _⟩ ?_
            rintro r2 G2 H locs ⟨hr2, hG2⟩ hw
            replace hw := hw.eq hG2
            rw [hr2]
            clear hr2 hG2
            exact m_iret hC hlk hr hw rfl (⟨by unfold mX6_stands; simp only [ix_nI (show rr < 2147483648 by omega), ix_nI (show j < 2147483648 by omega)]; rw [if_pos c4]; rw [if_pos c14]; rw [if_pos c30]; dsimp only; unfold sdV; rw [fst_end (hT c47) (by omega)]; exact congrArg nI (show z.1 = 40 by omega), by unfold mX6_stands; simp only [ix_nI (show rr < 2147483648 by omega), ix_nI (show j < 2147483648 by omega)]; rw [if_pos c4]; rw [if_pos c14]; rw [if_pos c30]; dsimp only; exact ⟨_, g2_scs3 _ _ _ _⟩⟩) dX6_stands_145
          · replace hw := hw.eq (show _ = scs G (f_, l_, b_, G 6) (stN (G 6) z.1) by unfold sdM; rw [if_pos c47])
            rw [c47] at hl
            refine lv_aload_n hC.1 hC.2.1 dX6_stands_57 rfl (lv_at hl 0 rfl) ?_
            refine m_callv (n := 0) hC hl.1 hK hw (tX6_blow l (scs G (f_, l_, b_, G 6) (stN (G 6) z.1))  ) (lw_V q1343 q1345 qs43 q66 q1346) rfl rfl (by decide +kernel) ⟨by decide, by decide⟩ rfl rfl (Nat.le_of_ble_eq_true rfl) dX6_stands_58 ⟨Nat.zero_le _, Nat.zero_le _⟩ ?_
            rintro G2 H locs hG2 hw
            replace hw := hw.eq hG2
            clear hG2
            replace hw := hw.eq (blow_scs _ _ _ _ _ _)
            refine lv_iconst (v := (nI 0)) hC.1 hC.2.1 dX6_stands_61 (by decide) ?_
            refine lv_istore (lv' := [(6, .int (nI 0)), (0, .ref (ad 0)), (1, .int (nI rr)), (2, .int (nI j)), (4, .int (nI z.1)), (5, .int (bI true))]) hC.1 hC.2.1 dX6_stands_62 hl (by decide) rfl (fun ls hl => ?_)
            refine W.loop (fun ls x H locs => lv_has ls 7 [(0, .ref (ad 0)), (1, .int (nI rr)), (2, .int (nI j)), (4, .int (nI z.1)), (5, .int (bI (allB (sdP (G 3) (G 6) (40 * rr + j) z.1) x))), (6, .int (nI x))] ∧ (∃ b_, mw D dA (nA mDom ad s.heap.size) s.heap ad (scs G ((bl (stN (G 6) z.1)).1, (bl (stN (G 6) z.1)).2, b_, G 6) (stN (G 6) z.1)) H locs) ∧ (x ≤ 16)) 64 (fun _ => []) (fun x => 16 - x) ?_ 0 ⟨hl.sub' [1, 2, 3, 4, 5, 0] (by rfl), ⟨_, hw⟩, by omega⟩
            rintro ls x H locs ⟨hl, ⟨b_, hw⟩, hx⟩ ih64
            refine lv_iload hC.1 hC.2.1 dX6_stands_64 (lv_at hl 5 rfl) ?_
            refine lv_bipush (v := (nI 16)) hC.1 hC.2.1 dX6_stands_66 (by decide) ?_
            refine k_ge (tgt := 113) hC (by omega) (by omega) dX6_stands_68 (by decide) (fun c68 => ?_) (fun c68 => ?_)
            · have e_x : x = 16 := by omega
              subst e_x
              refine lv_iload hC.1 hC.2.1 dX6_stands_113 (lv_at hl 3 rfl) ?_
              refine lv_iload hC.1 hC.2.1 dX6_stands_115 (lv_at hl 4 rfl) ?_
              refine k_beq (tgt := 124) hC dX6_stands_117 (by decide) (fun c117 => ?_) (fun c117 => ?_)
              · refine lv_iconst (v := (nI 0)) hC.1 hC.2.1 dX6_stands_124 (by decide) ?_
                refine k_add hC dX6_stands_125 ?_
                refine lv_istore (lv' := [(4, .int (nI (z.1 + 0))), (0, .ref (ad 0)), (1, .int (nI rr)), (2, .int (nI j)), (5, .int (bI (allB (sdP (G 3) (G 6) (40 * rr + j) z.1) 16))), (6, .int (nI 16))]) hC.1 hC.2.1 dX6_stands_126 hl (by decide) rfl (fun ls hl => ?_)
                refine lv_aload_n hC.1 hC.2.1 dX6_stands_128 rfl (lv_at hl 1 rfl) ?_
                refine m_callv (n := 0) hC hl.1 hK hw (tX6_oneHour l (scs G ((bl (stN (G 6) z.1)).1, (bl (stN (G 6) z.1)).2, b_, G 6) (stN (G 6) z.1))  ) (lw_V q1339 q1341 qs42 q66 q1342) rfl rfl (by decide +kernel) ⟨by decide, by decide⟩ rfl rfl (Nat.le_of_ble_eq_true rfl) dX6_stands_129 ⟨Nat.zero_le _, Nat.zero_le _⟩ ?_
                rintro G2 H locs hG2 hw
                replace hw := hw.eq hG2
                clear hG2
                replace hw := hw.eq (hour_scs _ _ _ _ _ _)
                refine lv_goto (tgt := 45) hC.1 hC.2.1 dX6_stands_132 (by decide) ?_
                rw [c117] at hl
                replace hw := hw.eq (congrArg (scs G _) (stN_s (G 6) z.1))
                exact ih45 ls (z.1, false) H locs ⟨hl.sub' [1, 2, 3, 0, 4] (by rfl), ⟨_, _, _, hw⟩, by show z.1 ≤ 40; omega, (fun h => by cases h), fun _ => fst_hit (hT c47) (by omega) (sd_f c117)⟩ (by rw [if_pos c47]; dsimp only; first | (rw [if_neg (by decide)]; omega) | (rw [if_pos rfl]; omega))
              · refine lv_iconst (v := (nI 1)) hC.1 hC.2.1 dX6_stands_120 (by decide) ?_
                refine lv_goto (tgt := 125) hC.1 hC.2.1 dX6_stands_121 (by decide) ?_
                refine k_add hC dX6_stands_125 ?_
                refine lv_istore (lv' := [(4, .int (nI (z.1 + 1))), (0, .ref (ad 0)), (1, .int (nI rr)), (2, .int (nI j)), (5, .int (bI (allB (sdP (G 3) (G 6) (40 * rr + j) z.1) 16))), (6, .int (nI 16))]) hC.1 hC.2.1 dX6_stands_126 hl (by decide) rfl (fun ls hl => ?_)
                refine lv_aload_n hC.1 hC.2.1 dX6_stands_128 rfl (lv_at hl 1 rfl) ?_
                refine m_callv (n := 0) hC hl.1 hK hw (tX6_oneHour l (scs G ((bl (stN (G 6) z.1)).1, (bl (stN (G 6) z.1)).2, b_, G 6) (stN (G 6) z.1))  ) (lw_V q1339 q1341 qs42 q66 q1342) rfl rfl (by decide +kernel) ⟨by decide, by decide⟩ rfl rfl (Nat.le_of_ble_eq_true rfl) dX6_stands_129 ⟨Nat.zero_le _, Nat.zero_le _⟩ ?_
                rintro G2 H locs hG2 hw
                replace hw := hw.eq hG2
                clear hG2
                replace hw := hw.eq (hour_scs _ _ _ _ _ _)
                refine lv_goto (tgt := 45) hC.1 hC.2.1 dX6_stands_132 (by decide) ?_
                rw [c117] at hl
                replace hw := hw.eq (congrArg (scs G _) (stN_s (G 6) z.1))
                exact ih45 ls (z.1 + 1, true) H locs ⟨hl.sub' [1, 2, 3, 0, 4] (by rfl), ⟨_, _, _, hw⟩, by show z.1 + 1 ≤ 40; omega, fun _ => fst_next (hT c47) (by omega) (sd_t c117), (fun h => by cases h)⟩ (by rw [if_pos c47]; dsimp only; first | (rw [if_neg (by decide)]; omega) | (rw [if_pos rfl]; omega))
            · refine lv_iload hC.1 hC.2.1 dX6_stands_71 (lv_at hl 4 rfl) ?_
              refine k_beq (tgt := 104) hC dX6_stands_73 (by decide) (fun c73 => ?_) (fun c73 => ?_)
              · refine lv_iconst (v := (nI 0)) hC.1 hC.2.1 dX6_stands_104 (by decide) ?_
                refine lv_istore (lv' := [(5, .int (nI 0)), (0, .ref (ad 0)), (1, .int (nI rr)), (2, .int (nI j)), (4, .int (nI z.1)), (6, .int (nI x))]) hC.1 hC.2.1 dX6_stands_105 hl (by decide) rfl (fun ls hl => ?_)
                refine k_iinc (k := 5) (d := 1) (lv' := [(6, .int (nI (x + 1))), (5, .int (nI 0)), (0, .ref (ad 0)), (1, .int (nI rr)), (2, .int (nI j)), (4, .int (nI z.1))]) hC dX6_stands_107 hl rfl (by decide) (by decide) rfl (fun ls hl => ?_)
                refine lv_goto (tgt := 64) hC.1 hC.2.1 dX6_stands_110 (by decide) ?_
                exact ih64 ls (x + 1) H locs ⟨hl.sub' [2, 3, 4, 5, 1, 0] (by rw [← bI_of_f (b := allB (sdP (G 3) (G 6) (40 * rr + j) z.1) (x + 1)) (all_f1 c73)]; rfl), ⟨_, hw⟩, by omega⟩ (by omega)
              · refine lv_aload_n hC.1 hC.2.1 dX6_stands_76 rfl (lv_at hl 0 rfl) ?_
                refine m_ga hC hK hw 2 (by decide) rfl q1118 rfl dX6_stands_77 ?_
                refine lv_bipush (v := (nI 40)) hC.1 hC.2.1 dX6_stands_80 (by decide) ?_
                refine lv_iload_n hC.1 hC.2.1 dX6_stands_82 rfl (lv_at hl 1 rfl) ?_
                refine k_mul hC dX6_stands_83 ?_
                refine lv_iload_n hC.1 hC.2.1 dX6_stands_84 rfl (lv_at hl 2 rfl) ?_
                refine k_add hC dX6_stands_85 ?_
                refine lv_iload hC.1 hC.2.1 dX6_stands_86 (lv_at hl 5 rfl) ?_
                refine k_add hC dX6_stands_88 ?_
                refine m_ld hC hK hw 3 (by decide) (by decide) (by decide) (by simp only [mLen]; omega) (by omega) (v := (G 3 (((40 * rr) + j) + x))) (rfl) dX6_stands_89 ?_
                refine lv_aload_n hC.1 hC.2.1 dX6_stands_90 rfl (lv_at hl 0 rfl) ?_
                refine m_ga hC hK hw 18 (by decide) rfl q1134 rfl dX6_stands_91 ?_
                refine lv_iload hC.1 hC.2.1 dX6_stands_94 (lv_at hl 5 rfl) ?_
                refine m_ld hC hK hw 19 (by decide) (by decide) (by decide) (by simp only [mLen]; omega) (by omega) (v := (((bl (stN (G 6) z.1)).1) x)) (rfl) dX6_stands_96 ?_
                refine lv_icmp_ne (tgt := 104) hC.1 hC.2.1 dX6_stands_97 (by decide) (fun c97 => ?_) (fun c97 => ?_)
                · refine lv_iconst (v := (nI 0)) hC.1 hC.2.1 dX6_stands_104 (by decide) ?_
                  refine lv_istore (lv' := [(5, .int (nI 0)), (0, .ref (ad 0)), (1, .int (nI rr)), (2, .int (nI j)), (4, .int (nI z.1)), (6, .int (nI x))]) hC.1 hC.2.1 dX6_stands_105 hl (by decide) rfl (fun ls hl => ?_)
                  refine k_iinc (k := 5) (d := 1) (lv' := [(6, .int (nI (x + 1))), (5, .int (nI 0)), (0, .ref (ad 0)), (1, .int (nI rr)), (2, .int (nI j)), (4, .int (nI z.1))]) hC dX6_stands_107 hl rfl (by decide) (by decide) rfl (fun ls hl => ?_)
                  refine lv_goto (tgt := 64) hC.1 hC.2.1 dX6_stands_110 (by decide) ?_
                  exact ih64 ls (x + 1) H locs ⟨hl.sub' [2, 3, 4, 5, 1, 0] (by rw [← bI_of_f (b := allB (sdP (G 3) (G 6) (40 * rr + j) z.1) (x + 1)) (all_f2 (decide_eq_false c97))]; rfl), ⟨_, hw⟩, by omega⟩ (by omega)
                · refine lv_iconst (v := (nI 1)) hC.1 hC.2.1 dX6_stands_100 (by decide) ?_
                  refine lv_goto (tgt := 105) hC.1 hC.2.1 dX6_stands_101 (by decide) ?_
                  refine lv_istore (lv' := [(5, .int (nI 1)), (0, .ref (ad 0)), (1, .int (nI rr)), (2, .int (nI j)), (4, .int (nI z.1)), (6, .int (nI x))]) hC.1 hC.2.1 dX6_stands_105 hl (by decide) rfl (fun ls hl => ?_)
                  refine k_iinc (k := 5) (d := 1) (lv' := [(6, .int (nI (x + 1))), (5, .int (nI 1)), (0, .ref (ad 0)), (1, .int (nI rr)), (2, .int (nI j)), (4, .int (nI z.1))]) hC dX6_stands_107 hl rfl (by decide) (by decide) rfl (fun ls hl => ?_)
                  refine lv_goto (tgt := 64) hC.1 hC.2.1 dX6_stands_110 (by decide) ?_
                  exact ih64 ls (x + 1) H locs ⟨hl.sub' [2, 3, 4, 5, 1, 0] (by rw [← bI_of_t (b := allB (sdP (G 3) (G 6) (40 * rr + j) z.1) (x + 1)) (all_t c73 (decide_eq_true c97))]; rfl), ⟨_, hw⟩, by omega⟩ (by omega)
      · refine lv_iload_n hC.1 hC.2.1 dX6_stands_33 rfl (lv_at hl 0 rfl) ?_
        exact m_iret hC hlk hr hw rfl (⟨by unfold mX6_stands; simp only [ix_nI (show rr < 2147483648 by omega)]; rw [if_pos c4]; rw [if_pos c14]; rw [if_neg c30]; try (first | rfl | (dsimp only; try rfl)), by unfold mX6_stands; simp only [ix_nI (show rr < 2147483648 by omega)]; rw [if_pos c4]; rw [if_pos c14]; rw [if_neg c30]; dsimp only; exact ⟨_, (scs_in _).trans (by rw [lacks_6])⟩⟩) dX6_stands_34
    · refine lv_ldc hC.1 hC.2.1 hC.2.2.2.1 (hC.2.2.2.2 _ q1214) dX6_stands_17 ?_
      exact m_iret hC hlk hr hw rfl (⟨by unfold mX6_stands; rw [if_pos c4]; rw [if_neg (b_nt c14)]; try (first | rfl | (dsimp only; try rfl)), by unfold mX6_stands; rw [if_pos c4]; rw [if_neg (b_nt c14)]; dsimp only; exact ⟨_, scs_in _⟩⟩) dX6_stands_19
  · refine lv_ldc hC.1 hC.2.1 hC.2.2.2.1 (hC.2.2.2.2 _ q1294) dX6_stands_7 ?_
    exact m_iret hC hlk hr hw rfl (⟨by unfold mX6_stands; rw [if_neg (not_not_intro c4)]; try (first | rfl | (dsimp only; try rfl)), by unfold mX6_stands; rw [if_neg (not_not_intro c4)]; dsimp only; exact ⟨_, scs_in _⟩⟩) dX6_stands_9

noncomputable def mX6_lots (G : mG) (cell : Int32) (v : Int32) (c : Int32) (what : Int32) : Int32 × mG := if ¬ (G 0 4) = 0 then if (inB cell 0 (nI 15)) = false then ((-1000001 : Int32), G) else if (inB v 0 (nI 99)) = false then ((-1000001 : Int32), G) else if (inB c 0 (nI 10)) = false then ((-1000001 : Int32), G) else if (inB what 0 (nI 1)) = true then (lotsV (G 6) (ix cell) v c what, G) else ((-1000001 : Int32), G) else ((-1000002 : Int32), G)
set_option maxHeartbeats 4000000 in
theorem tX6_lots (l : Launch) (G : mG) (cell : Int32) (v : Int32) (c : Int32) (what : Int32) : mI l yX6_lots cX6_lots 12 .int ({ frames := 5, cells := 0, slots := 0, locals := 117 } : Room) [.int cell, .int v, .int c, .int what] G (fun r G' => r = ((mX6_lots G cell v c what).1) ∧ ∃ X, G' = scs (mX6_lots G cell v c what).2 X (G 6)) := by
  refine mI.of (by decide) rfl (fun _ => Nat.le_of_ble_eq_true rfl) ?_
  intro D dA ad p e s m below meth cd ls hC hlk hr hK hl hw
  have hl : lv_has ls 12 [(0, .ref (ad 0)), (1, .int cell), (2, .int v), (3, .int c), (4, .int what)] := hl
  refine lv_aload_n hC.1 hC.2.1 dX6_lots_0 rfl (lv_at hl 0 rfl) ?_
  refine m_gi hC hK hw 4 (by decide) rfl q1120 rfl (v := (G 0 4)) (rfl) dX6_lots_1 ?_
  refine lv_if_ne (tgt := 10) hC.1 hC.2.1 dX6_lots_4 (by decide) (fun c4 => ?_) (fun c4 => ?_)
  · refine lv_iload_n hC.1 hC.2.1 dX6_lots_10 rfl (lv_at hl 1 rfl) ?_
    refine pS_call (n := 1) hC hl.1 (tX6_isCell l cell ) (lw_S q1295 q1296 q66 q1297) rfl rfl (by decide +kernel) ⟨by decide, by decide⟩ rfl rfl (Nat.le_of_ble_eq_true rfl) dX6_lots_11 ⟨Nat.zero_le _, Nat.zero_le _⟩ ?_
    refine k_beq (tgt := 52) hC dX6_lots_14 (by decide) (fun c14 => ?_) (fun c14 => ?_)
    · refine lv_ldc hC.1 hC.2.1 hC.2.2.2.1 (hC.2.2.2.2 _ q1214) dX6_lots_52 ?_
      exact m_iret hC hlk hr hw rfl (⟨by unfold mX6_lots; rw [if_pos c4]; rw [if_pos c14]; try (first | rfl | (dsimp only; try rfl)), by unfold mX6_lots; rw [if_pos c4]; rw [if_pos c14]; dsimp only; exact ⟨_, scs_in _⟩⟩) dX6_lots_54
    · refine lv_iload_n hC.1 hC.2.1 dX6_lots_17 rfl (lv_at hl 2 rfl) ?_
      refine lv_i2l hC.1 hC.2.1 dX6_lots_18 rfl ?_
      refine lv_lconst (v := 0) hC.1 hC.2.1 dX6_lots_19 (by decide) ?_
      refine lv_ldc2 hC.1 hC.2.1 hC.2.2.2.1 (hC.2.2.2.2 _ q1300) dX6_lots_20 ?_
      refine pS_call (n := 3) hC hl.1 (tX6_inI l v 0 (nI 99)) (lw_S q1210 q1211 q66 q1212) rfl rfl (by decide +kernel) ⟨by decide, by decide⟩ rfl rfl (Nat.le_of_ble_eq_true rfl) dX6_lots_23 ⟨Nat.zero_le _, Nat.zero_le _⟩ ?_
      refine k_beq (tgt := 52) hC dX6_lots_26 (by decide) (fun c26 => ?_) (fun c26 => ?_)
      · refine lv_ldc hC.1 hC.2.1 hC.2.2.2.1 (hC.2.2.2.2 _ q1214) dX6_lots_52 ?_
        exact m_iret hC hlk hr hw rfl (⟨by unfold mX6_lots; rw [if_pos c4]; rw [if_neg (b_nf c14)]; rw [if_pos c26]; try (first | rfl | (dsimp only; try rfl)), by unfold mX6_lots; rw [if_pos c4]; rw [if_neg (b_nf c14)]; rw [if_pos c26]; dsimp only; exact ⟨_, scs_in _⟩⟩) dX6_lots_54
      · refine lv_iload_n hC.1 hC.2.1 dX6_lots_29 rfl (lv_at hl 3 rfl) ?_
        refine lv_i2l hC.1 hC.2.1 dX6_lots_30 rfl ?_
        refine lv_lconst (v := 0) hC.1 hC.2.1 dX6_lots_31 (by decide) ?_
        refine lv_ldc2 hC.1 hC.2.1 hC.2.2.2.1 (hC.2.2.2.2 _ q1429) dX6_lots_32 ?_
        refine pS_call (n := 3) hC hl.1 (tX6_inI l c 0 (nI 10)) (lw_S q1210 q1211 q66 q1212) rfl rfl (by decide +kernel) ⟨by decide, by decide⟩ rfl rfl (Nat.le_of_ble_eq_true rfl) dX6_lots_35 ⟨Nat.zero_le _, Nat.zero_le _⟩ ?_
        refine k_beq (tgt := 52) hC dX6_lots_38 (by decide) (fun c38 => ?_) (fun c38 => ?_)
        · refine lv_ldc hC.1 hC.2.1 hC.2.2.2.1 (hC.2.2.2.2 _ q1214) dX6_lots_52 ?_
          exact m_iret hC hlk hr hw rfl (⟨by unfold mX6_lots; rw [if_pos c4]; rw [if_neg (b_nf c14)]; rw [if_neg (b_nf c26)]; rw [if_pos c38]; try (first | rfl | (dsimp only; try rfl)), by unfold mX6_lots; rw [if_pos c4]; rw [if_neg (b_nf c14)]; rw [if_neg (b_nf c26)]; rw [if_pos c38]; dsimp only; exact ⟨_, scs_in _⟩⟩) dX6_lots_54
        · refine lv_iload hC.1 hC.2.1 dX6_lots_41 (lv_at hl 4 rfl) ?_
          refine lv_i2l hC.1 hC.2.1 dX6_lots_43 rfl ?_
          refine lv_lconst (v := 0) hC.1 hC.2.1 dX6_lots_44 (by decide) ?_
          refine lv_lconst (v := 1) hC.1 hC.2.1 dX6_lots_45 (by decide) ?_
          refine pS_call (n := 3) hC hl.1 (tX6_inI l what 0 (nI 1)) (lw_S q1210 q1211 q66 q1212) rfl rfl (by decide +kernel) ⟨by decide, by decide⟩ rfl rfl (Nat.le_of_ble_eq_true rfl) dX6_lots_46 ⟨Nat.zero_le _, Nat.zero_le _⟩ ?_
          refine k_bne (tgt := 55) hC dX6_lots_49 (by decide) (fun c49 => ?_) (fun c49 => ?_)
          · obtain ⟨q, hq, rfl⟩ := inB_nat (n := 15) (by decide) c14
            replace hw := hw.eq (scs_in G)
            have hcn := cntW_le (G 6) 16
            have hpw : 2 ^ cntW (G 6) 16 ≤ 65536 := Nat.pow_le_pow_right (n := 2) (by decide) hcn
            refine lv_aload_n hC.1 hC.2.1 dX6_lots_55 rfl (lv_at hl 0 rfl) ?_
            refine m_callv (n := 0) hC hl.1 hK hw (tX6_putAside l (scs G (G 19, G 0 19, G 0 20, G 24) (G 6))  ) (lw_V q1377 q1379 qs47 q66 q1380) rfl rfl (by decide +kernel) ⟨by decide, by decide⟩ rfl rfl (Nat.le_of_ble_eq_true rfl) dX6_lots_56 ⟨Nat.zero_le _, Nat.zero_le _⟩ ?_
            rintro G2 H locs hG2 hw
            replace hw := hw.eq hG2
            clear hG2
            replace hw := hw.eq (aside_scs _ _ _ _ _ _)
            refine lv_aload_n hC.1 hC.2.1 dX6_lots_59 rfl (lv_at hl 0 rfl) ?_
            refine m_calli (n := 0) hC hl.1 hK hw (tX6_workMany l (scs G (G 19, G 0 19, G 0 20, (G 6)) (G 6))  ) (lw_V q1305 q1307 qs39 q66 q1308) rfl rfl (by decide +kernel) ⟨by decide, by decide⟩ rfl rfl (Nat.le_of_ble_eq_true rfl) dX6_lots_60 ⟨Nat.zero_le _, Nat.zero_le _⟩ ?_
            rintro r2 G2 H locs ⟨hr2, hG2⟩ hw
            replace hw := hw.eq hG2
            replace hr2 : r2 = (nI (cntW ((G 6)) 16)) := hr2
            rw [hr2]
            clear hr2 hG2
            refine lv_istore (lv' := [(5, .int (nI (cntW ((G 6)) 16))), (0, .ref (ad 0)), (1, .int (nI q)), (2, .int v), (3, .int c), (4, .int what)]) hC.1 hC.2.1 dX6_lots_63 hl (by decide) rfl (fun ls hl => ?_)
            refine lv_iconst (v := (nI 0)) hC.1 hC.2.1 dX6_lots_65 (by decide) ?_
            refine lv_istore (lv' := [(6, .int (nI 0)), (5, .int (nI (cntW ((G 6)) 16))), (0, .ref (ad 0)), (1, .int (nI q)), (2, .int v), (3, .int c), (4, .int what)]) hC.1 hC.2.1 dX6_lots_66 hl (by decide) rfl (fun ls hl => ?_)
            refine lv_iconst (v := (nI 1)) hC.1 hC.2.1 dX6_lots_68 (by decide) ?_
            refine lv_istore (lv' := [(7, .int (nI 1)), (6, .int (nI 0)), (5, .int (nI (cntW ((G 6)) 16))), (0, .ref (ad 0)), (1, .int (nI q)), (2, .int v), (3, .int c), (4, .int what)]) hC.1 hC.2.1 dX6_lots_69 hl (by decide) rfl (fun ls hl => ?_)
            refine lv_iconst (v := (nI 0)) hC.1 hC.2.1 dX6_lots_71 (by decide) ?_
            refine lv_istore (lv' := [(8, .int (nI 0)), (7, .int (nI 1)), (6, .int (nI 0)), (5, .int (nI (cntW ((G 6)) 16))), (0, .ref (ad 0)), (1, .int (nI q)), (2, .int v), (3, .int c), (4, .int what)]) hC.1 hC.2.1 dX6_lots_72 hl (by decide) rfl (fun ls hl => ?_)
            refine W.loop (fun ls i H locs => lv_has ls 12 [(0, .ref (ad 0)), (1, .int (nI q)), (2, .int v), (3, .int c), (4, .int what), (5, .int (nI (cntW (G 6) 16))), (6, .int (nI 0)), (7, .int (pwF i)), (8, .int (nI i))] ∧ (∃ f_ l_ b_, mw D dA (nA mDom ad s.heap.size) s.heap ad (scs G (f_, l_, b_, G 6) (G 6)) H locs) ∧ (i ≤ cntW (G 6) 16)) 74 (fun _ => []) (fun i => cntW (G 6) 16 - i) ?_ 0 ⟨hl.sub' [4, 5, 6, 7, 8, 3, 2, 1, 0] (by rfl), ⟨_, _, _, hw⟩, by omega⟩
            rintro ls i H locs ⟨hl, ⟨f_, l_, b_, hw⟩, hi⟩ ih74
            refine lv_iload hC.1 hC.2.1 dX6_lots_74 (lv_at hl 8 rfl) ?_
            refine lv_iload hC.1 hC.2.1 dX6_lots_76 (lv_at hl 5 rfl) ?_
            refine k_ge (tgt := 94) hC (by omega) (by omega) dX6_lots_78 (by decide) (fun c78 => ?_) (fun c78 => ?_)
            · have eN : i = cntW (G 6) 16 := by omega
              rw [eN] at hl
              refine lv_iconst (v := (nI 0)) hC.1 hC.2.1 dX6_lots_94 (by decide) ?_
              refine lv_istore (lv' := [(8, .int (nI 0)), (0, .ref (ad 0)), (1, .int (nI q)), (2, .int v), (3, .int c), (4, .int what), (5, .int (nI (cntW (G 6) 16))), (6, .int (nI 0)), (7, .int (pwF (cntW (G 6) 16)))]) hC.1 hC.2.1 dX6_lots_95 hl (by decide) rfl (fun ls hl => ?_)
              refine W.loop (fun ls d H locs => lv_has ls 12 [(0, .ref (ad 0)), (1, .int (nI q)), (2, .int v), (3, .int c), (4, .int what), (5, .int (nI (cntW (G 6) 16))), (6, .int (lsF (G 6) q v c d)), (7, .int (pwF (cntW (G 6) 16))), (8, .int (nI d))] ∧ (∃ f_ l_ b_, mw D dA (nA mDom ad s.heap.size) s.heap ad (scs G (f_, l_, b_, G 6) (G 6)) H locs) ∧ (d ≤ 2 ^ cntW (G 6) 16)) 97 (fun _ => []) (fun d => 2 ^ cntW (G 6) 16 - d) ?_ 0 ⟨hl.sub' [1, 2, 3, 4, 5, 6, 7, 8, 0] (by rfl), ⟨_, _, _, hw⟩, Nat.zero_le _⟩
              rintro ls d H locs ⟨hl, ⟨f_, l_, b_, hw⟩, hd⟩ ih97
              refine lv_iload hC.1 hC.2.1 dX6_lots_97 (lv_at hl 8 rfl) ?_
              refine lv_iconst (v := (nI 1)) hC.1 hC.2.1 dX6_lots_99 (by decide) ?_
              refine lv_iload hC.1 hC.2.1 dX6_lots_100 (lv_at hl 5 rfl) ?_
              refine lv_ishl hC.1 hC.2.1 dX6_lots_102 ?_
              rw [shl_pow _ hcn]
              refine k_ge (tgt := 209) hC (by omega) (by omega) dX6_lots_103 (by decide) (fun c103 => ?_) (fun c103 => ?_)
              · have eD : d = 2 ^ cntW (G 6) 16 := by omega
                rw [eD] at hl
                refine lv_iload hC.1 hC.2.1 dX6_lots_209 (lv_at hl 6 rfl) ?_
                refine lv_istore (lv' := [(8, .int (lsF (G 6) q v c (2 ^ cntW (G 6) 16))), (0, .ref (ad 0)), (1, .int (nI q)), (2, .int v), (3, .int c), (4, .int what), (5, .int (nI (cntW (G 6) 16))), (6, .int (lsF (G 6) q v c (2 ^ cntW (G 6) 16))), (7, .int (pwF (cntW (G 6) 16)))]) hC.1 hC.2.1 dX6_lots_211 hl (by decide) rfl (fun ls hl => ?_)
                refine lv_iload hC.1 hC.2.1 dX6_lots_213 (lv_at hl 8 rfl) ?_
                refine lv_istore (lv' := [(9, .int (pwF (cntW (G 6) 16))), (8, .int (lsF (G 6) q v c (2 ^ cntW (G 6) 16))), (0, .ref (ad 0)), (1, .int (nI q)), (2, .int v), (3, .int c), (4, .int what), (5, .int (nI (cntW (G 6) 16))), (6, .int (lsF (G 6) q v c (2 ^ cntW (G 6) 16))), (7, .int (pwF (cntW (G 6) 16)))]) hC.1 hC.2.1 dX6_lots_215 hl (by decide) rfl (fun ls hl => ?_)
                refine W.loop (fun ls z H locs => lv_has ls 12 [(0, .ref (ad 0)), (1, .int (nI q)), (2, .int v), (3, .int c), (4, .int what), (5, .int (nI (cntW (G 6) 16))), (6, .int (lsF (G 6) q v c (2 ^ cntW (G 6) 16))), (7, .int (pwF (cntW (G 6) 16))), (8, .int z.1), (9, .int z.2)] ∧ (∃ f_ l_ b_, mw D dA (nA mDom ad s.heap.size) s.heap ad (scs G (f_, l_, b_, G 6) (G 6)) H locs) ∧ (∃ n, z.2.toInt.natAbs < n ∧ gcdV (lsF (G 6) q v c (2 ^ cntW (G 6) 16)) (pwF (cntW (G 6) 16)) = gcdI n z.1 z.2) ∧ (¬ (z.1 = 0 ∧ z.2 = 0))) 217 (fun _ => []) (fun z => z.2.toInt.natAbs) ?_ ((lsF (G 6) q v c (2 ^ cntW (G 6) 16), pwF (cntW (G 6) 16)) : Int32 × Int32) ⟨hl.sub' [2, 3, 4, 5, 6, 7, 8, 9, 1, 0] (by rfl), ⟨_, _, _, hw⟩, ⟨_, Nat.lt_succ_self _, rfl⟩, fun h => pwF_ne _ hcn h.2⟩
                rintro ls z H locs ⟨hl, ⟨f_, l_, b_, hw⟩, hg, hnz⟩ ih217
                refine lv_iload hC.1 hC.2.1 dX6_lots_217 (lv_at hl 9 rfl) ?_
                refine lv_if_eq (tgt := 240) hC.1 hC.2.1 dX6_lots_219 (by decide) (fun c219 => ?_) (fun c219 => ?_)
                · refine lv_iload hC.1 hC.2.1 dX6_lots_240 (lv_at hl 4 rfl) ?_
                  refine lv_if_ne (tgt := 253) hC.1 hC.2.1 dX6_lots_242 (by decide) (fun c242 => ?_) (fun c242 => ?_)
                  · refine lv_iload hC.1 hC.2.1 dX6_lots_253 (lv_at hl 7 rfl) ?_
                    refine lv_iload hC.1 hC.2.1 dX6_lots_255 (lv_at hl 8 rfl) ?_
                    refine lv_idiv hC.1 hC.2.1 dX6_lots_257 (fun h => hnz ⟨h, c219⟩) ?_
                    exact m_iret hC hlk hr hw rfl (⟨by unfold mX6_lots; simp only [ix_nI (show q < 2147483648 by omega)]; rw [if_pos c4]; rw [if_neg (b_nf c14)]; rw [if_neg (b_nf c26)]; rw [if_neg (b_nf c38)]; rw [if_pos c49]; dsimp only; unfold lotsV; rw [if_pos c242, gcd_end hg c219], by unfold mX6_lots; simp only [ix_nI (show q < 2147483648 by omega)]; rw [if_pos c4]; rw [if_neg (b_nf c14)]; rw [if_neg (b_nf c26)]; rw [if_neg (b_nf c38)]; rw [if_pos c49]; dsimp only; exact ⟨_, rfl⟩⟩) dX6_lots_258
                  · refine lv_iload hC.1 hC.2.1 dX6_lots_245 (lv_at hl 6 rfl) ?_
                    refine lv_iload hC.1 hC.2.1 dX6_lots_247 (lv_at hl 8 rfl) ?_
                    refine lv_idiv hC.1 hC.2.1 dX6_lots_249 (fun h => hnz ⟨h, c219⟩) ?_
                    refine lv_goto (tgt := 258) hC.1 hC.2.1 dX6_lots_250 (by decide) ?_
                    exact m_iret hC hlk hr hw rfl (⟨by unfold mX6_lots; simp only [ix_nI (show q < 2147483648 by omega)]; rw [if_pos c4]; rw [if_neg (b_nf c14)]; rw [if_neg (b_nf c26)]; rw [if_neg (b_nf c38)]; rw [if_pos c49]; dsimp only; unfold lotsV; rw [if_neg (not_not_intro c242), gcd_end hg c219], by unfold mX6_lots; simp only [ix_nI (show q < 2147483648 by omega)]; rw [if_pos c4]; rw [if_neg (b_nf c14)]; rw [if_neg (b_nf c26)]; rw [if_neg (b_nf c38)]; rw [if_pos c49]; dsimp only; exact ⟨_, rfl⟩⟩) dX6_lots_258
                · refine lv_iload hC.1 hC.2.1 dX6_lots_222 (lv_at hl 8 rfl) ?_
                  refine lv_iload hC.1 hC.2.1 dX6_lots_224 (lv_at hl 9 rfl) ?_
                  refine lv_irem hC.1 hC.2.1 dX6_lots_226 c219 ?_
                  refine lv_istore (lv' := [(10, .int (irem z.1 z.2)), (0, .ref (ad 0)), (1, .int (nI q)), (2, .int v), (3, .int c), (4, .int what), (5, .int (nI (cntW (G 6) 16))), (6, .int (lsF (G 6) q v c (2 ^ cntW (G 6) 16))), (7, .int (pwF (cntW (G 6) 16))), (8, .int z.1), (9, .int z.2)]) hC.1 hC.2.1 dX6_lots_227 hl (by decide) rfl (fun ls hl => ?_)
                  refine lv_iload hC.1 hC.2.1 dX6_lots_229 (lv_at hl 10 rfl) ?_
                  refine lv_istore (lv' := [(8, .int z.2), (10, .int (irem z.1 z.2)), (0, .ref (ad 0)), (1, .int (nI q)), (2, .int v), (3, .int c), (4, .int what), (5, .int (nI (cntW (G 6) 16))), (6, .int (lsF (G 6) q v c (2 ^ cntW (G 6) 16))), (7, .int (pwF (cntW (G 6) 16))), (9, .int z.2)]) hC.1 hC.2.1 dX6_lots_231 hl (by decide) rfl (fun ls hl => ?_)
                  refine lv_iload hC.1 hC.2.1 dX6_lots_233 (lv_at hl 1 rfl) ?_
                  refine lv_istore (lv' := [(9, .int (irem z.1 z.2)), (8, .int z.2), (10, .int (irem z.1 z.2)), (0, .ref (ad 0)), (1, .int (nI q)), (2, .int v), (3, .int c), (4, .int what), (5, .int (nI (cntW (G 6) 16))), (6, .int (lsF (G 6) q v c (2 ^ cntW (G 6) 16))), (7, .int (pwF (cntW (G 6) 16)))]) hC.1 hC.2.1 dX6_lots_235 hl (by decide) rfl (fun ls hl => ?_)
                  refine lv_goto (tgt := 217) hC.1 hC.2.1 dX6_lots_237 (by decide) ?_
                  exact ih217 ls (z.2, irem z.1 z.2) H locs ⟨hl.sub' [3, 4, 5, 6, 7, 8, 9, 10, 1, 0] (by rfl), ⟨_, _, _, hw⟩, gcd_step (n := 0) hg c219, fun h => c219 h.1⟩ (irem_lt c219)
              · refine lv_iconst (v := (nI 1)) hC.1 hC.2.1 dX6_lots_106 (by decide) ?_
                refine lv_istore (lv' := [(9, .int (nI 1)), (0, .ref (ad 0)), (1, .int (nI q)), (2, .int v), (3, .int c), (4, .int what), (5, .int (nI (cntW (G 6) 16))), (6, .int (lsF (G 6) q v c d)), (7, .int (pwF (cntW (G 6) 16))), (8, .int (nI d))]) hC.1 hC.2.1 dX6_lots_107 hl (by decide) rfl (fun ls hl => ?_)
                refine lv_iconst (v := (nI 0)) hC.1 hC.2.1 dX6_lots_109 (by decide) ?_
                refine lv_istore (lv' := [(10, .int (nI 0)), (9, .int (nI 1)), (0, .ref (ad 0)), (1, .int (nI q)), (2, .int v), (3, .int c), (4, .int what), (5, .int (nI (cntW (G 6) 16))), (6, .int (lsF (G 6) q v c d)), (7, .int (pwF (cntW (G 6) 16))), (8, .int (nI d))]) hC.1 hC.2.1 dX6_lots_110 hl (by decide) rfl (fun ls hl => ?_)
                refine lv_iconst (v := (nI 0)) hC.1 hC.2.1 dX6_lots_112 (by decide) ?_
                refine lv_istore (lv' := [(11, .int (nI 0)), (10, .int (nI 0)), (9, .int (nI 1)), (0, .ref (ad 0)), (1, .int (nI q)), (2, .int v), (3, .int c), (4, .int what), (5, .int (nI (cntW (G 6) 16))), (6, .int (lsF (G 6) q v c d)), (7, .int (pwF (cntW (G 6) 16))), (8, .int (nI d))]) hC.1 hC.2.1 dX6_lots_113 hl (by decide) rfl (fun ls hl => ?_)
                refine W.loop (fun ls x H locs => lv_has ls 12 [(0, .ref (ad 0)), (1, .int (nI q)), (2, .int v), (3, .int c), (4, .int what), (5, .int (nI (cntW (G 6) 16))), (6, .int (lsF (G 6) q v c d)), (7, .int (pwF (cntW (G 6) 16))), (8, .int (nI d)), (9, .int ((ltF (G 6) c (nI d) x).1)), (10, .int (nI ((ltF (G 6) c (nI d) x).2.1))), (11, .int (nI x))] ∧ (∃ f_ l_ b_, mw D dA (nA mDom ad s.heap.size) s.heap ad (scs G (f_, l_, b_, G 6) ((ltF (G 6) c (nI d) x).2.2)) H locs) ∧ (x ≤ 16)) 115 (fun _ => []) (fun x => 16 - x) ?_ 0 ⟨hl.sub' [3, 4, 5, 6, 7, 8, 9, 10, 11, 2, 1, 0] (by rfl), ⟨_, _, _, hw⟩, by omega⟩
                rintro ls x H locs ⟨hl, ⟨f_, l_, b_, hw⟩, hx⟩ ih115
                refine lv_iload hC.1 hC.2.1 dX6_lots_115 (lv_at hl 11 rfl) ?_
                refine lv_bipush (v := (nI 16)) hC.1 hC.2.1 dX6_lots_117 (by decide) ?_
                refine k_ge (tgt := 179) hC (by omega) (by omega) dX6_lots_119 (by decide) (fun c119 => ?_) (fun c119 => ?_)
                · have e_x : x = 16 := by omega
                  subst e_x
                  refine lv_iload hC.1 hC.2.1 dX6_lots_179 (lv_at hl 6 rfl) ?_
                  refine lv_aload_n hC.1 hC.2.1 dX6_lots_181 rfl (lv_at hl 0 rfl) ?_
                  refine lv_iload_n hC.1 hC.2.1 dX6_lots_182 rfl (lv_at hl 1 rfl) ?_
                  refine m_calli (n := 1) hC hl.1 hK hw (tX6_feltNow l (scs G (f_, l_, b_, G 6) ((ltF (G 6) c (nI d) 16).2.2)) q (by omega)) (lw_V q1359 q1361 qs45 q66 q1362) rfl rfl (by decide +kernel) ⟨by decide, by decide⟩ rfl rfl (Nat.le_of_ble_eq_true rfl) dX6_lots_183 ⟨Nat.zero_le _, Nat.zero_le _⟩ ?_
                  rintro r2 G2 H locs ⟨hr2, hG2⟩ hw
                  replace hw := hw.eq hG2
                  replace hr2 : r2 = ((bl (((ltF (G 6) c (nI d) 16).2.2))).1 q) := hr2
                  rw [hr2]
                  clear hr2 hG2
                  replace hw := hw.eq (blow_scs _ _ _ _ _ _)
                  refine lv_iload_n hC.1 hC.2.1 dX6_lots_186 rfl (lv_at hl 2 rfl) ?_
                  refine lv_icmp_lt (tgt := 195) hC.1 hC.2.1 dX6_lots_187 (by decide) (fun c187 => ?_) (fun c187 => ?_)
                  · refine lv_iconst (v := (nI 0)) hC.1 hC.2.1 dX6_lots_195 (by decide) ?_
                    refine lv_iadd hC.1 hC.2.1 dX6_lots_196 ?_
                    refine lv_istore (lv' := [(6, .int ((lsF (G 6) q v c d) + (nI 0))), (0, .ref (ad 0)), (1, .int (nI q)), (2, .int v), (3, .int c), (4, .int what), (5, .int (nI (cntW (G 6) 16))), (7, .int (pwF (cntW (G 6) 16))), (8, .int (nI d)), (9, .int ((ltF (G 6) c (nI d) 16).1)), (10, .int (nI ((ltF (G 6) c (nI d) 16).2.1))), (11, .int (nI 16))]) hC.1 hC.2.1 dX6_lots_197 hl (by decide) rfl (fun ls hl => ?_)
                    refine lv_aload_n hC.1 hC.2.1 dX6_lots_199 rfl (lv_at hl 1 rfl) ?_
                    refine m_callv (n := 0) hC hl.1 hK hw (tX6_takeBack l (scs G ((bl ((ltF (G 6) c (nI d) 16).2.2)).1, (bl ((ltF (G 6) c (nI d) 16).2.2)).2, b_, G 6) ((ltF (G 6) c (nI d) 16).2.2))  ) (lw_V q1381 q1383 qs48 q66 q1384) rfl rfl (by decide +kernel) ⟨by decide, by decide⟩ rfl rfl (Nat.le_of_ble_eq_true rfl) dX6_lots_200 ⟨Nat.zero_le _, Nat.zero_le _⟩ ?_
                    rintro G2 H locs hG2 hw
                    replace hw := hw.eq hG2
                    clear hG2
                    replace hw := hw.eq (back_scs _ _ _ _ _ _)
                    refine k_iinc (k := 8) (d := 1) (lv' := [(8, .int (nI (d + 1))), (6, .int ((lsF (G 6) q v c d) + (nI 0))), (0, .ref (ad 0)), (1, .int (nI q)), (2, .int v), (3, .int c), (4, .int what), (5, .int (nI (cntW (G 6) 16))), (7, .int (pwF (cntW (G 6) 16))), (9, .int ((ltF (G 6) c (nI d) 16).1)), (10, .int (nI ((ltF (G 6) c (nI d) 16).2.1))), (11, .int (nI 16))]) hC dX6_lots_203 hl rfl (by decide) (by decide) rfl (fun ls hl => ?_)
                    refine lv_goto (tgt := 97) hC.1 hC.2.1 dX6_lots_206 (by decide) ?_
                    have e5 := ls_t c187
                    exact ih97 ls (d + 1) H locs ⟨hl.sub' [2, 3, 4, 5, 6, 7, 1, 8, 0] (by rw [e5]; rfl), ⟨_, _, _, hw⟩, by omega⟩ (by omega)
                  · refine lv_iload hC.1 hC.2.1 dX6_lots_190 (lv_at hl 9 rfl) ?_
                    refine lv_goto (tgt := 196) hC.1 hC.2.1 dX6_lots_192 (by decide) ?_
                    refine lv_iadd hC.1 hC.2.1 dX6_lots_196 ?_
                    refine lv_istore (lv' := [(6, .int ((lsF (G 6) q v c d) + ((ltF (G 6) c (nI d) 16).1))), (0, .ref (ad 0)), (1, .int (nI q)), (2, .int v), (3, .int c), (4, .int what), (5, .int (nI (cntW (G 6) 16))), (7, .int (pwF (cntW (G 6) 16))), (8, .int (nI d)), (9, .int ((ltF (G 6) c (nI d) 16).1)), (10, .int (nI ((ltF (G 6) c (nI d) 16).2.1))), (11, .int (nI 16))]) hC.1 hC.2.1 dX6_lots_197 hl (by decide) rfl (fun ls hl => ?_)
                    refine lv_aload_n hC.1 hC.2.1 dX6_lots_199 rfl (lv_at hl 1 rfl) ?_
                    refine m_callv (n := 0) hC hl.1 hK hw (tX6_takeBack l (scs G ((bl ((ltF (G 6) c (nI d) 16).2.2)).1, (bl ((ltF (G 6) c (nI d) 16).2.2)).2, b_, G 6) ((ltF (G 6) c (nI d) 16).2.2))  ) (lw_V q1381 q1383 qs48 q66 q1384) rfl rfl (by decide +kernel) ⟨by decide, by decide⟩ rfl rfl (Nat.le_of_ble_eq_true rfl) dX6_lots_200 ⟨Nat.zero_le _, Nat.zero_le _⟩ ?_
                    rintro G2 H locs hG2 hw
                    replace hw := hw.eq hG2
                    clear hG2
                    replace hw := hw.eq (back_scs _ _ _ _ _ _)
                    refine k_iinc (k := 8) (d := 1) (lv' := [(8, .int (nI (d + 1))), (6, .int ((lsF (G 6) q v c d) + ((ltF (G 6) c (nI d) 16).1))), (0, .ref (ad 0)), (1, .int (nI q)), (2, .int v), (3, .int c), (4, .int what), (5, .int (nI (cntW (G 6) 16))), (7, .int (pwF (cntW (G 6) 16))), (9, .int ((ltF (G 6) c (nI d) 16).1)), (10, .int (nI ((ltF (G 6) c (nI d) 16).2.1))), (11, .int (nI 16))]) hC dX6_lots_203 hl rfl (by decide) (by decide) rfl (fun ls hl => ?_)
                    refine lv_goto (tgt := 97) hC.1 hC.2.1 dX6_lots_206 (by decide) ?_
                    have e5 := ls_f c187
                    exact ih97 ls (d + 1) H locs ⟨hl.sub' [2, 3, 4, 5, 6, 7, 1, 8, 0] (by rw [e5]; rfl), ⟨_, _, _, hw⟩, by omega⟩ (by omega)
                · refine lv_aload_n hC.1 hC.2.1 dX6_lots_122 rfl (lv_at hl 0 rfl) ?_
                  refine lv_iload hC.1 hC.2.1 dX6_lots_123 (lv_at hl 11 rfl) ?_
                  refine m_calli (n := 1) hC hl.1 hK hw (tX6_isWork l (scs G (f_, l_, b_, G 6) ((ltF (G 6) c (nI d) x).2.2)) x (by omega)) (lw_V q1301 q1303 qs38 q66 q1304) rfl rfl (by decide +kernel) ⟨by decide, by decide⟩ rfl rfl (Nat.le_of_ble_eq_true rfl) dX6_lots_125 ⟨Nat.zero_le _, Nat.zero_le _⟩ ?_
                  rintro r2 G2 H locs ⟨hr2, hG2⟩ hw
                  replace hw := hw.eq hG2
                  replace hr2 : r2 = (bI (isWk (((ltF (G 6) c (nI d) x).2.2)) x)) := hr2
                  rw [hr2]
                  clear hr2 hG2
                  refine k_beq (tgt := 173) hC dX6_lots_128 (by decide) (fun c128 => ?_) (fun c128 => ?_)
                  · refine k_iinc (k := 11) (d := 1) (lv' := [(11, .int (nI (x + 1))), (0, .ref (ad 0)), (1, .int (nI q)), (2, .int v), (3, .int c), (4, .int what), (5, .int (nI (cntW (G 6) 16))), (6, .int (lsF (G 6) q v c d)), (7, .int (pwF (cntW (G 6) 16))), (8, .int (nI d)), (9, .int ((ltF (G 6) c (nI d) x).1)), (10, .int (nI ((ltF (G 6) c (nI d) x).2.1)))]) hC dX6_lots_173 hl rfl (by decide) (by decide) rfl (fun ls hl => ?_)
                    refine lv_goto (tgt := 115) hC.1 hC.2.1 dX6_lots_176 (by decide) ?_
                    have e5 := lt_no c128
                    replace hw := hw.eq (congrArg (scs G _) (show (ltF (G 6) c (nI d) x).2.2 = (ltF (G 6) c (nI d) (x + 1)).2.2 by rw [e5]))
                    exact ih115 ls (x + 1) H locs ⟨hl.sub' [1, 2, 3, 4, 5, 6, 7, 8, 9, 10, 11, 0] (by rw [e5]; rfl), ⟨_, _, _, hw⟩, by omega⟩ (by omega)
                  · refine lv_iload hC.1 hC.2.1 dX6_lots_131 (lv_at hl 9 rfl) ?_
                    refine lv_iload hC.1 hC.2.1 dX6_lots_133 (lv_at hl 8 rfl) ?_
                    refine lv_iload hC.1 hC.2.1 dX6_lots_135 (lv_at hl 10 rfl) ?_
                    refine pS_call (n := 2) hC hl.1 (tX6_has l (nI d) (nI ((ltF (G 6) c (nI d) x).2.1)) ) (lw_S q1397 q1398 q66 q1399) rfl rfl (by decide +kernel) ⟨by decide, by decide⟩ rfl rfl (Nat.le_of_ble_eq_true rfl) dX6_lots_137 ⟨Nat.zero_le _, Nat.zero_le _⟩ ?_
                    refine k_beq (tgt := 147) hC dX6_lots_140 (by decide) (fun c140 => ?_) (fun c140 => ?_)
                    · refine lv_bipush (v := (nI 10)) hC.1 hC.2.1 dX6_lots_147 (by decide) ?_
                      refine lv_iload_n hC.1 hC.2.1 dX6_lots_149 rfl (lv_at hl 3 rfl) ?_
                      refine lv_isub hC.1 hC.2.1 dX6_lots_150 ?_
                      refine lv_imul hC.1 hC.2.1 dX6_lots_151 ?_
                      refine lv_istore (lv' := [(9, .int (((ltF (G 6) c (nI d) x).1) * ((nI 10) - c))), (0, .ref (ad 0)), (1, .int (nI q)), (2, .int v), (3, .int c), (4, .int what), (5, .int (nI (cntW (G 6) 16))), (6, .int (lsF (G 6) q v c d)), (7, .int (pwF (cntW (G 6) 16))), (8, .int (nI d)), (10, .int (nI ((ltF (G 6) c (nI d) x).2.1))), (11, .int (nI x))]) hC.1 hC.2.1 dX6_lots_152 hl (by decide) rfl (fun ls hl => ?_)
                      refine lv_iload hC.1 hC.2.1 dX6_lots_154 (lv_at hl 9 rfl) ?_
                      refine lv_iload hC.1 hC.2.1 dX6_lots_156 (lv_at hl 10 rfl) ?_
                      refine pS_call (n := 2) hC hl.1 (tX6_has l (nI d) (nI ((ltF (G 6) c (nI d) x).2.1)) ) (lw_S q1397 q1398 q66 q1399) rfl rfl (by decide +kernel) ⟨by decide, by decide⟩ rfl rfl (Nat.le_of_ble_eq_true rfl) dX6_lots_158 ⟨Nat.zero_le _, Nat.zero_le _⟩ ?_
                      refine k_beq (tgt := 170) hC dX6_lots_161 (by decide) (fun c161 => ?_) (fun c161 => ?_)
                      · refine k_iinc (k := 10) (d := 1) (lv' := [(10, .int (nI (((ltF (G 6) c (nI d) x).2.1) + 1))), (9, .int (((ltF (G 6) c (nI d) x).1) * ((nI 10) - c))), (0, .ref (ad 0)), (1, .int (nI q)), (2, .int v), (3, .int c), (4, .int what), (5, .int (nI (cntW (G 6) 16))), (6, .int (lsF (G 6) q v c d)), (7, .int (pwF (cntW (G 6) 16))), (8, .int (nI d)), (11, .int (nI x))]) hC dX6_lots_170 hl rfl (by decide) (by decide) rfl (fun ls hl => ?_)
                        refine k_iinc (k := 11) (d := 1) (lv' := [(11, .int (nI (x + 1))), (10, .int (nI (((ltF (G 6) c (nI d) x).2.1) + 1))), (9, .int (((ltF (G 6) c (nI d) x).1) * ((nI 10) - c))), (0, .ref (ad 0)), (1, .int (nI q)), (2, .int v), (3, .int c), (4, .int what), (5, .int (nI (cntW (G 6) 16))), (6, .int (lsF (G 6) q v c d)), (7, .int (pwF (cntW (G 6) 16))), (8, .int (nI d))]) hC dX6_lots_173 hl rfl (by decide) (by decide) rfl (fun ls hl => ?_)
                        refine lv_goto (tgt := 115) hC.1 hC.2.1 dX6_lots_176 (by decide) ?_
                        have e5 := lt_n c128 c140
                        replace hw := hw.eq (congrArg (scs G _) (show (ltF (G 6) c (nI d) x).2.2 = (ltF (G 6) c (nI d) (x + 1)).2.2 by rw [e5]))
                        exact ih115 ls (x + 1) H locs ⟨hl.sub' [3, 4, 5, 6, 7, 8, 9, 10, 11, 2, 1, 0] (by rw [e5]; rfl), ⟨_, _, _, hw⟩, by omega⟩ (by omega)
                      · exact absurd c140 (b_nf c161)
                    · refine lv_iload_n hC.1 hC.2.1 dX6_lots_143 rfl (lv_at hl 3 rfl) ?_
                      refine lv_goto (tgt := 151) hC.1 hC.2.1 dX6_lots_144 (by decide) ?_
                      refine lv_imul hC.1 hC.2.1 dX6_lots_151 ?_
                      refine lv_istore (lv' := [(9, .int (((ltF (G 6) c (nI d) x).1) * c)), (0, .ref (ad 0)), (1, .int (nI q)), (2, .int v), (3, .int c), (4, .int what), (5, .int (nI (cntW (G 6) 16))), (6, .int (lsF (G 6) q v c d)), (7, .int (pwF (cntW (G 6) 16))), (8, .int (nI d)), (10, .int (nI ((ltF (G 6) c (nI d) x).2.1))), (11, .int (nI x))]) hC.1 hC.2.1 dX6_lots_152 hl (by decide) rfl (fun ls hl => ?_)
                      refine lv_iload hC.1 hC.2.1 dX6_lots_154 (lv_at hl 9 rfl) ?_
                      refine lv_iload hC.1 hC.2.1 dX6_lots_156 (lv_at hl 10 rfl) ?_
                      refine pS_call (n := 2) hC hl.1 (tX6_has l (nI d) (nI ((ltF (G 6) c (nI d) x).2.1)) ) (lw_S q1397 q1398 q66 q1399) rfl rfl (by decide +kernel) ⟨by decide, by decide⟩ rfl rfl (Nat.le_of_ble_eq_true rfl) dX6_lots_158 ⟨Nat.zero_le _, Nat.zero_le _⟩ ?_
                      refine k_beq (tgt := 170) hC dX6_lots_161 (by decide) (fun c161 => ?_) (fun c161 => ?_)
                      · exact absurd c161 (b_nf c140)
                      · refine lv_aload_n hC.1 hC.2.1 dX6_lots_164 rfl (lv_at hl 1 rfl) ?_
                        refine lv_iload hC.1 hC.2.1 dX6_lots_165 (lv_at hl 11 rfl) ?_
                        refine m_callv (n := 1) hC hl.1 hK hw (tX6_clear l (scs G (f_, l_, b_, G 6) ((ltF (G 6) c (nI d) x).2.2)) x (by omega)) (lw_V q1317 q1319 qs41 q66 q1320) rfl rfl (by decide +kernel) ⟨by decide, by decide⟩ rfl rfl (Nat.le_of_ble_eq_true rfl) dX6_lots_167 ⟨Nat.zero_le _, Nat.zero_le _⟩ ?_
                        rintro G2 H locs hG2 hw
                        replace hw := hw.eq hG2
                        clear hG2
                        replace hw := hw.eq (clr_scs _ _ _ _)
                        refine k_iinc (k := 10) (d := 1) (lv' := [(10, .int (nI (((ltF (G 6) c (nI d) x).2.1) + 1))), (9, .int (((ltF (G 6) c (nI d) x).1) * c)), (0, .ref (ad 0)), (1, .int (nI q)), (2, .int v), (3, .int c), (4, .int what), (5, .int (nI (cntW (G 6) 16))), (6, .int (lsF (G 6) q v c d)), (7, .int (pwF (cntW (G 6) 16))), (8, .int (nI d)), (11, .int (nI x))]) hC dX6_lots_170 hl rfl (by decide) (by decide) rfl (fun ls hl => ?_)
                        refine k_iinc (k := 11) (d := 1) (lv' := [(11, .int (nI (x + 1))), (10, .int (nI (((ltF (G 6) c (nI d) x).2.1) + 1))), (9, .int (((ltF (G 6) c (nI d) x).1) * c)), (0, .ref (ad 0)), (1, .int (nI q)), (2, .int v), (3, .int c), (4, .int what), (5, .int (nI (cntW (G 6) 16))), (6, .int (lsF (G 6) q v c d)), (7, .int (pwF (cntW (G 6) 16))), (8, .int (nI d))]) hC dX6_lots_173 hl rfl (by decide) (by decide) rfl (fun ls hl => ?_)
                        refine lv_goto (tgt := 115) hC.1 hC.2.1 dX6_lots_176 (by decide) ?_
                        have e5 := lt_y c128 c140
                        replace hw := hw.eq (congrArg (scs G _) (show clr ((ltF (G 6) c (nI d) x).2.2) x = (ltF (G 6) c (nI d) (x + 1)).2.2 by rw [e5]))
                        exact ih115 ls (x + 1) H locs ⟨hl.sub' [3, 4, 5, 6, 7, 8, 9, 10, 11, 2, 1, 0] (by rw [e5]; rfl), ⟨_, _, _, hw⟩, by omega⟩ (by omega)
            · refine lv_iload hC.1 hC.2.1 dX6_lots_81 (lv_at hl 7 rfl) ?_
              refine lv_bipush (v := (nI 10)) hC.1 hC.2.1 dX6_lots_83 (by decide) ?_
              refine lv_imul hC.1 hC.2.1 dX6_lots_85 ?_
              refine lv_istore (lv' := [(7, .int ((pwF i) * (nI 10))), (0, .ref (ad 0)), (1, .int (nI q)), (2, .int v), (3, .int c), (4, .int what), (5, .int (nI (cntW (G 6) 16))), (6, .int (nI 0)), (8, .int (nI i))]) hC.1 hC.2.1 dX6_lots_86 hl (by decide) rfl (fun ls hl => ?_)
              refine k_iinc (k := 8) (d := 1) (lv' := [(8, .int (nI (i + 1))), (7, .int ((pwF i) * (nI 10))), (0, .ref (ad 0)), (1, .int (nI q)), (2, .int v), (3, .int c), (4, .int what), (5, .int (nI (cntW (G 6) 16))), (6, .int (nI 0))]) hC dX6_lots_88 hl rfl (by decide) (by decide) rfl (fun ls hl => ?_)
              refine lv_goto (tgt := 74) hC.1 hC.2.1 dX6_lots_91 (by decide) ?_
              exact ih74 ls (i + 1) H locs ⟨hl.sub' [2, 3, 4, 5, 6, 7, 8, 1, 0] (by rfl), ⟨_, _, _, hw⟩, by omega⟩ (by omega)
          · refine lv_ldc hC.1 hC.2.1 hC.2.2.2.1 (hC.2.2.2.2 _ q1214) dX6_lots_52 ?_
            exact m_iret hC hlk hr hw rfl (⟨by unfold mX6_lots; rw [if_pos c4]; rw [if_neg (b_nf c14)]; rw [if_neg (b_nf c26)]; rw [if_neg (b_nf c38)]; rw [if_neg (b_nt c49)]; try (first | rfl | (dsimp only; try rfl)), by unfold mX6_lots; rw [if_pos c4]; rw [if_neg (b_nf c14)]; rw [if_neg (b_nf c26)]; rw [if_neg (b_nf c38)]; rw [if_neg (b_nt c49)]; dsimp only; exact ⟨_, scs_in _⟩⟩) dX6_lots_54
  · refine lv_ldc hC.1 hC.2.1 hC.2.2.2.1 (hC.2.2.2.2 _ q1294) dX6_lots_7 ?_
    exact m_iret hC hlk hr hw rfl (⟨by unfold mX6_lots; rw [if_neg (not_not_intro c4)]; try (first | rfl | (dsimp only; try rfl)), by unfold mX6_lots; rw [if_neg (not_not_intro c4)]; dsimp only; exact ⟨_, scs_in _⟩⟩) dX6_lots_9
