/-! WindCarverModel: contracts, second part (by gen/m2.py) -/
set_option maxHeartbeats 4000000 in
theorem tX6_note (l : Launch) (G : mG) (h0 : amOk G) : mV l yX6_note cX6_note 2 ({ frames := 0, cells := 0, slots := 0, locals := 0 } : Room) [] G (fun G' => G' = noteG G) := by
  refine mV.of (by decide) rfl (fun _ => Nat.le_of_ble_eq_true rfl) ?_
  intro D dA ad p e s m below meth cd ls hC hlk hr hK hl hw
  have hl : lv_has ls 2 [(0, .ref (ad 0))] := hl
  have ⟨am, ham, eam⟩ := h0
  refine lv_aload_n hC.1 hC.2.1 dX6_note_0 rfl (lv_at hl 0 rfl) ?_
  refine m_gi hC hK hw 22 (by decide) rfl q1138 rfl (v := (nI am)) (eam) dX6_note_1 ?_
  refine lv_bipush (v := (nI 24)) hC.1 hC.2.1 dX6_note_4 (by decide) ?_
  refine k_ne (tgt := 49) hC (by omega) (by omega) dX6_note_6 (by decide) (fun c6 => ?_) (fun c6 => ?_)
  · refine lv_iconst (v := (nI 0)) hC.1 hC.2.1 dX6_note_49 (by decide) ?_
    refine lv_istore_n (lv' := [(1, .int (nI 0)), (0, .ref (ad 0))]) hC.1 hC.2.1 dX6_note_50 rfl hl (by decide) rfl (fun ls hl => ?_)
    refine W.loop (fun ls i H locs => lv_has ls 2 [(0, .ref (ad 0)), (1, .int (nI i))] ∧ mw D dA (nA mDom ad s.heap.size) s.heap ad (va_up G 22 (fun j => if 57 * am ≤ j ∧ j < 57 * am + i then G 6 (j - 57 * am) else G 22 j)) H locs ∧ (i ≤ 57)) 51 (fun _ => []) (fun i => 57 - i) ?_ 0 ⟨hl.sub' [1, 0] (by rfl), hw.eq (seg_0 _ 22 _ (G 6)), by omega⟩
    rintro ls i H locs ⟨hl, hw, hi⟩ ih51
    refine lv_iload_n hC.1 hC.2.1 dX6_note_51 rfl (lv_at hl 1 rfl) ?_
    refine lv_bipush (v := (nI 57)) hC.1 hC.2.1 dX6_note_52 (by decide) ?_
    refine k_ge (tgt := 83) hC (by omega) (by omega) dX6_note_54 (by decide) (fun c54 => ?_) (fun c54 => ?_)
    · have eN : i = 57 := by omega
      subst eN
      refine lv_aload_n hC.1 hC.2.1 dX6_note_83 rfl (lv_at hl 0 rfl) ?_
      refine lv_dup hC.1 hC.2.1 dX6_note_84 rfl ?_
      refine m_gi hC hK hw 22 (by decide) rfl q1138 rfl (v := (nI am)) (eam) dX6_note_85 ?_
      refine lv_iconst (v := (nI 1)) hC.1 hC.2.1 dX6_note_88 (by decide) ?_
      refine k_add hC dX6_note_89 ?_
      refine m_pi hC hK hw 22 (by decide) rfl rfl q1138 rfl rfl rfl rfl dX6_note_90 (fun H locs hw => ?_)
      exact m_vret hC hlk hr hw (by unfold noteG; rw [eam, ix_nI (by omega), if_neg c6]; rfl) dX6_note_93
    · refine lv_aload_n hC.1 hC.2.1 dX6_note_57 rfl (lv_at hl 0 rfl) ?_
      refine m_ga hC hK hw 21 (by decide) rfl q1137 rfl dX6_note_58 ?_
      refine lv_bipush (v := (nI 57)) hC.1 hC.2.1 dX6_note_61 (by decide) ?_
      refine lv_aload_n hC.1 hC.2.1 dX6_note_63 rfl (lv_at hl 0 rfl) ?_
      refine m_gi hC hK hw 22 (by decide) rfl q1138 rfl (v := (nI am)) (eam) dX6_note_64 ?_
      refine k_mul hC dX6_note_67 ?_
      refine lv_iload_n hC.1 hC.2.1 dX6_note_68 rfl (lv_at hl 1 rfl) ?_
      refine k_add hC dX6_note_69 ?_
      refine lv_aload_n hC.1 hC.2.1 dX6_note_70 rfl (lv_at hl 0 rfl) ?_
      refine m_ga hC hK hw 5 (by decide) rfl q1121 rfl dX6_note_71 ?_
      refine lv_iload_n hC.1 hC.2.1 dX6_note_74 rfl (lv_at hl 1 rfl) ?_
      refine m_ld hC hK hw 6 (by decide) (by decide) (by decide) (by simp only [mLen]; omega) (by omega) (v := (G 6 i)) (rfl) dX6_note_75 ?_
      refine m_st hC hK hw 22 (by decide) (by decide) (by decide) (by simp only [mLen]; omega) (by omega) dX6_note_76 (fun H locs hw => ?_)
      refine k_iinc (k := 1) (d := 1) (lv' := [(1, .int (nI (i + 1))), (0, .ref (ad 0))]) hC dX6_note_77 hl rfl (by decide) (by decide) rfl (fun ls hl => ?_)
      refine lv_goto (tgt := 51) hC.1 hC.2.1 dX6_note_80 (by decide) ?_
      exact ih51 ls (i + 1) H locs ⟨hl.sub' [1, 0] (by rfl), hw.eq (by rw [g2_up]; exact congrArg (va_up G 22) (seg_step (G 6) _ _ _)), by omega⟩ (by omega)
  · refine lv_iconst (v := (nI 0)) hC.1 hC.2.1 dX6_note_9 (by decide) ?_
    refine lv_istore_n (lv' := [(1, .int (nI 0)), (0, .ref (ad 0))]) hC.1 hC.2.1 dX6_note_10 rfl hl (by decide) rfl (fun ls hl => ?_)
    refine W.loop (fun ls i H locs => lv_has ls 2 [(0, .ref (ad 0)), (1, .int (nI i))] ∧ mw D dA (nA mDom ad s.heap.size) s.heap ad (va_up G 22 (fun j => if j < i then G 22 (j + 57) else G 22 j)) H locs ∧ (i ≤ 1311)) 11 (fun _ => []) (fun i => 1311 - i) ?_ 0 ⟨hl.sub' [1, 0] (by rfl), hw.eq (cp_0 G 22 _), by omega⟩
    rintro ls i H locs ⟨hl, hw, hi⟩ ih11
    refine lv_iload_n hC.1 hC.2.1 dX6_note_11 rfl (lv_at hl 1 rfl) ?_
    refine lv_sipush (v := (nI 1311)) hC.1 hC.2.1 dX6_note_12 (by decide) ?_
    refine k_ge (tgt := 39) hC (by omega) (by omega) dX6_note_15 (by decide) (fun c15 => ?_) (fun c15 => ?_)
    · have eN : i = 1311 := by omega
      subst eN
      refine lv_aload_n hC.1 hC.2.1 dX6_note_39 rfl (lv_at hl 0 rfl) ?_
      refine lv_dup hC.1 hC.2.1 dX6_note_40 rfl ?_
      refine m_gi hC hK hw 22 (by decide) rfl q1138 rfl (v := (nI am)) (eam) dX6_note_41 ?_
      refine lv_iconst (v := (nI 1)) hC.1 hC.2.1 dX6_note_44 (by decide) ?_
      refine k_sub hC (by omega) dX6_note_45 ?_
      refine m_pi hC hK hw 22 (by decide) rfl rfl q1138 rfl rfl rfl rfl dX6_note_46 (fun H locs hw => ?_)
      refine lv_iconst (v := (nI 0)) hC.1 hC.2.1 dX6_note_49 (by decide) ?_
      refine lv_istore_n (lv' := [(1, .int (nI 0)), (0, .ref (ad 0))]) hC.1 hC.2.1 dX6_note_50 rfl hl (by decide) rfl (fun ls hl => ?_)
      refine W.loop (fun ls i H locs => lv_has ls 2 [(0, .ref (ad 0)), (1, .int (nI i))] ∧ mw D dA (nA mDom ad s.heap.size) s.heap ad (va_up (g2 (va_up G 22 (fun j => if j < 1311 then G 22 (j + 57) else G 22 j)) 0 22 (nI (am - 1))) 22 (fun j => if 57 * (am - 1) ≤ j ∧ j < 57 * (am - 1) + i then G 6 (j - 57 * (am - 1)) else (g2 (va_up G 22 (fun j => if j < 1311 then G 22 (j + 57) else G 22 j)) 0 22 (nI (am - 1))) 22 j)) H locs ∧ (i ≤ 57)) 51 (fun _ => []) (fun i => 57 - i) ?_ 0 ⟨hl.sub' [1, 0] (by rfl), hw.eq (seg_0 _ 22 _ (G 6)), by omega⟩
      rintro ls i H locs ⟨hl, hw, hi⟩ ih51
      refine lv_iload_n hC.1 hC.2.1 dX6_note_51 rfl (lv_at hl 1 rfl) ?_
      refine lv_bipush (v := (nI 57)) hC.1 hC.2.1 dX6_note_52 (by decide) ?_
      refine k_ge (tgt := 83) hC (by omega) (by omega) dX6_note_54 (by decide) (fun c54 => ?_) (fun c54 => ?_)
      · have eN : i = 57 := by omega
        subst eN
        refine lv_aload_n hC.1 hC.2.1 dX6_note_83 rfl (lv_at hl 0 rfl) ?_
        refine lv_dup hC.1 hC.2.1 dX6_note_84 rfl ?_
        refine m_gi hC hK hw 22 (by decide) rfl q1138 rfl (v := (nI (am - 1))) (rfl) dX6_note_85 ?_
        refine lv_iconst (v := (nI 1)) hC.1 hC.2.1 dX6_note_88 (by decide) ?_
        refine k_add hC dX6_note_89 ?_
        refine m_pi hC hK hw 22 (by decide) rfl rfl q1138 rfl rfl rfl rfl dX6_note_90 (fun H locs hw => ?_)
        exact m_vret hC hlk hr hw (by subst c6; unfold noteG; rw [eam, ix_nI (by decide)]; rfl) dX6_note_93
      · refine lv_aload_n hC.1 hC.2.1 dX6_note_57 rfl (lv_at hl 0 rfl) ?_
        refine m_ga hC hK hw 21 (by decide) rfl q1137 rfl dX6_note_58 ?_
        refine lv_bipush (v := (nI 57)) hC.1 hC.2.1 dX6_note_61 (by decide) ?_
        refine lv_aload_n hC.1 hC.2.1 dX6_note_63 rfl (lv_at hl 0 rfl) ?_
        refine m_gi hC hK hw 22 (by decide) rfl q1138 rfl (v := (nI (am - 1))) (rfl) dX6_note_64 ?_
        refine k_mul hC dX6_note_67 ?_
        refine lv_iload_n hC.1 hC.2.1 dX6_note_68 rfl (lv_at hl 1 rfl) ?_
        refine k_add hC dX6_note_69 ?_
        refine lv_aload_n hC.1 hC.2.1 dX6_note_70 rfl (lv_at hl 0 rfl) ?_
        refine m_ga hC hK hw 5 (by decide) rfl q1121 rfl dX6_note_71 ?_
        refine lv_iload_n hC.1 hC.2.1 dX6_note_74 rfl (lv_at hl 1 rfl) ?_
        refine m_ld hC hK hw 6 (by decide) (by decide) (by decide) (by simp only [mLen]; omega) (by omega) (v := (G 6 i)) (rfl) dX6_note_75 ?_
        refine m_st hC hK hw 22 (by decide) (by decide) (by decide) (by simp only [mLen]; omega) (by omega) dX6_note_76 (fun H locs hw => ?_)
        refine k_iinc (k := 1) (d := 1) (lv' := [(1, .int (nI (i + 1))), (0, .ref (ad 0))]) hC dX6_note_77 hl rfl (by decide) (by decide) rfl (fun ls hl => ?_)
        refine lv_goto (tgt := 51) hC.1 hC.2.1 dX6_note_80 (by decide) ?_
        exact ih51 ls (i + 1) H locs ⟨hl.sub' [1, 0] (by rfl), hw.eq (by rw [g2_up]; exact congrArg (va_up (g2 (va_up G 22 (fun j => if j < 1311 then G 22 (j + 57) else G 22 j)) 0 22 (nI (am - 1))) 22) (seg_step (G 6) _ _ _)), by omega⟩ (by omega)
    · refine lv_aload_n hC.1 hC.2.1 dX6_note_18 rfl (lv_at hl 0 rfl) ?_
      refine m_ga hC hK hw 21 (by decide) rfl q1137 rfl dX6_note_19 ?_
      refine lv_iload_n hC.1 hC.2.1 dX6_note_22 rfl (lv_at hl 1 rfl) ?_
      refine lv_aload_n hC.1 hC.2.1 dX6_note_23 rfl (lv_at hl 0 rfl) ?_
      refine m_ga hC hK hw 21 (by decide) rfl q1137 rfl dX6_note_24 ?_
      refine lv_iload_n hC.1 hC.2.1 dX6_note_27 rfl (lv_at hl 1 rfl) ?_
      refine lv_bipush (v := (nI 57)) hC.1 hC.2.1 dX6_note_28 (by decide) ?_
      refine k_add hC dX6_note_30 ?_
      refine m_ld hC hK hw 22 (by decide) (by decide) (by decide) (by simp only [mLen]; omega) (by omega) (v := (G 22 (i + 57))) (by show (if i + 57 < i then _ else _) = _; rw [if_neg (by omega)]) dX6_note_31 ?_
      refine m_st hC hK hw 22 (by decide) (by decide) (by decide) (by simp only [mLen]; omega) (by omega) dX6_note_32 (fun H locs hw => ?_)
      refine k_iinc (k := 1) (d := 1) (lv' := [(1, .int (nI (i + 1))), (0, .ref (ad 0))]) hC dX6_note_33 hl rfl (by decide) (by decide) rfl (fun ls hl => ?_)
      refine lv_goto (tgt := 11) hC.1 hC.2.1 dX6_note_36 (by decide) ?_
      exact ih11 ls (i + 1) H locs ⟨hl.sub' [1, 0] (by rfl), hw.eq (by rw [g2_up]; exact congrArg (va_up G 22) (cp_step (fun j => G 22 (j + 57)) (G 22) i)), by omega⟩ (by omega)

noncomputable def mX6_row (G : mG) (row : Int32) (lane : Int32) (n : Int32) : Int32 × mG := if (inB row 0 (nI 7)) = false then ((-1000001 : Int32), G) else if (inB lane 0 (nI 2)) = false then ((-1000001 : Int32), G) else if n ≤ (nI 40) then if 0 ≤ n then (n, g2 (va_up (g2 (g2 G 1 (ix row) lane) 2 (ix row) n) 3 (fun j => if 40 * (ix row) ≤ j ∧ j < 40 * (ix row) + 40 then (fun _ => nI 0) (j - 40 * (ix row)) else G 3 j)) 0 3 (nI 0)) else (((-1000010 : Int32) - (nI 4)), g2 G 0 3 (nI 4)) else ((-1000001 : Int32), G)
set_option maxHeartbeats 4000000 in
theorem tX6_row (l : Launch) (G : mG) (row : Int32) (lane : Int32) (n : Int32) : mI l yX6_row cX6_row 5 .int ({ frames := 2, cells := 0, slots := 0, locals := 45 } : Room) [.int row, .int lane, .int n] G (fun r G' => r = ((mX6_row G row lane n).1) ∧ G' = (mX6_row G row lane n).2) := by
  refine mI.of (by decide) rfl (fun _ => Nat.le_of_ble_eq_true rfl) ?_
  intro D dA ad p e s m below meth cd ls hC hlk hr hK hl hw
  have hl : lv_has ls 5 [(0, .ref (ad 0)), (1, .int row), (2, .int lane), (3, .int n)] := hl
  refine lv_iload_n hC.1 hC.2.1 dX6_row_0 rfl (lv_at hl 1 rfl) ?_
  refine pS_call (n := 1) hC hl.1 (tX6_isRow l row ) (lw_S q1206 q1207 q66 q1208) rfl rfl (by decide +kernel) ⟨by decide, by decide⟩ rfl rfl (Nat.le_of_ble_eq_true rfl) dX6_row_1 ⟨Nat.zero_le _, Nat.zero_le _⟩ ?_
  refine k_beq (tgt := 25) hC dX6_row_4 (by decide) (fun c4 => ?_) (fun c4 => ?_)
  · refine lv_ldc hC.1 hC.2.1 hC.2.2.2.1 (hC.2.2.2.2 _ q1214) dX6_row_25 ?_
    exact m_iret hC hlk hr hw rfl (by unfold mX6_row; rw [if_pos c4]; exact ⟨by (dsimp only; try rfl), by (dsimp only; try rfl)⟩) dX6_row_27
  · refine lv_iload_n hC.1 hC.2.1 dX6_row_7 rfl (lv_at hl 2 rfl) ?_
    refine lv_i2l hC.1 hC.2.1 dX6_row_8 rfl ?_
    refine lv_lconst (v := 0) hC.1 hC.2.1 dX6_row_9 (by decide) ?_
    refine lv_ldc2 hC.1 hC.2.1 hC.2.2.2.1 (hC.2.2.2.2 _ q1213) dX6_row_10 ?_
    refine pS_call (n := 3) hC hl.1 (tX6_inI l lane 0 (nI 2)) (lw_S q1210 q1211 q66 q1212) rfl rfl (by decide +kernel) ⟨by decide, by decide⟩ rfl rfl (Nat.le_of_ble_eq_true rfl) dX6_row_13 ⟨Nat.zero_le _, Nat.zero_le _⟩ ?_
    refine k_beq (tgt := 25) hC dX6_row_16 (by decide) (fun c16 => ?_) (fun c16 => ?_)
    · refine lv_ldc hC.1 hC.2.1 hC.2.2.2.1 (hC.2.2.2.2 _ q1214) dX6_row_25 ?_
      exact m_iret hC hlk hr hw rfl (by unfold mX6_row; rw [if_neg (b_nf c4)]; rw [if_pos c16]; exact ⟨by (dsimp only; try rfl), by (dsimp only; try rfl)⟩) dX6_row_27
    · refine lv_iload_n hC.1 hC.2.1 dX6_row_19 rfl (lv_at hl 3 rfl) ?_
      refine lv_bipush (v := (nI 40)) hC.1 hC.2.1 dX6_row_20 (by decide) ?_
      refine lv_icmp_le (tgt := 28) hC.1 hC.2.1 dX6_row_22 (by decide) (fun c22 => ?_) (fun c22 => ?_)
      · refine lv_iload_n hC.1 hC.2.1 dX6_row_28 rfl (lv_at hl 3 rfl) ?_
        refine lv_if_ge (tgt := 38) hC.1 hC.2.1 dX6_row_29 (by decide) (fun c29 => ?_) (fun c29 => ?_)
        · obtain ⟨rr, hrr, rfl⟩ := inB_nat (n := 7) (by decide) c4
          refine lv_aload_n hC.1 hC.2.1 dX6_row_38 rfl (lv_at hl 0 rfl) ?_
          refine m_ga hC hK hw 0 (by decide) rfl q1116 rfl dX6_row_39 ?_
          refine lv_iload_n hC.1 hC.2.1 dX6_row_42 rfl (lv_at hl 1 rfl) ?_
          refine lv_iload_n hC.1 hC.2.1 dX6_row_43 rfl (lv_at hl 2 rfl) ?_
          refine m_st hC hK hw 1 (by decide) (by decide) (by decide) (by simp only [mLen]; omega) (by omega) dX6_row_44 (fun H locs hw => ?_)
          refine lv_aload_n hC.1 hC.2.1 dX6_row_45 rfl (lv_at hl 0 rfl) ?_
          refine m_ga hC hK hw 1 (by decide) rfl q1117 rfl dX6_row_46 ?_
          refine lv_iload_n hC.1 hC.2.1 dX6_row_49 rfl (lv_at hl 1 rfl) ?_
          refine lv_iload_n hC.1 hC.2.1 dX6_row_50 rfl (lv_at hl 3 rfl) ?_
          refine m_st hC hK hw 2 (by decide) (by decide) (by decide) (by simp only [mLen]; omega) (by omega) dX6_row_51 (fun H locs hw => ?_)
          refine lv_iconst (v := (nI 0)) hC.1 hC.2.1 dX6_row_52 (by decide) ?_
          refine lv_istore (lv' := [(4, .int (nI 0)), (0, .ref (ad 0)), (1, .int (nI rr)), (2, .int lane), (3, .int n)]) hC.1 hC.2.1 dX6_row_53 hl (by decide) rfl (fun ls hl => ?_)
          refine W.loop (fun ls i H locs => lv_has ls 5 [(0, .ref (ad 0)), (1, .int (nI rr)), (2, .int lane), (3, .int n), (4, .int (nI i))] ∧ mw D dA (nA mDom ad s.heap.size) s.heap ad (va_up (g2 (g2 G 1 rr lane) 2 rr n) 3 (fun j => if 40 * rr ≤ j ∧ j < 40 * rr + i then (fun _ => nI 0) (j - 40 * rr) else G 3 j)) H locs ∧ (i ≤ 40)) 55 (fun _ => []) (fun i => 40 - i) ?_ 0 ⟨hl.sub' [1, 2, 3, 4, 0] (by rfl), hw.eq (seg_0 _ 3 _ (fun _ => nI 0)), by omega⟩
          rintro ls i H locs ⟨hl, hw, hi⟩ ih55
          refine lv_iload hC.1 hC.2.1 dX6_row_55 (lv_at hl 4 rfl) ?_
          refine lv_bipush (v := (nI 40)) hC.1 hC.2.1 dX6_row_57 (by decide) ?_
          refine k_ge (tgt := 81) hC (by omega) (by omega) dX6_row_59 (by decide) (fun c59 => ?_) (fun c59 => ?_)
          · have eN : i = 40 := by omega
            subst eN
            refine lv_aload_n hC.1 hC.2.1 dX6_row_81 rfl (lv_at hl 0 rfl) ?_
            refine lv_iload_n hC.1 hC.2.1 dX6_row_82 rfl (lv_at hl 3 rfl) ?_
            refine m_calli (n := 1) hC hl.1 hK hw (tX6_well l (va_up (g2 (g2 G 1 rr lane) 2 rr n) 3 (fun j => if 40 * rr ≤ j ∧ j < 40 * rr + 40 then (fun _ => nI 0) (j - 40 * rr) else G 3 j)) n ) (lw_V q1220 q1222 qs29 q66 q1223) rfl rfl (by decide +kernel) ⟨by decide, by decide⟩ rfl rfl (Nat.le_of_ble_eq_true rfl) dX6_row_83 ⟨Nat.zero_le _, Nat.zero_le _⟩ ?_
            rintro r2 G2 H locs ⟨hr2, hG2⟩ hw
            replace hw := hw.eq hG2
            rw [hr2]
            clear hr2 hG2
            exact m_iret hC hlk hr hw rfl (by unfold mX6_row; simp only [ix_nI (show rr < 2147483648 by omega)]; rw [if_neg (b_nf c4)]; rw [if_neg (b_nf c16)]; rw [if_pos c22]; rw [if_pos c29]; exact ⟨by (dsimp only; try rfl), by (dsimp only; try rfl)⟩) dX6_row_86
          · refine lv_aload_n hC.1 hC.2.1 dX6_row_62 rfl (lv_at hl 0 rfl) ?_
            refine m_ga hC hK hw 2 (by decide) rfl q1118 rfl dX6_row_63 ?_
            refine lv_bipush (v := (nI 40)) hC.1 hC.2.1 dX6_row_66 (by decide) ?_
            refine lv_iload_n hC.1 hC.2.1 dX6_row_68 rfl (lv_at hl 1 rfl) ?_
            refine k_mul hC dX6_row_69 ?_
            refine lv_iload hC.1 hC.2.1 dX6_row_70 (lv_at hl 4 rfl) ?_
            refine k_add hC dX6_row_72 ?_
            refine lv_iconst (v := (nI 0)) hC.1 hC.2.1 dX6_row_73 (by decide) ?_
            refine m_st hC hK hw 3 (by decide) (by decide) (by decide) (by simp only [mLen]; omega) (by omega) dX6_row_74 (fun H locs hw => ?_)
            refine k_iinc (k := 4) (d := 1) (lv' := [(4, .int (nI (i + 1))), (0, .ref (ad 0)), (1, .int (nI rr)), (2, .int lane), (3, .int n)]) hC dX6_row_75 hl rfl (by decide) (by decide) rfl (fun ls hl => ?_)
            refine lv_goto (tgt := 55) hC.1 hC.2.1 dX6_row_78 (by decide) ?_
            exact ih55 ls (i + 1) H locs ⟨hl.sub' [1, 2, 3, 4, 0] (by rfl), hw.eq (by rw [g2_up]; exact congrArg (va_up _ 3) (seg_step (fun _ => nI 0) _ _ _)), by omega⟩ (by omega)
        · refine lv_aload_n hC.1 hC.2.1 dX6_row_32 rfl (lv_at hl 0 rfl) ?_
          refine lv_iconst (v := (nI 4)) hC.1 hC.2.1 dX6_row_33 (by decide) ?_
          refine m_calli (n := 1) hC hl.1 hK hw (tX6_find l G (nI 4) ) (lw_V q1215 q1217 qs28 q66 q1218) rfl rfl (by decide +kernel) ⟨by decide, by decide⟩ rfl rfl (Nat.le_of_ble_eq_true rfl) dX6_row_34 ⟨Nat.zero_le _, Nat.zero_le _⟩ ?_
          rintro r2 G2 H locs ⟨hr2, hG2⟩ hw
          replace hw := hw.eq hG2
          rw [hr2]
          clear hr2 hG2
          exact m_iret hC hlk hr hw rfl (by unfold mX6_row; rw [if_neg (b_nf c4)]; rw [if_neg (b_nf c16)]; rw [if_pos c22]; rw [if_neg c29]; exact ⟨by (dsimp only; try rfl), by (dsimp only; try rfl)⟩) dX6_row_37
      · refine lv_ldc hC.1 hC.2.1 hC.2.2.2.1 (hC.2.2.2.2 _ q1214) dX6_row_25 ?_
        exact m_iret hC hlk hr hw rfl (by unfold mX6_row; rw [if_neg (b_nf c4)]; rw [if_neg (b_nf c16)]; rw [if_neg c22]; exact ⟨by (dsimp only; try rfl), by (dsimp only; try rfl)⟩) dX6_row_27

noncomputable def mX6_set (G : mG) (row : Int32) (i : Int32) (v : Int32) : Int32 × mG := if (inB row 0 (nI 7)) = true then if 0 ≤ (G 2 (ix row)) then if (inB i 0 ((G 2 (ix row)) - (nI 1))) = true then ((asL (G 1 (ix row)) v), g2 (g2 G 3 ((40 * (ix row)) + (ix i)) (asL (G 1 (ix row)) v)) 0 3 (nI 0)) else (((-1000010 : Int32) - (nI 2)), g2 G 0 3 (nI 2)) else (((-1000010 : Int32) - (nI 1)), g2 G 0 3 (nI 1)) else ((-1000001 : Int32), G)
set_option maxHeartbeats 4000000 in
theorem tX6_set (l : Launch) (G : mG) (row : Int32) (i : Int32) (v : Int32) (h0 : szOk G) : mI l yX6_set cX6_set 4 .int ({ frames := 2, cells := 0, slots := 0, locals := 45 } : Room) [.int row, .int i, .int v] G (fun r G' => r = ((mX6_set G row i v).1) ∧ G' = (mX6_set G row i v).2) := by
  refine mI.of (by decide) rfl (fun _ => Nat.le_of_ble_eq_true rfl) ?_
  intro D dA ad p e s m below meth cd ls hC hlk hr hK hl hw
  have hl : lv_has ls 4 [(0, .ref (ad 0)), (1, .int row), (2, .int i), (3, .int v)] := hl
  refine lv_iload_n hC.1 hC.2.1 dX6_set_0 rfl (lv_at hl 1 rfl) ?_
  refine pS_call (n := 1) hC hl.1 (tX6_isRow l row ) (lw_S q1206 q1207 q66 q1208) rfl rfl (by decide +kernel) ⟨by decide, by decide⟩ rfl rfl (Nat.le_of_ble_eq_true rfl) dX6_set_1 ⟨Nat.zero_le _, Nat.zero_le _⟩ ?_
  refine k_bne (tgt := 10) hC dX6_set_4 (by decide) (fun c4 => ?_) (fun c4 => ?_)
  · obtain ⟨rr, hrr, rfl⟩ := inB_nat (n := 7) (by decide) c4
    refine lv_aload_n hC.1 hC.2.1 dX6_set_10 rfl (lv_at hl 0 rfl) ?_
    refine m_ga hC hK hw 1 (by decide) rfl q1117 rfl dX6_set_11 ?_
    refine lv_iload_n hC.1 hC.2.1 dX6_set_14 rfl (lv_at hl 1 rfl) ?_
    refine m_ld hC hK hw 2 (by decide) (by decide) (by decide) (by simp only [mLen]; omega) (by omega) (v := (G 2 rr)) (rfl) dX6_set_15 ?_
    refine lv_if_ge (tgt := 25) hC.1 hC.2.1 dX6_set_16 (by decide) (fun c16 => ?_) (fun c16 => ?_)
    · refine lv_iload_n hC.1 hC.2.1 dX6_set_25 rfl (lv_at hl 2 rfl) ?_
      refine lv_i2l hC.1 hC.2.1 dX6_set_26 rfl ?_
      refine lv_lconst (v := 0) hC.1 hC.2.1 dX6_set_27 (by decide) ?_
      refine lv_aload_n hC.1 hC.2.1 dX6_set_28 rfl (lv_at hl 0 rfl) ?_
      refine m_ga hC hK hw 1 (by decide) rfl q1117 rfl dX6_set_29 ?_
      refine lv_iload_n hC.1 hC.2.1 dX6_set_32 rfl (lv_at hl 1 rfl) ?_
      refine m_ld hC hK hw 2 (by decide) (by decide) (by decide) (by simp only [mLen]; omega) (by omega) (v := (G 2 rr)) (rfl) dX6_set_33 ?_
      refine lv_iconst (v := (nI 1)) hC.1 hC.2.1 dX6_set_34 (by decide) ?_
      refine lv_isub hC.1 hC.2.1 dX6_set_35 ?_
      refine lv_i2l hC.1 hC.2.1 dX6_set_36 rfl ?_
      refine pS_call (n := 3) hC hl.1 (tX6_inI l i 0 ((G 2 rr) - (nI 1))) (lw_S q1210 q1211 q66 q1212) rfl rfl (by decide +kernel) ⟨by decide, by decide⟩ rfl rfl (Nat.le_of_ble_eq_true rfl) dX6_set_37 ⟨Nat.zero_le _, Nat.zero_le _⟩ ?_
      refine k_bne (tgt := 49) hC dX6_set_40 (by decide) (fun c40 => ?_) (fun c40 => ?_)
      · obtain ⟨k, hk, ek⟩ := sz_pos (h0 rr (by omega)) c16
        obtain ⟨j, hj, rfl⟩ := inB_sz (by omega) ek c40
        refine lv_aload_n hC.1 hC.2.1 dX6_set_49 rfl (lv_at hl 0 rfl) ?_
        refine m_ga hC hK hw 2 (by decide) rfl q1118 rfl dX6_set_50 ?_
        refine lv_bipush (v := (nI 40)) hC.1 hC.2.1 dX6_set_53 (by decide) ?_
        refine lv_iload_n hC.1 hC.2.1 dX6_set_55 rfl (lv_at hl 1 rfl) ?_
        refine k_mul hC dX6_set_56 ?_
        refine lv_iload_n hC.1 hC.2.1 dX6_set_57 rfl (lv_at hl 2 rfl) ?_
        refine k_add hC dX6_set_58 ?_
        refine lv_aload_n hC.1 hC.2.1 dX6_set_59 rfl (lv_at hl 0 rfl) ?_
        refine m_ga hC hK hw 0 (by decide) rfl q1116 rfl dX6_set_60 ?_
        refine lv_iload_n hC.1 hC.2.1 dX6_set_63 rfl (lv_at hl 1 rfl) ?_
        refine m_ld hC hK hw 1 (by decide) (by decide) (by decide) (by simp only [mLen]; omega) (by omega) (v := (G 1 rr)) (rfl) dX6_set_64 ?_
        refine lv_iload_n hC.1 hC.2.1 dX6_set_65 rfl (lv_at hl 3 rfl) ?_
        refine pS_call (n := 2) hC hl.1 (tX6_asLane l (G 1 rr) v ) (lw_S q1228 q1229 q66 q1230) rfl rfl (by decide +kernel) ⟨by decide, by decide⟩ rfl rfl (Nat.le_of_ble_eq_true rfl) dX6_set_66 ⟨Nat.zero_le _, Nat.zero_le _⟩ ?_
        refine m_st hC hK hw 3 (by decide) (by decide) (by decide) (by simp only [mLen]; omega) (by omega) dX6_set_69 (fun H locs hw => ?_)
        refine lv_aload_n hC.1 hC.2.1 dX6_set_70 rfl (lv_at hl 0 rfl) ?_
        refine lv_aload_n hC.1 hC.2.1 dX6_set_71 rfl (lv_at hl 0 rfl) ?_
        refine m_ga hC hK hw 2 (by decide) rfl q1118 rfl dX6_set_72 ?_
        refine lv_bipush (v := (nI 40)) hC.1 hC.2.1 dX6_set_75 (by decide) ?_
        refine lv_iload_n hC.1 hC.2.1 dX6_set_77 rfl (lv_at hl 1 rfl) ?_
        refine k_mul hC dX6_set_78 ?_
        refine lv_iload_n hC.1 hC.2.1 dX6_set_79 rfl (lv_at hl 2 rfl) ?_
        refine k_add hC dX6_set_80 ?_
        refine m_ld hC hK hw 3 (by decide) (by decide) (by decide) (by simp only [mLen]; omega) (by omega) (v := (asL (G 1 rr) v)) (by simp [g2, va_up, upd]) dX6_set_81 ?_
        refine m_calli (n := 1) hC hl.1 hK hw (tX6_well l (g2 G 3 ((40 * rr) + j) (asL (G 1 rr) v)) (asL (G 1 rr) v) ) (lw_V q1220 q1222 qs29 q66 q1223) rfl rfl (by decide +kernel) ⟨by decide, by decide⟩ rfl rfl (Nat.le_of_ble_eq_true rfl) dX6_set_82 ⟨Nat.zero_le _, Nat.zero_le _⟩ ?_
        rintro r2 G2 H locs ⟨hr2, hG2⟩ hw
        replace hw := hw.eq hG2
        rw [hr2]
        clear hr2 hG2
        exact m_iret hC hlk hr hw rfl (by unfold mX6_set; simp only [ix_nI (show rr < 2147483648 by omega), ix_nI (show j < 2147483648 by omega)]; rw [if_pos c4]; rw [if_pos c16]; rw [if_pos c40]; exact ⟨by (dsimp only; try rfl), by (dsimp only; try rfl)⟩) dX6_set_85
      · refine lv_aload_n hC.1 hC.2.1 dX6_set_43 rfl (lv_at hl 0 rfl) ?_
        refine lv_iconst (v := (nI 2)) hC.1 hC.2.1 dX6_set_44 (by decide) ?_
        refine m_calli (n := 1) hC hl.1 hK hw (tX6_find l G (nI 2) ) (lw_V q1215 q1217 qs28 q66 q1218) rfl rfl (by decide +kernel) ⟨by decide, by decide⟩ rfl rfl (Nat.le_of_ble_eq_true rfl) dX6_set_45 ⟨Nat.zero_le _, Nat.zero_le _⟩ ?_
        rintro r2 G2 H locs ⟨hr2, hG2⟩ hw
        replace hw := hw.eq hG2
        rw [hr2]
        clear hr2 hG2
        exact m_iret hC hlk hr hw rfl (by unfold mX6_set; simp only [ix_nI (show rr < 2147483648 by omega)]; rw [if_pos c4]; rw [if_pos c16]; rw [if_neg (b_nt c40)]; exact ⟨by (dsimp only; try rfl), by (dsimp only; try rfl)⟩) dX6_set_48
    · refine lv_aload_n hC.1 hC.2.1 dX6_set_19 rfl (lv_at hl 0 rfl) ?_
      refine lv_iconst (v := (nI 1)) hC.1 hC.2.1 dX6_set_20 (by decide) ?_
      refine m_calli (n := 1) hC hl.1 hK hw (tX6_find l G (nI 1) ) (lw_V q1215 q1217 qs28 q66 q1218) rfl rfl (by decide +kernel) ⟨by decide, by decide⟩ rfl rfl (Nat.le_of_ble_eq_true rfl) dX6_set_21 ⟨Nat.zero_le _, Nat.zero_le _⟩ ?_
      rintro r2 G2 H locs ⟨hr2, hG2⟩ hw
      replace hw := hw.eq hG2
      rw [hr2]
      clear hr2 hG2
      exact m_iret hC hlk hr hw rfl (by unfold mX6_set; simp only [ix_nI (show rr < 2147483648 by omega)]; rw [if_pos c4]; rw [if_neg c16]; exact ⟨by (dsimp only; try rfl), by (dsimp only; try rfl)⟩) dX6_set_24
  · refine lv_ldc hC.1 hC.2.1 hC.2.2.2.1 (hC.2.2.2.2 _ q1214) dX6_set_7 ?_
    exact m_iret hC hlk hr hw rfl (by unfold mX6_set; rw [if_neg (b_nt c4)]; exact ⟨by (dsimp only; try rfl), by (dsimp only; try rfl)⟩) dX6_set_9

noncomputable def mX6_copy (G : mG) (a0 : Int32) (i0 : Int32) (b0 : Int32) (j0 : Int32) (n0 : Int32) : Int32 × mG := if (inB a0 0 (nI 7)) = false then ((-1000001 : Int32), G) else if (inB b0 0 (nI 7)) = true then if (G 2 (ix a0)) < 0 then (((-1000010 : Int32) - (nI 1)), g2 G 0 3 (nI 1)) else if 0 ≤ (G 2 (ix b0)) then if (G 1 (ix a0)) = (G 1 (ix b0)) then if n0 < 0 then (((-1000010 : Int32) - (nI 2)), g2 G 0 3 (nI 2)) else if (decide ((0 : Int64) ≤ i0.toInt64) && decide (i0.toInt64 ≤ (((G 2 (ix a0)).toInt64) - n0.toInt64))) = false then (((-1000010 : Int32) - (nI 2)), g2 G 0 3 (nI 2)) else if (decide ((0 : Int64) ≤ j0.toInt64) && decide (j0.toInt64 ≤ (((G 2 (ix b0)).toInt64) - n0.toInt64))) = true then ((nI (ix n0)), g2 (va_up (va_up G 7 (fun j => if j < (ix n0) then G 3 (40 * (ix a0) + (ix i0) + j) else G 7 j)) 3 (fun j => if 40 * (ix b0) + (ix j0) ≤ j ∧ j < 40 * (ix b0) + (ix j0) + (ix n0) then G 3 (40 * (ix a0) + (ix i0) + (j - (40 * (ix b0) + (ix j0)))) else G 3 j)) 0 3 (nI 0)) else (((-1000010 : Int32) - (nI 2)), g2 G 0 3 (nI 2)) else (((-1000010 : Int32) - (nI 5)), g2 G 0 3 (nI 5)) else (((-1000010 : Int32) - (nI 1)), g2 G 0 3 (nI 1)) else ((-1000001 : Int32), G)
set_option maxHeartbeats 4000000 in
theorem tX6_copy (l : Launch) (G : mG) (a0 : Int32) (i0 : Int32) (b0 : Int32) (j0 : Int32) (n0 : Int32) (h0 : szOk G) : mI l yX6_copy cX6_copy 7 .int ({ frames := 2, cells := 0, slots := 0, locals := 45 } : Room) [.int a0, .int i0, .int b0, .int j0, .int n0] G (fun r G' => r = ((mX6_copy G a0 i0 b0 j0 n0).1) ∧ G' = (mX6_copy G a0 i0 b0 j0 n0).2) := by
  refine mI.of (by decide) rfl (fun _ => Nat.le_of_ble_eq_true rfl) ?_
  intro D dA ad p e s m below meth cd ls hC hlk hr hK hl hw
  have hl : lv_has ls 7 [(0, .ref (ad 0)), (1, .int a0), (2, .int i0), (3, .int b0), (4, .int j0), (5, .int n0)] := hl
  refine lv_iload_n hC.1 hC.2.1 dX6_copy_0 rfl (lv_at hl 1 rfl) ?_
  refine pS_call (n := 1) hC hl.1 (tX6_isRow l a0 ) (lw_S q1206 q1207 q66 q1208) rfl rfl (by decide +kernel) ⟨by decide, by decide⟩ rfl rfl (Nat.le_of_ble_eq_true rfl) dX6_copy_1 ⟨Nat.zero_le _, Nat.zero_le _⟩ ?_
  refine k_beq (tgt := 14) hC dX6_copy_4 (by decide) (fun c4 => ?_) (fun c4 => ?_)
  · refine lv_ldc hC.1 hC.2.1 hC.2.2.2.1 (hC.2.2.2.2 _ q1214) dX6_copy_14 ?_
    exact m_iret hC hlk hr hw rfl (by unfold mX6_copy; rw [if_pos c4]; exact ⟨by (dsimp only; try rfl), by (dsimp only; try rfl)⟩) dX6_copy_16
  · obtain ⟨ra, hra, rfl⟩ := inB_nat (n := 7) (by decide) c4
    refine lv_iload_n hC.1 hC.2.1 dX6_copy_7 rfl (lv_at hl 3 rfl) ?_
    refine pS_call (n := 1) hC hl.1 (tX6_isRow l b0 ) (lw_S q1206 q1207 q66 q1208) rfl rfl (by decide +kernel) ⟨by decide, by decide⟩ rfl rfl (Nat.le_of_ble_eq_true rfl) dX6_copy_8 ⟨Nat.zero_le _, Nat.zero_le _⟩ ?_
    refine k_bne (tgt := 17) hC dX6_copy_11 (by decide) (fun c11 => ?_) (fun c11 => ?_)
    · obtain ⟨rb, hrb, rfl⟩ := inB_nat (n := 7) (by decide) c11
      refine lv_aload_n hC.1 hC.2.1 dX6_copy_17 rfl (lv_at hl 0 rfl) ?_
      refine m_ga hC hK hw 1 (by decide) rfl q1117 rfl dX6_copy_18 ?_
      refine lv_iload_n hC.1 hC.2.1 dX6_copy_21 rfl (lv_at hl 1 rfl) ?_
      refine m_ld hC hK hw 2 (by decide) (by decide) (by decide) (by simp only [mLen]; omega) (by omega) (v := (G 2 ra)) (rfl) dX6_copy_22 ?_
      refine lv_if_lt (tgt := 35) hC.1 hC.2.1 dX6_copy_23 (by decide) (fun c23 => ?_) (fun c23 => ?_)
      · refine lv_aload_n hC.1 hC.2.1 dX6_copy_35 rfl (lv_at hl 0 rfl) ?_
        refine lv_iconst (v := (nI 1)) hC.1 hC.2.1 dX6_copy_36 (by decide) ?_
        refine m_calli (n := 1) hC hl.1 hK hw (tX6_find l G (nI 1) ) (lw_V q1215 q1217 qs28 q66 q1218) rfl rfl (by decide +kernel) ⟨by decide, by decide⟩ rfl rfl (Nat.le_of_ble_eq_true rfl) dX6_copy_37 ⟨Nat.zero_le _, Nat.zero_le _⟩ ?_
        rintro r2 G2 H locs ⟨hr2, hG2⟩ hw
        replace hw := hw.eq hG2
        rw [hr2]
        clear hr2 hG2
        exact m_iret hC hlk hr hw rfl (by unfold mX6_copy; simp only [ix_nI (show ra < 2147483648 by omega), ix_nI (show rb < 2147483648 by omega)]; rw [if_neg (b_nf c4)]; rw [if_pos c11]; rw [if_pos c23]; exact ⟨by (dsimp only; try rfl), by (dsimp only; try rfl)⟩) dX6_copy_40
      · refine lv_aload_n hC.1 hC.2.1 dX6_copy_26 rfl (lv_at hl 0 rfl) ?_
        refine m_ga hC hK hw 1 (by decide) rfl q1117 rfl dX6_copy_27 ?_
        refine lv_iload_n hC.1 hC.2.1 dX6_copy_30 rfl (lv_at hl 3 rfl) ?_
        refine m_ld hC hK hw 2 (by decide) (by decide) (by decide) (by simp only [mLen]; omega) (by omega) (v := (G 2 rb)) (rfl) dX6_copy_31 ?_
        refine lv_if_ge (tgt := 41) hC.1 hC.2.1 dX6_copy_32 (by decide) (fun c32 => ?_) (fun c32 => ?_)
        · refine lv_aload_n hC.1 hC.2.1 dX6_copy_41 rfl (lv_at hl 0 rfl) ?_
          refine m_ga hC hK hw 0 (by decide) rfl q1116 rfl dX6_copy_42 ?_
          refine lv_iload_n hC.1 hC.2.1 dX6_copy_45 rfl (lv_at hl 1 rfl) ?_
          refine m_ld hC hK hw 1 (by decide) (by decide) (by decide) (by simp only [mLen]; omega) (by omega) (v := (G 1 ra)) (rfl) dX6_copy_46 ?_
          refine lv_aload_n hC.1 hC.2.1 dX6_copy_47 rfl (lv_at hl 0 rfl) ?_
          refine m_ga hC hK hw 0 (by decide) rfl q1116 rfl dX6_copy_48 ?_
          refine lv_iload_n hC.1 hC.2.1 dX6_copy_51 rfl (lv_at hl 3 rfl) ?_
          refine m_ld hC hK hw 1 (by decide) (by decide) (by decide) (by simp only [mLen]; omega) (by omega) (v := (G 1 rb)) (rfl) dX6_copy_52 ?_
          refine lv_icmp_eq (tgt := 62) hC.1 hC.2.1 dX6_copy_53 (by decide) (fun c53 => ?_) (fun c53 => ?_)
          · refine lv_iload hC.1 hC.2.1 dX6_copy_62 (lv_at hl 5 rfl) ?_
            refine lv_if_lt (tgt := 108) hC.1 hC.2.1 dX6_copy_64 (by decide) (fun c64 => ?_) (fun c64 => ?_)
            · refine lv_aload_n hC.1 hC.2.1 dX6_copy_108 rfl (lv_at hl 0 rfl) ?_
              refine lv_iconst (v := (nI 2)) hC.1 hC.2.1 dX6_copy_109 (by decide) ?_
              refine m_calli (n := 1) hC hl.1 hK hw (tX6_find l G (nI 2) ) (lw_V q1215 q1217 qs28 q66 q1218) rfl rfl (by decide +kernel) ⟨by decide, by decide⟩ rfl rfl (Nat.le_of_ble_eq_true rfl) dX6_copy_110 ⟨Nat.zero_le _, Nat.zero_le _⟩ ?_
              rintro r2 G2 H locs ⟨hr2, hG2⟩ hw
              replace hw := hw.eq hG2
              rw [hr2]
              clear hr2 hG2
              exact m_iret hC hlk hr hw rfl (by unfold mX6_copy; simp only [ix_nI (show ra < 2147483648 by omega), ix_nI (show rb < 2147483648 by omega)]; rw [if_neg (b_nf c4)]; rw [if_pos c11]; rw [if_neg c23]; rw [if_pos c32]; rw [if_pos c53]; rw [if_pos c64]; exact ⟨by (dsimp only; try rfl), by (dsimp only; try rfl)⟩) dX6_copy_113
            · refine lv_iload_n hC.1 hC.2.1 dX6_copy_67 rfl (lv_at hl 2 rfl) ?_
              refine lv_i2l hC.1 hC.2.1 dX6_copy_68 rfl ?_
              refine lv_lconst (v := 0) hC.1 hC.2.1 dX6_copy_69 (by decide) ?_
              refine lv_aload_n hC.1 hC.2.1 dX6_copy_70 rfl (lv_at hl 0 rfl) ?_
              refine m_ga hC hK hw 1 (by decide) rfl q1117 rfl dX6_copy_71 ?_
              refine lv_iload_n hC.1 hC.2.1 dX6_copy_74 rfl (lv_at hl 1 rfl) ?_
              refine m_ld hC hK hw 2 (by decide) (by decide) (by decide) (by simp only [mLen]; omega) (by omega) (v := (G 2 ra)) (rfl) dX6_copy_75 ?_
              refine lv_i2l hC.1 hC.2.1 dX6_copy_76 rfl ?_
              refine lv_iload hC.1 hC.2.1 dX6_copy_77 (lv_at hl 5 rfl) ?_
              refine lv_i2l hC.1 hC.2.1 dX6_copy_79 rfl ?_
              refine lv_lsub hC.1 hC.2.1 dX6_copy_80 ?_
              refine pS_call (n := 3) hC hl.1 (tX6_in l i0.toInt64 (0 : Int64) (((G 2 ra).toInt64) - n0.toInt64) ) (lw_S q1210 q1211 q66 q1212) rfl rfl (by decide +kernel) ⟨by decide, by decide⟩ rfl rfl (Nat.le_of_ble_eq_true rfl) dX6_copy_81 ⟨Nat.zero_le _, Nat.zero_le _⟩ ?_
              refine k_beq (tgt := 108) hC dX6_copy_84 (by decide) (fun c84 => ?_) (fun c84 => ?_)
              · refine lv_aload_n hC.1 hC.2.1 dX6_copy_108 rfl (lv_at hl 0 rfl) ?_
                refine lv_iconst (v := (nI 2)) hC.1 hC.2.1 dX6_copy_109 (by decide) ?_
                refine m_calli (n := 1) hC hl.1 hK hw (tX6_find l G (nI 2) ) (lw_V q1215 q1217 qs28 q66 q1218) rfl rfl (by decide +kernel) ⟨by decide, by decide⟩ rfl rfl (Nat.le_of_ble_eq_true rfl) dX6_copy_110 ⟨Nat.zero_le _, Nat.zero_le _⟩ ?_
                rintro r2 G2 H locs ⟨hr2, hG2⟩ hw
                replace hw := hw.eq hG2
                rw [hr2]
                clear hr2 hG2
                exact m_iret hC hlk hr hw rfl (by unfold mX6_copy; simp only [ix_nI (show ra < 2147483648 by omega), ix_nI (show rb < 2147483648 by omega)]; rw [if_neg (b_nf c4)]; rw [if_pos c11]; rw [if_neg c23]; rw [if_pos c32]; rw [if_pos c53]; rw [if_neg c64]; rw [if_pos c84]; exact ⟨by (dsimp only; try rfl), by (dsimp only; try rfl)⟩) dX6_copy_113
              · refine lv_iload hC.1 hC.2.1 dX6_copy_87 (lv_at hl 4 rfl) ?_
                refine lv_i2l hC.1 hC.2.1 dX6_copy_89 rfl ?_
                refine lv_lconst (v := 0) hC.1 hC.2.1 dX6_copy_90 (by decide) ?_
                refine lv_aload_n hC.1 hC.2.1 dX6_copy_91 rfl (lv_at hl 0 rfl) ?_
                refine m_ga hC hK hw 1 (by decide) rfl q1117 rfl dX6_copy_92 ?_
                refine lv_iload_n hC.1 hC.2.1 dX6_copy_95 rfl (lv_at hl 3 rfl) ?_
                refine m_ld hC hK hw 2 (by decide) (by decide) (by decide) (by simp only [mLen]; omega) (by omega) (v := (G 2 rb)) (rfl) dX6_copy_96 ?_
                refine lv_i2l hC.1 hC.2.1 dX6_copy_97 rfl ?_
                refine lv_iload hC.1 hC.2.1 dX6_copy_98 (lv_at hl 5 rfl) ?_
                refine lv_i2l hC.1 hC.2.1 dX6_copy_100 rfl ?_
                refine lv_lsub hC.1 hC.2.1 dX6_copy_101 ?_
                refine pS_call (n := 3) hC hl.1 (tX6_in l j0.toInt64 (0 : Int64) (((G 2 rb).toInt64) - n0.toInt64) ) (lw_S q1210 q1211 q66 q1212) rfl rfl (by decide +kernel) ⟨by decide, by decide⟩ rfl rfl (Nat.le_of_ble_eq_true rfl) dX6_copy_102 ⟨Nat.zero_le _, Nat.zero_le _⟩ ?_
                refine k_bne (tgt := 114) hC dX6_copy_105 (by decide) (fun c105 => ?_) (fun c105 => ?_)
                · obtain ⟨ka, hka, eka⟩ := sz_pos (h0 ra (by omega)) (Int32.not_lt.mp c23)
                  obtain ⟨kb, hkb, ekb⟩ := sz_pos (h0 rb (by omega)) c32
                  obtain ⟨ia, nn, rfl, rfl, hab⟩ := in_szn (by omega) eka c64 c84
                  obtain ⟨jb, n2, rfl, en2, hjb⟩ := in_szn (by omega) ekb c64 c105
                  have en3 : nn = n2 := (nI_eq (by omega) (by omega)).mp en2
                  subst en3
                  refine lv_iconst (v := (nI 0)) hC.1 hC.2.1 dX6_copy_114 (by decide) ?_
                  refine lv_istore (lv' := [(6, .int (nI 0)), (0, .ref (ad 0)), (1, .int (nI ra)), (2, .int (nI ia)), (3, .int (nI rb)), (4, .int (nI jb)), (5, .int (nI nn))]) hC.1 hC.2.1 dX6_copy_115 hl (by decide) rfl (fun ls hl => ?_)
                  refine W.loop (fun ls q H locs => lv_has ls 7 [(0, .ref (ad 0)), (1, .int (nI ra)), (2, .int (nI ia)), (3, .int (nI rb)), (4, .int (nI jb)), (5, .int (nI nn)), (6, .int (nI q))] ∧ mw D dA (nA mDom ad s.heap.size) s.heap ad (va_up G 7 (fun j => if j < q then G 3 (40 * ra + ia + j) else G 7 j)) H locs ∧ (q ≤ nn)) 117 (fun _ => []) (fun q => nn - q) ?_ 0 ⟨hl.sub' [1, 2, 3, 4, 5, 6, 0] (by rfl), hw.eq (cp_0 G 7 _), by omega⟩
                  rintro ls q H locs ⟨hl, hw, hq⟩ ih117
                  refine lv_iload hC.1 hC.2.1 dX6_copy_117 (lv_at hl 6 rfl) ?_
                  refine lv_iload hC.1 hC.2.1 dX6_copy_119 (lv_at hl 5 rfl) ?_
                  refine k_ge (tgt := 151) hC (by omega) (by omega) dX6_copy_121 (by decide) (fun c121 => ?_) (fun c121 => ?_)
                  · have eN : q = nn := by omega
                    have hw := hw.eq (show _ = va_up G 7 (fun j => if j < nn then G 3 (40 * ra + ia + j) else G 7 j) by rw [eN])
                    clear ih117 eN hq
                    refine lv_iconst (v := (nI 0)) hC.1 hC.2.1 dX6_copy_151 (by decide) ?_
                    refine lv_istore (lv' := [(6, .int (nI 0)), (0, .ref (ad 0)), (1, .int (nI ra)), (2, .int (nI ia)), (3, .int (nI rb)), (4, .int (nI jb)), (5, .int (nI nn))]) hC.1 hC.2.1 dX6_copy_152 hl (by decide) rfl (fun ls hl => ?_)
                    refine W.loop (fun ls t H locs => lv_has ls 7 [(0, .ref (ad 0)), (1, .int (nI ra)), (2, .int (nI ia)), (3, .int (nI rb)), (4, .int (nI jb)), (5, .int (nI nn)), (6, .int (nI t))] ∧ mw D dA (nA mDom ad s.heap.size) s.heap ad (va_up (va_up G 7 (fun j => if j < nn then G 3 (40 * ra + ia + j) else G 7 j)) 3 (fun j => if 40 * rb + jb ≤ j ∧ j < 40 * rb + jb + t then G 3 (40 * ra + ia + (j - (40 * rb + jb))) else G 3 j)) H locs ∧ (t ≤ nn)) 154 (fun _ => []) (fun t => nn - t) ?_ 0 ⟨hl.sub' [1, 2, 3, 4, 5, 6, 0] (by rfl), hw.eq (seg_0 _ 3 _ (fun t => G 3 (40 * ra + ia + t))), by omega⟩
                    rintro ls t H locs ⟨hl, hw, ht⟩ ih154
                    refine lv_iload hC.1 hC.2.1 dX6_copy_154 (lv_at hl 6 rfl) ?_
                    refine lv_iload hC.1 hC.2.1 dX6_copy_156 (lv_at hl 5 rfl) ?_
                    refine k_ge (tgt := 189) hC (by omega) (by omega) dX6_copy_158 (by decide) (fun c158 => ?_) (fun c158 => ?_)
                    · have eN : t = nn := by omega
                      have hw := hw.eq (show _ = va_up (va_up G 7 (fun j => if j < nn then G 3 (40 * ra + ia + j) else G 7 j)) 3 (fun j => if 40 * rb + jb ≤ j ∧ j < 40 * rb + jb + nn then G 3 (40 * ra + ia + (j - (40 * rb + jb))) else G 3 j) by rw [eN])
                      refine lv_aload_n hC.1 hC.2.1 dX6_copy_189 rfl (lv_at hl 0 rfl) ?_
                      refine lv_iload hC.1 hC.2.1 dX6_copy_190 (lv_at hl 5 rfl) ?_
                      refine m_calli (n := 1) hC hl.1 hK hw (tX6_well l (va_up (va_up G 7 (fun j => if j < nn then G 3 (40 * ra + ia + j) else G 7 j)) 3 (fun j => if 40 * rb + jb ≤ j ∧ j < 40 * rb + jb + nn then G 3 (40 * ra + ia + (j - (40 * rb + jb))) else G 3 j)) (nI nn) ) (lw_V q1220 q1222 qs29 q66 q1223) rfl rfl (by decide +kernel) ⟨by decide, by decide⟩ rfl rfl (Nat.le_of_ble_eq_true rfl) dX6_copy_192 ⟨Nat.zero_le _, Nat.zero_le _⟩ ?_
                      rintro r2 G2 H locs ⟨hr2, hG2⟩ hw
                      replace hw := hw.eq hG2
                      rw [hr2]
                      clear hr2 hG2
                      exact m_iret hC hlk hr hw rfl (by unfold mX6_copy; simp only [ix_nI (show ra < 2147483648 by omega), ix_nI (show rb < 2147483648 by omega), ix_nI (show ia < 2147483648 by omega), ix_nI (show nn < 2147483648 by omega), ix_nI (show jb < 2147483648 by omega)]; rw [if_neg (b_nf c4)]; rw [if_pos c11]; rw [if_neg c23]; rw [if_pos c32]; rw [if_pos c53]; rw [if_neg c64]; rw [if_neg (b_nf c84)]; rw [if_pos c105]; exact ⟨by (dsimp only; try rfl), by (dsimp only; try rfl)⟩) dX6_copy_195
                    · refine lv_aload_n hC.1 hC.2.1 dX6_copy_161 rfl (lv_at hl 0 rfl) ?_
                      refine m_ga hC hK hw 2 (by decide) rfl q1118 rfl dX6_copy_162 ?_
                      refine lv_bipush (v := (nI 40)) hC.1 hC.2.1 dX6_copy_165 (by decide) ?_
                      refine lv_iload_n hC.1 hC.2.1 dX6_copy_167 rfl (lv_at hl 3 rfl) ?_
                      refine k_mul hC dX6_copy_168 ?_
                      refine lv_iload hC.1 hC.2.1 dX6_copy_169 (lv_at hl 4 rfl) ?_
                      refine k_add hC dX6_copy_171 ?_
                      refine lv_iload hC.1 hC.2.1 dX6_copy_172 (lv_at hl 6 rfl) ?_
                      refine k_add hC dX6_copy_174 ?_
                      refine lv_aload_n hC.1 hC.2.1 dX6_copy_175 rfl (lv_at hl 0 rfl) ?_
                      refine m_ga hC hK hw 6 (by decide) rfl q1122 rfl dX6_copy_176 ?_
                      refine lv_iload hC.1 hC.2.1 dX6_copy_179 (lv_at hl 6 rfl) ?_
                      refine m_ld hC hK hw 7 (by decide) (by decide) (by decide) (by simp only [mLen]; omega) (by omega) (v := (G 3 (40 * ra + ia + t))) (by show (if t < nn then _ else _) = _; rw [if_pos (by omega)]) dX6_copy_181 ?_
                      refine m_st hC hK hw 3 (by decide) (by decide) (by decide) (by simp only [mLen]; omega) (by omega) dX6_copy_182 (fun H locs hw => ?_)
                      refine k_iinc (k := 6) (d := 1) (lv' := [(6, .int (nI (t + 1))), (0, .ref (ad 0)), (1, .int (nI ra)), (2, .int (nI ia)), (3, .int (nI rb)), (4, .int (nI jb)), (5, .int (nI nn))]) hC dX6_copy_183 hl rfl (by decide) (by decide) rfl (fun ls hl => ?_)
                      refine lv_goto (tgt := 154) hC.1 hC.2.1 dX6_copy_186 (by decide) ?_
                      exact ih154 ls (t + 1) H locs ⟨hl.sub' [1, 2, 3, 4, 5, 6, 0] (by rfl), hw.eq (by rw [g2_up]; exact congrArg (va_up _ 3) (seg_step (fun t => G 3 (40 * ra + ia + t)) _ _ _)), by omega⟩ (by omega)
                  · refine lv_aload_n hC.1 hC.2.1 dX6_copy_124 rfl (lv_at hl 0 rfl) ?_
                    refine m_ga hC hK hw 6 (by decide) rfl q1122 rfl dX6_copy_125 ?_
                    refine lv_iload hC.1 hC.2.1 dX6_copy_128 (lv_at hl 6 rfl) ?_
                    refine lv_aload_n hC.1 hC.2.1 dX6_copy_130 rfl (lv_at hl 0 rfl) ?_
                    refine m_ga hC hK hw 2 (by decide) rfl q1118 rfl dX6_copy_131 ?_
                    refine lv_bipush (v := (nI 40)) hC.1 hC.2.1 dX6_copy_134 (by decide) ?_
                    refine lv_iload_n hC.1 hC.2.1 dX6_copy_136 rfl (lv_at hl 1 rfl) ?_
                    refine k_mul hC dX6_copy_137 ?_
                    refine lv_iload_n hC.1 hC.2.1 dX6_copy_138 rfl (lv_at hl 2 rfl) ?_
                    refine k_add hC dX6_copy_139 ?_
                    refine lv_iload hC.1 hC.2.1 dX6_copy_140 (lv_at hl 6 rfl) ?_
                    refine k_add hC dX6_copy_142 ?_
                    refine m_ld hC hK hw 3 (by decide) (by decide) (by decide) (by simp only [mLen]; omega) (by omega) (v := (G 3 (40 * ra + ia + q))) (rfl) dX6_copy_143 ?_
                    refine m_st hC hK hw 7 (by decide) (by decide) (by decide) (by simp only [mLen]; omega) (by omega) dX6_copy_144 (fun H locs hw => ?_)
                    refine k_iinc (k := 6) (d := 1) (lv' := [(6, .int (nI (q + 1))), (0, .ref (ad 0)), (1, .int (nI ra)), (2, .int (nI ia)), (3, .int (nI rb)), (4, .int (nI jb)), (5, .int (nI nn))]) hC dX6_copy_145 hl rfl (by decide) (by decide) rfl (fun ls hl => ?_)
                    refine lv_goto (tgt := 117) hC.1 hC.2.1 dX6_copy_148 (by decide) ?_
                    exact ih117 ls (q + 1) H locs ⟨hl.sub' [1, 2, 3, 4, 5, 6, 0] (by rfl), hw.eq (by rw [g2_up]; exact congrArg (va_up G 7) (cp_step (fun j => G 3 (40 * ra + ia + j)) (G 7) q)), by omega⟩ (by omega)
                · refine lv_aload_n hC.1 hC.2.1 dX6_copy_108 rfl (lv_at hl 0 rfl) ?_
                  refine lv_iconst (v := (nI 2)) hC.1 hC.2.1 dX6_copy_109 (by decide) ?_
                  refine m_calli (n := 1) hC hl.1 hK hw (tX6_find l G (nI 2) ) (lw_V q1215 q1217 qs28 q66 q1218) rfl rfl (by decide +kernel) ⟨by decide, by decide⟩ rfl rfl (Nat.le_of_ble_eq_true rfl) dX6_copy_110 ⟨Nat.zero_le _, Nat.zero_le _⟩ ?_
                  rintro r2 G2 H locs ⟨hr2, hG2⟩ hw
                  replace hw := hw.eq hG2
                  rw [hr2]
                  clear hr2 hG2
                  exact m_iret hC hlk hr hw rfl (by unfold mX6_copy; simp only [ix_nI (show ra < 2147483648 by omega), ix_nI (show rb < 2147483648 by omega)]; rw [if_neg (b_nf c4)]; rw [if_pos c11]; rw [if_neg c23]; rw [if_pos c32]; rw [if_pos c53]; rw [if_neg c64]; rw [if_neg (b_nf c84)]; rw [if_neg (b_nt c105)]; exact ⟨by (dsimp only; try rfl), by (dsimp only; try rfl)⟩) dX6_copy_113
          · refine lv_aload_n hC.1 hC.2.1 dX6_copy_56 rfl (lv_at hl 0 rfl) ?_
            refine lv_iconst (v := (nI 5)) hC.1 hC.2.1 dX6_copy_57 (by decide) ?_
            refine m_calli (n := 1) hC hl.1 hK hw (tX6_find l G (nI 5) ) (lw_V q1215 q1217 qs28 q66 q1218) rfl rfl (by decide +kernel) ⟨by decide, by decide⟩ rfl rfl (Nat.le_of_ble_eq_true rfl) dX6_copy_58 ⟨Nat.zero_le _, Nat.zero_le _⟩ ?_
            rintro r2 G2 H locs ⟨hr2, hG2⟩ hw
            replace hw := hw.eq hG2
            rw [hr2]
            clear hr2 hG2
            exact m_iret hC hlk hr hw rfl (by unfold mX6_copy; simp only [ix_nI (show ra < 2147483648 by omega), ix_nI (show rb < 2147483648 by omega)]; rw [if_neg (b_nf c4)]; rw [if_pos c11]; rw [if_neg c23]; rw [if_pos c32]; rw [if_neg c53]; exact ⟨by (dsimp only; try rfl), by (dsimp only; try rfl)⟩) dX6_copy_61
        · refine lv_aload_n hC.1 hC.2.1 dX6_copy_35 rfl (lv_at hl 0 rfl) ?_
          refine lv_iconst (v := (nI 1)) hC.1 hC.2.1 dX6_copy_36 (by decide) ?_
          refine m_calli (n := 1) hC hl.1 hK hw (tX6_find l G (nI 1) ) (lw_V q1215 q1217 qs28 q66 q1218) rfl rfl (by decide +kernel) ⟨by decide, by decide⟩ rfl rfl (Nat.le_of_ble_eq_true rfl) dX6_copy_37 ⟨Nat.zero_le _, Nat.zero_le _⟩ ?_
          rintro r2 G2 H locs ⟨hr2, hG2⟩ hw
          replace hw := hw.eq hG2
          rw [hr2]
          clear hr2 hG2
          exact m_iret hC hlk hr hw rfl (by unfold mX6_copy; simp only [ix_nI (show ra < 2147483648 by omega), ix_nI (show rb < 2147483648 by omega)]; rw [if_neg (b_nf c4)]; rw [if_pos c11]; rw [if_neg c23]; rw [if_neg c32]; exact ⟨by (dsimp only; try rfl), by (dsimp only; try rfl)⟩) dX6_copy_40
    · refine lv_ldc hC.1 hC.2.1 hC.2.2.2.1 (hC.2.2.2.2 _ q1214) dX6_copy_14 ?_
      exact m_iret hC hlk hr hw rfl (by unfold mX6_copy; simp only [ix_nI (show ra < 2147483648 by omega)]; rw [if_neg (b_nf c4)]; rw [if_neg (b_nt c11)]; exact ⟨by (dsimp only; try rfl), by (dsimp only; try rfl)⟩) dX6_copy_16

noncomputable def mX6_drop (G : mG) (row : Int32) : Int32 × mG := if (inB row 0 (nI 7)) = true then if 0 ≤ (G 2 (ix row)) then ((G 2 (ix row)), g2 (g2 G 2 (ix row) (-1 : Int32)) 0 3 (nI 0)) else (((-1000010 : Int32) - (nI 1)), g2 G 0 3 (nI 1)) else ((-1000001 : Int32), G)
set_option maxHeartbeats 4000000 in
theorem tX6_drop (l : Launch) (G : mG) (row : Int32) : mI l yX6_drop cX6_drop 3 .int ({ frames := 2, cells := 0, slots := 0, locals := 45 } : Room) [.int row] G (fun r G' => r = ((mX6_drop G row).1) ∧ G' = (mX6_drop G row).2) := by
  refine mI.of (by decide) rfl (fun _ => Nat.le_of_ble_eq_true rfl) ?_
  intro D dA ad p e s m below meth cd ls hC hlk hr hK hl hw
  have hl : lv_has ls 3 [(0, .ref (ad 0)), (1, .int row)] := hl
  refine lv_iload_n hC.1 hC.2.1 dX6_drop_0 rfl (lv_at hl 1 rfl) ?_
  refine pS_call (n := 1) hC hl.1 (tX6_isRow l row ) (lw_S q1206 q1207 q66 q1208) rfl rfl (by decide +kernel) ⟨by decide, by decide⟩ rfl rfl (Nat.le_of_ble_eq_true rfl) dX6_drop_1 ⟨Nat.zero_le _, Nat.zero_le _⟩ ?_
  refine k_bne (tgt := 10) hC dX6_drop_4 (by decide) (fun c4 => ?_) (fun c4 => ?_)
  · obtain ⟨rr, hrr, rfl⟩ := inB_nat (n := 7) (by decide) c4
    refine lv_aload_n hC.1 hC.2.1 dX6_drop_10 rfl (lv_at hl 0 rfl) ?_
    refine m_ga hC hK hw 1 (by decide) rfl q1117 rfl dX6_drop_11 ?_
    refine lv_iload_n hC.1 hC.2.1 dX6_drop_14 rfl (lv_at hl 1 rfl) ?_
    refine m_ld hC hK hw 2 (by decide) (by decide) (by decide) (by simp only [mLen]; omega) (by omega) (v := (G 2 rr)) (rfl) dX6_drop_15 ?_
    refine lv_if_ge (tgt := 25) hC.1 hC.2.1 dX6_drop_16 (by decide) (fun c16 => ?_) (fun c16 => ?_)
    · refine lv_aload_n hC.1 hC.2.1 dX6_drop_25 rfl (lv_at hl 0 rfl) ?_
      refine m_ga hC hK hw 1 (by decide) rfl q1117 rfl dX6_drop_26 ?_
      refine lv_iload_n hC.1 hC.2.1 dX6_drop_29 rfl (lv_at hl 1 rfl) ?_
      refine m_ld hC hK hw 2 (by decide) (by decide) (by decide) (by simp only [mLen]; omega) (by omega) (v := (G 2 rr)) (rfl) dX6_drop_30 ?_
      refine lv_istore_n (lv' := [(2, .int (G 2 rr)), (0, .ref (ad 0)), (1, .int (nI rr))]) hC.1 hC.2.1 dX6_drop_31 rfl hl (by decide) rfl (fun ls hl => ?_)
      refine lv_aload_n hC.1 hC.2.1 dX6_drop_32 rfl (lv_at hl 1 rfl) ?_
      refine m_ga hC hK hw 1 (by decide) rfl q1117 rfl dX6_drop_33 ?_
      refine lv_iload_n hC.1 hC.2.1 dX6_drop_36 rfl (lv_at hl 2 rfl) ?_
      refine lv_iconst (v := (-1)) hC.1 hC.2.1 dX6_drop_37 (by decide) ?_
      refine m_st hC hK hw 2 (by decide) (by decide) (by decide) (by simp only [mLen]; omega) (by omega) dX6_drop_38 (fun H locs hw => ?_)
      refine lv_aload_n hC.1 hC.2.1 dX6_drop_39 rfl (lv_at hl 1 rfl) ?_
      refine lv_iload_n hC.1 hC.2.1 dX6_drop_40 rfl (lv_at hl 0 rfl) ?_
      refine m_calli (n := 1) hC hl.1 hK hw (tX6_well l (g2 G 2 rr (-1 : Int32)) (G 2 rr) ) (lw_V q1220 q1222 qs29 q66 q1223) rfl rfl (by decide +kernel) ⟨by decide, by decide⟩ rfl rfl (Nat.le_of_ble_eq_true rfl) dX6_drop_41 ⟨Nat.zero_le _, Nat.zero_le _⟩ ?_
      rintro r2 G2 H locs ⟨hr2, hG2⟩ hw
      replace hw := hw.eq hG2
      rw [hr2]
      clear hr2 hG2
      exact m_iret hC hlk hr hw rfl (by unfold mX6_drop; simp only [ix_nI (show rr < 2147483648 by omega)]; rw [if_pos c4]; rw [if_pos c16]; exact ⟨by (dsimp only; try rfl), by (dsimp only; try rfl)⟩) dX6_drop_44
    · refine lv_aload_n hC.1 hC.2.1 dX6_drop_19 rfl (lv_at hl 0 rfl) ?_
      refine lv_iconst (v := (nI 1)) hC.1 hC.2.1 dX6_drop_20 (by decide) ?_
      refine m_calli (n := 1) hC hl.1 hK hw (tX6_find l G (nI 1) ) (lw_V q1215 q1217 qs28 q66 q1218) rfl rfl (by decide +kernel) ⟨by decide, by decide⟩ rfl rfl (Nat.le_of_ble_eq_true rfl) dX6_drop_21 ⟨Nat.zero_le _, Nat.zero_le _⟩ ?_
      rintro r2 G2 H locs ⟨hr2, hG2⟩ hw
      replace hw := hw.eq hG2
      rw [hr2]
      clear hr2 hG2
      exact m_iret hC hlk hr hw rfl (by unfold mX6_drop; simp only [ix_nI (show rr < 2147483648 by omega)]; rw [if_pos c4]; rw [if_neg c16]; exact ⟨by (dsimp only; try rfl), by (dsimp only; try rfl)⟩) dX6_drop_24
  · refine lv_ldc hC.1 hC.2.1 hC.2.2.2.1 (hC.2.2.2.2 _ q1214) dX6_drop_7 ?_
    exact m_iret hC hlk hr hw rfl (by unfold mX6_drop; rw [if_neg (b_nt c4)]; exact ⟨by (dsimp only; try rfl), by (dsimp only; try rfl)⟩) dX6_drop_9

noncomputable def mX6_feed (G : mG) (letter : Int32) : Int32 × mG := if (inB letter 0 (nI 255)) = true then if (ix (G 0 8)) ≠ 120 then ((nI ((ix (G 0 8)) + 1)), g2 (g2 G 8 (ix (G 0 8)) letter) 0 8 (nI ((ix (G 0 8)) + 1))) else ((-1000003 : Int32), G) else ((-1000001 : Int32), G)
set_option maxHeartbeats 4000000 in
theorem tX6_feed (l : Launch) (G : mG) (letter : Int32) (h0 : byOk G) : mI l yX6_feed cX6_feed 2 .int ({ frames := 1, cells := 0, slots := 0, locals := 25 } : Room) [.int letter] G (fun r G' => r = ((mX6_feed G letter).1) ∧ G' = (mX6_feed G letter).2) := by
  refine mI.of (by decide) rfl (fun _ => Nat.le_of_ble_eq_true rfl) ?_
  intro D dA ad p e s m below meth cd ls hC hlk hr hK hl hw
  have hl : lv_has ls 2 [(0, .ref (ad 0)), (1, .int letter)] := hl
  have ⟨b, hb, eb⟩ := h0
  refine lv_iload_n hC.1 hC.2.1 dX6_feed_0 rfl (lv_at hl 1 rfl) ?_
  refine lv_i2l hC.1 hC.2.1 dX6_feed_1 rfl ?_
  refine lv_lconst (v := 0) hC.1 hC.2.1 dX6_feed_2 (by decide) ?_
  refine lv_ldc2 hC.1 hC.2.1 hC.2.2.2.1 (hC.2.2.2.2 _ q1243) dX6_feed_3 ?_
  refine pS_call (n := 3) hC hl.1 (tX6_inI l letter 0 (nI 255)) (lw_S q1210 q1211 q66 q1212) rfl rfl (by decide +kernel) ⟨by decide, by decide⟩ rfl rfl (Nat.le_of_ble_eq_true rfl) dX6_feed_6 ⟨Nat.zero_le _, Nat.zero_le _⟩ ?_
  refine k_bne (tgt := 15) hC dX6_feed_9 (by decide) (fun c9 => ?_) (fun c9 => ?_)
  · refine lv_aload_n hC.1 hC.2.1 dX6_feed_15 rfl (lv_at hl 0 rfl) ?_
    refine m_gi hC hK hw 8 (by decide) rfl q1124 rfl (v := (nI b)) (eb) dX6_feed_16 ?_
    refine lv_bipush (v := (nI 120)) hC.1 hC.2.1 dX6_feed_19 (by decide) ?_
    refine k_ne (tgt := 27) hC (by omega) (by omega) dX6_feed_21 (by decide) (fun c21 => ?_) (fun c21 => ?_)
    · refine lv_aload_n hC.1 hC.2.1 dX6_feed_27 rfl (lv_at hl 0 rfl) ?_
      refine m_ga hC hK hw 7 (by decide) rfl q1123 rfl dX6_feed_28 ?_
      refine lv_aload_n hC.1 hC.2.1 dX6_feed_31 rfl (lv_at hl 0 rfl) ?_
      refine m_gi hC hK hw 8 (by decide) rfl q1124 rfl (v := (nI b)) (eb) dX6_feed_32 ?_
      refine lv_iload_n hC.1 hC.2.1 dX6_feed_35 rfl (lv_at hl 1 rfl) ?_
      refine m_st hC hK hw 8 (by decide) (by decide) (by decide) (by simp only [mLen]; omega) (by omega) dX6_feed_36 (fun H locs hw => ?_)
      refine lv_aload_n hC.1 hC.2.1 dX6_feed_37 rfl (lv_at hl 0 rfl) ?_
      refine lv_dup hC.1 hC.2.1 dX6_feed_38 rfl ?_
      refine m_gi hC hK hw 8 (by decide) rfl q1124 rfl (v := (nI b)) (eb) dX6_feed_39 ?_
      refine lv_iconst (v := (nI 1)) hC.1 hC.2.1 dX6_feed_42 (by decide) ?_
      refine k_add hC dX6_feed_43 ?_
      refine m_pi hC hK hw 8 (by decide) rfl rfl q1124 rfl rfl rfl rfl dX6_feed_44 (fun H locs hw => ?_)
      refine lv_aload_n hC.1 hC.2.1 dX6_feed_47 rfl (lv_at hl 0 rfl) ?_
      refine m_gi hC hK hw 8 (by decide) rfl q1124 rfl (v := (nI (b + 1))) (rfl) dX6_feed_48 ?_
      exact m_iret hC hlk hr hw rfl (by unfold mX6_feed; simp only [eb, ix_nI (show b < 2147483648 by omega)]; rw [if_pos c9]; rw [if_pos c21]; exact ⟨by (dsimp only; try rfl), by (dsimp only; try rfl)⟩) dX6_feed_51
    · refine lv_ldc hC.1 hC.2.1 hC.2.2.2.1 (hC.2.2.2.2 _ q1244) dX6_feed_24 ?_
      exact m_iret hC hlk hr hw rfl (by unfold mX6_feed; simp only [eb, ix_nI (show b < 2147483648 by omega)]; rw [if_pos c9]; rw [if_neg (not_not_intro c21)]; exact ⟨by (dsimp only; try rfl), by (dsimp only; try rfl)⟩) dX6_feed_26
  · refine lv_ldc hC.1 hC.2.1 hC.2.2.2.1 (hC.2.2.2.2 _ q1214) dX6_feed_12 ?_
    exact m_iret hC hlk hr hw rfl (by unfold mX6_feed; simp only [eb, ix_nI (show b < 2147483648 by omega)]; rw [if_neg (b_nt c9)]; exact ⟨by (dsimp only; try rfl), by (dsimp only; try rfl)⟩) dX6_feed_14

noncomputable def mX6_fault (G : mG) : Int32 × mG := ((G 0 9), G)
set_option maxHeartbeats 4000000 in
theorem tX6_fault (l : Launch) (G : mG) : mI l yX6_fault cX6_fault 1 .int ({ frames := 0, cells := 0, slots := 0, locals := 0 } : Room) [] G (fun r G' => r = ((mX6_fault G).1) ∧ G' = (mX6_fault G).2) := by
  refine mI.of (by decide) rfl (fun _ => Nat.le_of_ble_eq_true rfl) ?_
  intro D dA ad p e s m below meth cd ls hC hlk hr hK hl hw
  have hl : lv_has ls 1 [(0, .ref (ad 0))] := hl
  refine lv_aload_n hC.1 hC.2.1 dX6_fault_0 rfl (lv_at hl 0 rfl) ?_
  refine m_gi hC hK hw 9 (by decide) rfl q1125 rfl (v := (G 0 9)) (rfl) dX6_fault_1 ?_
  exact m_iret hC hlk hr hw rfl (by unfold mX6_fault; exact ⟨by (dsimp only; try rfl), by (dsimp only; try rfl)⟩) dX6_fault_4

noncomputable def mX6_status (G : mG) : Int32 × mG := ((G 0 3), G)
set_option maxHeartbeats 4000000 in
theorem tX6_status (l : Launch) (G : mG) : mI l yX6_status cX6_status 1 .int ({ frames := 0, cells := 0, slots := 0, locals := 0 } : Room) [] G (fun r G' => r = ((mX6_status G).1) ∧ G' = (mX6_status G).2) := by
  refine mI.of (by decide) rfl (fun _ => Nat.le_of_ble_eq_true rfl) ?_
  intro D dA ad p e s m below meth cd ls hC hlk hr hK hl hw
  have hl : lv_has ls 1 [(0, .ref (ad 0))] := hl
  refine lv_aload_n hC.1 hC.2.1 dX6_status_0 rfl (lv_at hl 0 rfl) ?_
  refine m_gi hC hK hw 3 (by decide) rfl q1119 rfl (v := (G 0 3)) (rfl) dX6_status_1 ?_
  exact m_iret hC hlk hr hw rfl (by unfold mX6_status; exact ⟨by (dsimp only; try rfl), by (dsimp only; try rfl)⟩) dX6_status_4

set_option maxHeartbeats 4000000 in
theorem tX6_isKind (l : Launch) (a : Int32) (k : Int32) : pS l yX6_isKind cX6_isKind 2 .boolean ({ frames := 0, cells := 0, slots := 0, locals := 0 } : Room) [.int a, .int k] (bI (isKd a k)) := by
  refine pS.of (by decide) (Nat.le_of_ble_eq_true rfl) ?_
  intro p e s m below meth cd ls hC hlk hr hl
  have hl : lv_has ls 2 [(0, .int a), (1, .int k)] := hl
  refine lv_iload_n hC.1 hC.2.1 dX6_isKind_0 rfl (lv_at hl 1 rfl) ?_
  refine lv_if_eq (tgt := 29) hC.1 hC.2.1 dX6_isKind_1 (by decide) (fun c1 => ?_) (fun c1 => ?_)
  · refine lv_iconst (v := (nI 1)) hC.1 hC.2.1 dX6_isKind_29 (by decide) ?_
    refine lv_goto (tgt := 34) hC.1 hC.2.1 dX6_isKind_30 (by decide) ?_
    exact pS_ret hC hlk hr (bI_of_t (by simp [isKd, c1])) rfl dX6_isKind_34
  · refine lv_iload_n hC.1 hC.2.1 dX6_isKind_4 rfl (lv_at hl 0 rfl) ?_
    refine lv_iload_n hC.1 hC.2.1 dX6_isKind_5 rfl (lv_at hl 1 rfl) ?_
    refine lv_icmp_eq (tgt := 29) hC.1 hC.2.1 dX6_isKind_6 (by decide) (fun c6 => ?_) (fun c6 => ?_)
    · refine lv_iconst (v := (nI 1)) hC.1 hC.2.1 dX6_isKind_29 (by decide) ?_
      refine lv_goto (tgt := 34) hC.1 hC.2.1 dX6_isKind_30 (by decide) ?_
      exact pS_ret hC hlk hr (bI_of_t (by simp [isKd, c6])) rfl dX6_isKind_34
    · refine lv_iload_n hC.1 hC.2.1 dX6_isKind_9 rfl (lv_at hl 1 rfl) ?_
      refine lv_iconst (v := (nI 1)) hC.1 hC.2.1 dX6_isKind_10 (by decide) ?_
      refine lv_icmp_ne (tgt := 19) hC.1 hC.2.1 dX6_isKind_11 (by decide) (fun c11 => ?_) (fun c11 => ?_)
      · refine lv_iload_n hC.1 hC.2.1 dX6_isKind_19 rfl (lv_at hl 1 rfl) ?_
        refine lv_iconst (v := (nI 4)) hC.1 hC.2.1 dX6_isKind_20 (by decide) ?_
        refine lv_icmp_ne (tgt := 33) hC.1 hC.2.1 dX6_isKind_21 (by decide) (fun c21 => ?_) (fun c21 => ?_)
        · refine lv_iconst (v := (nI 0)) hC.1 hC.2.1 dX6_isKind_33 (by decide) ?_
          exact pS_ret hC hlk hr (bI_of_f (isKd_f c1 c6 (fun h => c11 h.1) (fun h => c21 h.1))) rfl dX6_isKind_34
        · refine lv_iload_n hC.1 hC.2.1 dX6_isKind_24 rfl (lv_at hl 0 rfl) ?_
          refine lv_iconst (v := (nI 5)) hC.1 hC.2.1 dX6_isKind_25 (by decide) ?_
          refine lv_icmp_ne (tgt := 33) hC.1 hC.2.1 dX6_isKind_26 (by decide) (fun c26 => ?_) (fun c26 => ?_)
          · refine lv_iconst (v := (nI 0)) hC.1 hC.2.1 dX6_isKind_33 (by decide) ?_
            exact pS_ret hC hlk hr (bI_of_f (isKd_f c1 c6 (fun h => c11 h.1) (fun h => c26 h.2))) rfl dX6_isKind_34
          · refine lv_iconst (v := (nI 1)) hC.1 hC.2.1 dX6_isKind_29 (by decide) ?_
            refine lv_goto (tgt := 34) hC.1 hC.2.1 dX6_isKind_30 (by decide) ?_
            exact pS_ret hC hlk hr (bI_of_t (isKd_4 c21 c26)) rfl dX6_isKind_34
      · refine lv_iload_n hC.1 hC.2.1 dX6_isKind_14 rfl (lv_at hl 0 rfl) ?_
        refine lv_iconst (v := (nI 4)) hC.1 hC.2.1 dX6_isKind_15 (by decide) ?_
        refine lv_icmp_lt (tgt := 29) hC.1 hC.2.1 dX6_isKind_16 (by decide) (fun c16 => ?_) (fun c16 => ?_)
        · refine lv_iconst (v := (nI 1)) hC.1 hC.2.1 dX6_isKind_29 (by decide) ?_
          refine lv_goto (tgt := 34) hC.1 hC.2.1 dX6_isKind_30 (by decide) ?_
          exact pS_ret hC hlk hr (bI_of_t (isKd_3 c11 c16)) rfl dX6_isKind_34
        · refine lv_iload_n hC.1 hC.2.1 dX6_isKind_19 rfl (lv_at hl 1 rfl) ?_
          refine lv_iconst (v := (nI 4)) hC.1 hC.2.1 dX6_isKind_20 (by decide) ?_
          refine lv_icmp_ne (tgt := 33) hC.1 hC.2.1 dX6_isKind_21 (by decide) (fun c21 => ?_) (fun c21 => ?_)
          · refine lv_iconst (v := (nI 0)) hC.1 hC.2.1 dX6_isKind_33 (by decide) ?_
            exact pS_ret hC hlk hr (bI_of_f (isKd_f c1 c6 (fun h => c16 h.2) (fun h => c21 h.1))) rfl dX6_isKind_34
          · refine lv_iload_n hC.1 hC.2.1 dX6_isKind_24 rfl (lv_at hl 0 rfl) ?_
            refine lv_iconst (v := (nI 5)) hC.1 hC.2.1 dX6_isKind_25 (by decide) ?_
            refine lv_icmp_ne (tgt := 33) hC.1 hC.2.1 dX6_isKind_26 (by decide) (fun c26 => ?_) (fun c26 => ?_)
            · refine lv_iconst (v := (nI 0)) hC.1 hC.2.1 dX6_isKind_33 (by decide) ?_
              exact pS_ret hC hlk hr (bI_of_f (isKd_f c1 c6 (fun h => c16 h.2) (fun h => c26 h.2))) rfl dX6_isKind_34
            · refine lv_iconst (v := (nI 1)) hC.1 hC.2.1 dX6_isKind_29 (by decide) ?_
              refine lv_goto (tgt := 34) hC.1 hC.2.1 dX6_isKind_30 (by decide) ?_
              exact pS_ret hC hlk hr (bI_of_t (isKd_4 c21 c26)) rfl dX6_isKind_34

noncomputable def mX6_setUp (G : mG) (cell : Int32) (kind : Int32) (holds : Int32) : Int32 × mG := if ¬ (G 0 4) = 0 then if (inB cell 0 (nI 15)) = false then ((-1000001 : Int32), G) else if (inB kind (nI 1) (nI 5)) = false then ((-1000001 : Int32), G) else if (inB holds 0 (nI 99)) = true then if (isWk (G 6) (ix cell)) = false then if (cntW (G 6) 16) ≠ 6 then ((nI (cntW ((g2 (g2 (g2 (noteG G) 6 (9 + (ix cell)) kind) 6 (25 + (ix cell)) holds) 6 (41 + (ix cell)) (nI 0)) 6) 16)), (g2 (g2 (g2 (noteG G) 6 (9 + (ix cell)) kind) 6 (25 + (ix cell)) holds) 6 (41 + (ix cell)) (nI 0))) else ((-1000003 : Int32), G) else ((-1000002 : Int32), G) else ((-1000001 : Int32), G) else ((-1000002 : Int32), G)
set_option maxHeartbeats 4000000 in
theorem tX6_setUp (l : Launch) (G : mG) (cell : Int32) (kind : Int32) (holds : Int32) (h0 : amOk G) : mI l yX6_setUp cX6_setUp 4 .int ({ frames := 2, cells := 0, slots := 0, locals := 45 } : Room) [.int cell, .int kind, .int holds] G (fun r G' => r = ((mX6_setUp G cell kind holds).1) ∧ G' = (mX6_setUp G cell kind holds).2) := by
  refine mI.of (by decide) rfl (fun _ => Nat.le_of_ble_eq_true rfl) ?_
  intro D dA ad p e s m below meth cd ls hC hlk hr hK hl hw
  have hl : lv_has ls 4 [(0, .ref (ad 0)), (1, .int cell), (2, .int kind), (3, .int holds)] := hl
  refine lv_aload_n hC.1 hC.2.1 dX6_setUp_0 rfl (lv_at hl 0 rfl) ?_
  refine m_gi hC hK hw 4 (by decide) rfl q1120 rfl (v := (G 0 4)) (rfl) dX6_setUp_1 ?_
  refine lv_if_ne (tgt := 10) hC.1 hC.2.1 dX6_setUp_4 (by decide) (fun c4 => ?_) (fun c4 => ?_)
  · refine lv_iload_n hC.1 hC.2.1 dX6_setUp_10 rfl (lv_at hl 1 rfl) ?_
    refine pS_call (n := 1) hC hl.1 (tX6_isCell l cell ) (lw_S q1295 q1296 q66 q1297) rfl rfl (by decide +kernel) ⟨by decide, by decide⟩ rfl rfl (Nat.le_of_ble_eq_true rfl) dX6_setUp_11 ⟨Nat.zero_le _, Nat.zero_le _⟩ ?_
    refine k_beq (tgt := 41) hC dX6_setUp_14 (by decide) (fun c14 => ?_) (fun c14 => ?_)
    · refine lv_ldc hC.1 hC.2.1 hC.2.2.2.1 (hC.2.2.2.2 _ q1214) dX6_setUp_41 ?_
      exact m_iret hC hlk hr hw rfl (by unfold mX6_setUp; rw [if_pos c4]; rw [if_pos c14]; exact ⟨by (dsimp only; try rfl), by (dsimp only; try rfl)⟩) dX6_setUp_43
    · refine lv_iload_n hC.1 hC.2.1 dX6_setUp_17 rfl (lv_at hl 2 rfl) ?_
      refine lv_i2l hC.1 hC.2.1 dX6_setUp_18 rfl ?_
      refine lv_lconst (v := 1) hC.1 hC.2.1 dX6_setUp_19 (by decide) ?_
      refine lv_ldc2 hC.1 hC.2.1 hC.2.2.2.1 (hC.2.2.2.2 _ q1299) dX6_setUp_20 ?_
      refine pS_call (n := 3) hC hl.1 (tX6_inI l kind (nI 1) (nI 5)) (lw_S q1210 q1211 q66 q1212) rfl rfl (by decide +kernel) ⟨by decide, by decide⟩ rfl rfl (Nat.le_of_ble_eq_true rfl) dX6_setUp_23 ⟨Nat.zero_le _, Nat.zero_le _⟩ ?_
      refine k_beq (tgt := 41) hC dX6_setUp_26 (by decide) (fun c26 => ?_) (fun c26 => ?_)
      · refine lv_ldc hC.1 hC.2.1 hC.2.2.2.1 (hC.2.2.2.2 _ q1214) dX6_setUp_41 ?_
        exact m_iret hC hlk hr hw rfl (by unfold mX6_setUp; rw [if_pos c4]; rw [if_neg (b_nf c14)]; rw [if_pos c26]; exact ⟨by (dsimp only; try rfl), by (dsimp only; try rfl)⟩) dX6_setUp_43
      · refine lv_iload_n hC.1 hC.2.1 dX6_setUp_29 rfl (lv_at hl 3 rfl) ?_
        refine lv_i2l hC.1 hC.2.1 dX6_setUp_30 rfl ?_
        refine lv_lconst (v := 0) hC.1 hC.2.1 dX6_setUp_31 (by decide) ?_
        refine lv_ldc2 hC.1 hC.2.1 hC.2.2.2.1 (hC.2.2.2.2 _ q1300) dX6_setUp_32 ?_
        refine pS_call (n := 3) hC hl.1 (tX6_inI l holds 0 (nI 99)) (lw_S q1210 q1211 q66 q1212) rfl rfl (by decide +kernel) ⟨by decide, by decide⟩ rfl rfl (Nat.le_of_ble_eq_true rfl) dX6_setUp_35 ⟨Nat.zero_le _, Nat.zero_le _⟩ ?_
        refine k_bne (tgt := 44) hC dX6_setUp_38 (by decide) (fun c38 => ?_) (fun c38 => ?_)
        · obtain ⟨q, hq, rfl⟩ := inB_nat (n := 15) (by decide) c14
          refine lv_aload_n hC.1 hC.2.1 dX6_setUp_44 rfl (lv_at hl 0 rfl) ?_
          refine lv_iload_n hC.1 hC.2.1 dX6_setUp_45 rfl (lv_at hl 1 rfl) ?_
          refine m_calli (n := 1) hC hl.1 hK hw (tX6_isWork l G q (by omega)) (lw_V q1301 q1303 qs38 q66 q1304) rfl rfl (by decide +kernel) ⟨by decide, by decide⟩ rfl rfl (Nat.le_of_ble_eq_true rfl) dX6_setUp_46 ⟨Nat.zero_le _, Nat.zero_le _⟩ ?_
          rintro r2 G2 H locs ⟨hr2, hG2⟩ hw
          replace hw := hw.eq hG2
          rw [hr2]
          clear hr2 hG2
          refine k_beq (tgt := 55) hC dX6_setUp_49 (by decide) (fun c49 => ?_) (fun c49 => ?_)
          · have hcn := cntW_le (G 6) 16
            refine lv_aload_n hC.1 hC.2.1 dX6_setUp_55 rfl (lv_at hl 0 rfl) ?_
            refine m_calli (n := 0) hC hl.1 hK hw (tX6_workMany l G  ) (lw_V q1305 q1307 qs39 q66 q1308) rfl rfl (by decide +kernel) ⟨by decide, by decide⟩ rfl rfl (Nat.le_of_ble_eq_true rfl) dX6_setUp_56 ⟨Nat.zero_le _, Nat.zero_le _⟩ ?_
            rintro r2 G2 H locs ⟨hr2, hG2⟩ hw
            replace hw := hw.eq hG2
            rw [hr2]
            clear hr2 hG2
            refine lv_bipush (v := (nI 6)) hC.1 hC.2.1 dX6_setUp_59 (by decide) ?_
            refine k_ne (tgt := 67) hC (by omega) (by omega) dX6_setUp_61 (by decide) (fun c61 => ?_) (fun c61 => ?_)
            · refine lv_aload_n hC.1 hC.2.1 dX6_setUp_67 rfl (lv_at hl 0 rfl) ?_
              refine m_callv (n := 0) hC hl.1 hK hw (tX6_note l G  (h0)) (lw_V q1309 q1311 qs40 q66 q1312) rfl rfl (by decide +kernel) ⟨by decide, by decide⟩ rfl rfl (Nat.le_of_ble_eq_true rfl) dX6_setUp_68 ⟨Nat.zero_le _, Nat.zero_le _⟩ ?_
              rintro G2 H locs hG2 hw
              replace hw := hw.eq hG2
              clear hG2
              refine lv_aload_n hC.1 hC.2.1 dX6_setUp_71 rfl (lv_at hl 0 rfl) ?_
              refine m_ga hC hK hw 5 (by decide) rfl q1121 rfl dX6_setUp_72 ?_
              refine lv_bipush (v := (nI 9)) hC.1 hC.2.1 dX6_setUp_75 (by decide) ?_
              refine lv_iload_n hC.1 hC.2.1 dX6_setUp_77 rfl (lv_at hl 1 rfl) ?_
              refine k_add hC dX6_setUp_78 ?_
              refine lv_iload_n hC.1 hC.2.1 dX6_setUp_79 rfl (lv_at hl 2 rfl) ?_
              refine m_st hC hK hw 6 (by decide) (by decide) (by decide) (by simp only [mLen]; omega) (by omega) dX6_setUp_80 (fun H locs hw => ?_)
              refine lv_aload_n hC.1 hC.2.1 dX6_setUp_81 rfl (lv_at hl 0 rfl) ?_
              refine m_ga hC hK hw 5 (by decide) rfl q1121 rfl dX6_setUp_82 ?_
              refine lv_bipush (v := (nI 25)) hC.1 hC.2.1 dX6_setUp_85 (by decide) ?_
              refine lv_iload_n hC.1 hC.2.1 dX6_setUp_87 rfl (lv_at hl 1 rfl) ?_
              refine k_add hC dX6_setUp_88 ?_
              refine lv_iload_n hC.1 hC.2.1 dX6_setUp_89 rfl (lv_at hl 3 rfl) ?_
              refine m_st hC hK hw 6 (by decide) (by decide) (by decide) (by simp only [mLen]; omega) (by omega) dX6_setUp_90 (fun H locs hw => ?_)
              refine lv_aload_n hC.1 hC.2.1 dX6_setUp_91 rfl (lv_at hl 0 rfl) ?_
              refine m_ga hC hK hw 5 (by decide) rfl q1121 rfl dX6_setUp_92 ?_
              refine lv_bipush (v := (nI 41)) hC.1 hC.2.1 dX6_setUp_95 (by decide) ?_
              refine lv_iload_n hC.1 hC.2.1 dX6_setUp_97 rfl (lv_at hl 1 rfl) ?_
              refine k_add hC dX6_setUp_98 ?_
              refine lv_iconst (v := (nI 0)) hC.1 hC.2.1 dX6_setUp_99 (by decide) ?_
              refine m_st hC hK hw 6 (by decide) (by decide) (by decide) (by simp only [mLen]; omega) (by omega) dX6_setUp_100 (fun H locs hw => ?_)
              refine lv_aload_n hC.1 hC.2.1 dX6_setUp_101 rfl (lv_at hl 0 rfl) ?_
              refine m_calli (n := 0) hC hl.1 hK hw (tX6_workMany l (g2 (g2 (g2 (noteG G) 6 (9 + q) kind) 6 (25 + q) holds) 6 (41 + q) (nI 0))  ) (lw_V q1305 q1307 qs39 q66 q1308) rfl rfl (by decide +kernel) ⟨by decide, by decide⟩ rfl rfl (Nat.le_of_ble_eq_true rfl) dX6_setUp_102 ⟨Nat.zero_le _, Nat.zero_le _⟩ ?_
              rintro r2 G2 H locs ⟨hr2, hG2⟩ hw
              replace hw := hw.eq hG2
              rw [hr2]
              clear hr2 hG2
              exact m_iret hC hlk hr hw rfl (by unfold mX6_setUp; simp only [ix_nI (show q < 2147483648 by omega)]; rw [if_pos c4]; rw [if_neg (b_nf c14)]; rw [if_neg (b_nf c26)]; rw [if_pos c38]; rw [if_pos c49]; rw [if_pos c61]; exact ⟨by (dsimp only; try rfl), by (dsimp only; try rfl)⟩) dX6_setUp_105
            · refine lv_ldc hC.1 hC.2.1 hC.2.2.2.1 (hC.2.2.2.2 _ q1244) dX6_setUp_64 ?_
              exact m_iret hC hlk hr hw rfl (by unfold mX6_setUp; simp only [ix_nI (show q < 2147483648 by omega)]; rw [if_pos c4]; rw [if_neg (b_nf c14)]; rw [if_neg (b_nf c26)]; rw [if_pos c38]; rw [if_pos c49]; rw [if_neg (not_not_intro c61)]; exact ⟨by (dsimp only; try rfl), by (dsimp only; try rfl)⟩) dX6_setUp_66
          · refine lv_ldc hC.1 hC.2.1 hC.2.2.2.1 (hC.2.2.2.2 _ q1294) dX6_setUp_52 ?_
            exact m_iret hC hlk hr hw rfl (by unfold mX6_setUp; simp only [ix_nI (show q < 2147483648 by omega)]; rw [if_pos c4]; rw [if_neg (b_nf c14)]; rw [if_neg (b_nf c26)]; rw [if_pos c38]; rw [if_neg (b_nf c49)]; exact ⟨by (dsimp only; try rfl), by (dsimp only; try rfl)⟩) dX6_setUp_54
        · refine lv_ldc hC.1 hC.2.1 hC.2.2.2.1 (hC.2.2.2.2 _ q1214) dX6_setUp_41 ?_
          exact m_iret hC hlk hr hw rfl (by unfold mX6_setUp; rw [if_pos c4]; rw [if_neg (b_nf c14)]; rw [if_neg (b_nf c26)]; rw [if_neg (b_nt c38)]; exact ⟨by (dsimp only; try rfl), by (dsimp only; try rfl)⟩) dX6_setUp_43
  · refine lv_ldc hC.1 hC.2.1 hC.2.2.2.1 (hC.2.2.2.2 _ q1294) dX6_setUp_7 ?_
    exact m_iret hC hlk hr hw rfl (by unfold mX6_setUp; rw [if_neg (not_not_intro c4)]; exact ⟨by (dsimp only; try rfl), by (dsimp only; try rfl)⟩) dX6_setUp_9

noncomputable def mX6_take (G : mG) (cell : Int32) : Int32 × mG := if ¬ (G 0 4) = 0 then if (inB cell 0 (nI 15)) = true then if (isWk (G 6) (ix cell)) = true then ((nI (cntW ((va_up (noteG G) 6 (clr ((noteG G) 6) (ix cell))) 6) 16)), (va_up (noteG G) 6 (clr ((noteG G) 6) (ix cell)))) else ((-1000002 : Int32), G) else ((-1000001 : Int32), G) else ((-1000002 : Int32), G)
set_option maxHeartbeats 4000000 in
theorem tX6_take (l : Launch) (G : mG) (cell : Int32) (h0 : amOk G) : mI l yX6_take cX6_take 2 .int ({ frames := 2, cells := 0, slots := 0, locals := 45 } : Room) [.int cell] G (fun r G' => r = ((mX6_take G cell).1) ∧ G' = (mX6_take G cell).2) := by
  refine mI.of (by decide) rfl (fun _ => Nat.le_of_ble_eq_true rfl) ?_
  intro D dA ad p e s m below meth cd ls hC hlk hr hK hl hw
  have hl : lv_has ls 2 [(0, .ref (ad 0)), (1, .int cell)] := hl
  refine lv_aload_n hC.1 hC.2.1 dX6_take_0 rfl (lv_at hl 0 rfl) ?_
  refine m_gi hC hK hw 4 (by decide) rfl q1120 rfl (v := (G 0 4)) (rfl) dX6_take_1 ?_
  refine lv_if_ne (tgt := 10) hC.1 hC.2.1 dX6_take_4 (by decide) (fun c4 => ?_) (fun c4 => ?_)
  · refine lv_iload_n hC.1 hC.2.1 dX6_take_10 rfl (lv_at hl 1 rfl) ?_
    refine pS_call (n := 1) hC hl.1 (tX6_isCell l cell ) (lw_S q1295 q1296 q66 q1297) rfl rfl (by decide +kernel) ⟨by decide, by decide⟩ rfl rfl (Nat.le_of_ble_eq_true rfl) dX6_take_11 ⟨Nat.zero_le _, Nat.zero_le _⟩ ?_
    refine k_bne (tgt := 20) hC dX6_take_14 (by decide) (fun c14 => ?_) (fun c14 => ?_)
    · obtain ⟨q, hq, rfl⟩ := inB_nat (n := 15) (by decide) c14
      refine lv_aload_n hC.1 hC.2.1 dX6_take_20 rfl (lv_at hl 0 rfl) ?_
      refine lv_iload_n hC.1 hC.2.1 dX6_take_21 rfl (lv_at hl 1 rfl) ?_
      refine m_calli (n := 1) hC hl.1 hK hw (tX6_isWork l G q (by omega)) (lw_V q1301 q1303 qs38 q66 q1304) rfl rfl (by decide +kernel) ⟨by decide, by decide⟩ rfl rfl (Nat.le_of_ble_eq_true rfl) dX6_take_22 ⟨Nat.zero_le _, Nat.zero_le _⟩ ?_
      rintro r2 G2 H locs ⟨hr2, hG2⟩ hw
      replace hw := hw.eq hG2
      rw [hr2]
      clear hr2 hG2
      refine k_bne (tgt := 31) hC dX6_take_25 (by decide) (fun c25 => ?_) (fun c25 => ?_)
      · refine lv_aload_n hC.1 hC.2.1 dX6_take_31 rfl (lv_at hl 0 rfl) ?_
        refine m_callv (n := 0) hC hl.1 hK hw (tX6_note l G  (h0)) (lw_V q1309 q1311 qs40 q66 q1312) rfl rfl (by decide +kernel) ⟨by decide, by decide⟩ rfl rfl (Nat.le_of_ble_eq_true rfl) dX6_take_32 ⟨Nat.zero_le _, Nat.zero_le _⟩ ?_
        rintro G2 H locs hG2 hw
        replace hw := hw.eq hG2
        clear hG2
        refine lv_aload_n hC.1 hC.2.1 dX6_take_35 rfl (lv_at hl 0 rfl) ?_
        refine lv_iload_n hC.1 hC.2.1 dX6_take_36 rfl (lv_at hl 1 rfl) ?_
        refine m_callv (n := 1) hC hl.1 hK hw (tX6_clear l (noteG G) q (by omega)) (lw_V q1317 q1319 qs41 q66 q1320) rfl rfl (by decide +kernel) ⟨by decide, by decide⟩ rfl rfl (Nat.le_of_ble_eq_true rfl) dX6_take_37 ⟨Nat.zero_le _, Nat.zero_le _⟩ ?_
        rintro G2 H locs hG2 hw
        replace hw := hw.eq hG2
        clear hG2
        refine lv_aload_n hC.1 hC.2.1 dX6_take_40 rfl (lv_at hl 0 rfl) ?_
        refine m_calli (n := 0) hC hl.1 hK hw (tX6_workMany l (va_up (noteG G) 6 (clr ((noteG G) 6) q))  ) (lw_V q1305 q1307 qs39 q66 q1308) rfl rfl (by decide +kernel) ⟨by decide, by decide⟩ rfl rfl (Nat.le_of_ble_eq_true rfl) dX6_take_41 ⟨Nat.zero_le _, Nat.zero_le _⟩ ?_
        rintro r2 G2 H locs ⟨hr2, hG2⟩ hw
        replace hw := hw.eq hG2
        rw [hr2]
        clear hr2 hG2
        exact m_iret hC hlk hr hw rfl (by unfold mX6_take; simp only [ix_nI (show q < 2147483648 by omega)]; rw [if_pos c4]; rw [if_pos c14]; rw [if_pos c25]; exact ⟨by (dsimp only; try rfl), by (dsimp only; try rfl)⟩) dX6_take_44
      · refine lv_ldc hC.1 hC.2.1 hC.2.2.2.1 (hC.2.2.2.2 _ q1294) dX6_take_28 ?_
        exact m_iret hC hlk hr hw rfl (by unfold mX6_take; simp only [ix_nI (show q < 2147483648 by omega)]; rw [if_pos c4]; rw [if_pos c14]; rw [if_neg (b_nt c25)]; exact ⟨by (dsimp only; try rfl), by (dsimp only; try rfl)⟩) dX6_take_30
    · refine lv_ldc hC.1 hC.2.1 hC.2.2.2.1 (hC.2.2.2.2 _ q1214) dX6_take_17 ?_
      exact m_iret hC hlk hr hw rfl (by unfold mX6_take; rw [if_pos c4]; rw [if_neg (b_nt c14)]; exact ⟨by (dsimp only; try rfl), by (dsimp only; try rfl)⟩) dX6_take_19
  · refine lv_ldc hC.1 hC.2.1 hC.2.2.2.1 (hC.2.2.2.2 _ q1294) dX6_take_7 ?_
    exact m_iret hC hlk hr hw rfl (by unfold mX6_take; rw [if_neg (not_not_intro c4)]; exact ⟨by (dsimp only; try rfl), by (dsimp only; try rfl)⟩) dX6_take_9

noncomputable def mX6_turn (G : mG) (cell : Int32) : Int32 × mG := if ¬ (G 0 4) = 0 then if (inB cell 0 (nI 15)) = true then if (G 6 (9 + (ix cell))) = (nI 3) then (((g2 (noteG G) 6 (41 + (ix cell)) ((nI 1) - ((noteG G) 6 (41 + (ix cell))))) 6 (41 + (ix cell))), g2 (noteG G) 6 (41 + (ix cell)) ((nI 1) - ((noteG G) 6 (41 + (ix cell))))) else ((-1000002 : Int32), G) else ((-1000001 : Int32), G) else ((-1000002 : Int32), G)
set_option maxHeartbeats 4000000 in
theorem tX6_turn (l : Launch) (G : mG) (cell : Int32) (h0 : amOk G) : mI l yX6_turn cX6_turn 2 .int ({ frames := 2, cells := 0, slots := 0, locals := 45 } : Room) [.int cell] G (fun r G' => r = ((mX6_turn G cell).1) ∧ G' = (mX6_turn G cell).2) := by
  refine mI.of (by decide) rfl (fun _ => Nat.le_of_ble_eq_true rfl) ?_
  intro D dA ad p e s m below meth cd ls hC hlk hr hK hl hw
  have hl : lv_has ls 2 [(0, .ref (ad 0)), (1, .int cell)] := hl
  refine lv_aload_n hC.1 hC.2.1 dX6_turn_0 rfl (lv_at hl 0 rfl) ?_
  refine m_gi hC hK hw 4 (by decide) rfl q1120 rfl (v := (G 0 4)) (rfl) dX6_turn_1 ?_
  refine lv_if_ne (tgt := 10) hC.1 hC.2.1 dX6_turn_4 (by decide) (fun c4 => ?_) (fun c4 => ?_)
  · refine lv_iload_n hC.1 hC.2.1 dX6_turn_10 rfl (lv_at hl 1 rfl) ?_
    refine pS_call (n := 1) hC hl.1 (tX6_isCell l cell ) (lw_S q1295 q1296 q66 q1297) rfl rfl (by decide +kernel) ⟨by decide, by decide⟩ rfl rfl (Nat.le_of_ble_eq_true rfl) dX6_turn_11 ⟨Nat.zero_le _, Nat.zero_le _⟩ ?_
    refine k_bne (tgt := 20) hC dX6_turn_14 (by decide) (fun c14 => ?_) (fun c14 => ?_)
    · obtain ⟨q, hq, rfl⟩ := inB_nat (n := 15) (by decide) c14
      refine lv_aload_n hC.1 hC.2.1 dX6_turn_20 rfl (lv_at hl 0 rfl) ?_
      refine m_ga hC hK hw 5 (by decide) rfl q1121 rfl dX6_turn_21 ?_
      refine lv_bipush (v := (nI 9)) hC.1 hC.2.1 dX6_turn_24 (by decide) ?_
      refine lv_iload_n hC.1 hC.2.1 dX6_turn_26 rfl (lv_at hl 1 rfl) ?_
      refine k_add hC dX6_turn_27 ?_
      refine m_ld hC hK hw 6 (by decide) (by decide) (by decide) (by simp only [mLen]; omega) (by omega) (v := (G 6 (9 + q))) (rfl) dX6_turn_28 ?_
      refine lv_iconst (v := (nI 3)) hC.1 hC.2.1 dX6_turn_29 (by decide) ?_
      refine lv_icmp_eq (tgt := 36) hC.1 hC.2.1 dX6_turn_30 (by decide) (fun c30 => ?_) (fun c30 => ?_)
      · refine lv_aload_n hC.1 hC.2.1 dX6_turn_36 rfl (lv_at hl 0 rfl) ?_
        refine m_callv (n := 0) hC hl.1 hK hw (tX6_note l G  (h0)) (lw_V q1309 q1311 qs40 q66 q1312) rfl rfl (by decide +kernel) ⟨by decide, by decide⟩ rfl rfl (Nat.le_of_ble_eq_true rfl) dX6_turn_37 ⟨Nat.zero_le _, Nat.zero_le _⟩ ?_
        rintro G2 H locs hG2 hw
        replace hw := hw.eq hG2
        clear hG2
        refine lv_aload_n hC.1 hC.2.1 dX6_turn_40 rfl (lv_at hl 0 rfl) ?_
        refine m_ga hC hK hw 5 (by decide) rfl q1121 rfl dX6_turn_41 ?_
        refine lv_bipush (v := (nI 41)) hC.1 hC.2.1 dX6_turn_44 (by decide) ?_
        refine lv_iload_n hC.1 hC.2.1 dX6_turn_46 rfl (lv_at hl 1 rfl) ?_
        refine k_add hC dX6_turn_47 ?_
        refine lv_iconst (v := (nI 1)) hC.1 hC.2.1 dX6_turn_48 (by decide) ?_
        refine lv_aload_n hC.1 hC.2.1 dX6_turn_49 rfl (lv_at hl 0 rfl) ?_
        refine m_ga hC hK hw 5 (by decide) rfl q1121 rfl dX6_turn_50 ?_
        refine lv_bipush (v := (nI 41)) hC.1 hC.2.1 dX6_turn_53 (by decide) ?_
        refine lv_iload_n hC.1 hC.2.1 dX6_turn_55 rfl (lv_at hl 1 rfl) ?_
        refine k_add hC dX6_turn_56 ?_
        refine m_ld hC hK hw 6 (by decide) (by decide) (by decide) (by simp only [mLen]; omega) (by omega) (v := ((noteG G) 6 (41 + q))) (rfl) dX6_turn_57 ?_
        refine lv_isub hC.1 hC.2.1 dX6_turn_58 ?_
        refine m_st hC hK hw 6 (by decide) (by decide) (by decide) (by simp only [mLen]; omega) (by omega) dX6_turn_59 (fun H locs hw => ?_)
        refine lv_aload_n hC.1 hC.2.1 dX6_turn_60 rfl (lv_at hl 0 rfl) ?_
        refine m_ga hC hK hw 5 (by decide) rfl q1121 rfl dX6_turn_61 ?_
        refine lv_bipush (v := (nI 41)) hC.1 hC.2.1 dX6_turn_64 (by decide) ?_
        refine lv_iload_n hC.1 hC.2.1 dX6_turn_66 rfl (lv_at hl 1 rfl) ?_
        refine k_add hC dX6_turn_67 ?_
        refine m_ld hC hK hw 6 (by decide) (by decide) (by decide) (by simp only [mLen]; omega) (by omega) (v := ((g2 (noteG G) 6 (41 + q) ((nI 1) - ((noteG G) 6 (41 + q)))) 6 (41 + q))) (rfl) dX6_turn_68 ?_
        exact m_iret hC hlk hr hw rfl (by unfold mX6_turn; simp only [ix_nI (show q < 2147483648 by omega)]; rw [if_pos c4]; rw [if_pos c14]; rw [if_pos c30]; exact ⟨by (dsimp only; try rfl), by (dsimp only; try rfl)⟩) dX6_turn_69
      · refine lv_ldc hC.1 hC.2.1 hC.2.2.2.1 (hC.2.2.2.2 _ q1294) dX6_turn_33 ?_
        exact m_iret hC hlk hr hw rfl (by unfold mX6_turn; simp only [ix_nI (show q < 2147483648 by omega)]; rw [if_pos c4]; rw [if_pos c14]; rw [if_neg c30]; exact ⟨by (dsimp only; try rfl), by (dsimp only; try rfl)⟩) dX6_turn_35
    · refine lv_ldc hC.1 hC.2.1 hC.2.2.2.1 (hC.2.2.2.2 _ q1214) dX6_turn_17 ?_
      exact m_iret hC hlk hr hw rfl (by unfold mX6_turn; rw [if_pos c4]; rw [if_neg (b_nt c14)]; exact ⟨by (dsimp only; try rfl), by (dsimp only; try rfl)⟩) dX6_turn_19
  · refine lv_ldc hC.1 hC.2.1 hC.2.2.2.1 (hC.2.2.2.2 _ q1294) dX6_turn_7 ?_
    exact m_iret hC hlk hr hw rfl (by unfold mX6_turn; rw [if_neg (not_not_intro c4)]; exact ⟨by (dsimp only; try rfl), by (dsimp only; try rfl)⟩) dX6_turn_9

noncomputable def mX6_gust (G : mG) (y : Int32) (v : Int32) : Int32 × mG := if ¬ (G 0 4) = 0 then if (inB y 0 (nI 3)) = false then ((-1000001 : Int32), G) else if (inB v 0 (nI 31)) = true then (((noteG G) 6 (1 + (ix y))), g2 (noteG G) 6 (1 + (ix y)) v) else ((-1000001 : Int32), G) else ((-1000002 : Int32), G)
set_option maxHeartbeats 4000000 in
theorem tX6_gust (l : Launch) (G : mG) (y : Int32) (v : Int32) (h0 : amOk G) : mI l yX6_gust cX6_gust 4 .int ({ frames := 2, cells := 0, slots := 0, locals := 45 } : Room) [.int y, .int v] G (fun r G' => r = ((mX6_gust G y v).1) ∧ G' = (mX6_gust G y v).2) := by
  refine mI.of (by decide) rfl (fun _ => Nat.le_of_ble_eq_true rfl) ?_
  intro D dA ad p e s m below meth cd ls hC hlk hr hK hl hw
  have hl : lv_has ls 4 [(0, .ref (ad 0)), (1, .int y), (2, .int v)] := hl
  refine lv_aload_n hC.1 hC.2.1 dX6_gust_0 rfl (lv_at hl 0 rfl) ?_
  refine m_gi hC hK hw 4 (by decide) rfl q1120 rfl (v := (G 0 4)) (rfl) dX6_gust_1 ?_
  refine lv_if_ne (tgt := 10) hC.1 hC.2.1 dX6_gust_4 (by decide) (fun c4 => ?_) (fun c4 => ?_)
  · refine lv_iload_n hC.1 hC.2.1 dX6_gust_10 rfl (lv_at hl 1 rfl) ?_
    refine pS_call (n := 1) hC hl.1 (tX6_isRowOfPass l y ) (lw_S q1329 q1330 q66 q1331) rfl rfl (by decide +kernel) ⟨by decide, by decide⟩ rfl rfl (Nat.le_of_ble_eq_true rfl) dX6_gust_11 ⟨Nat.zero_le _, Nat.zero_le _⟩ ?_
    refine k_beq (tgt := 29) hC dX6_gust_14 (by decide) (fun c14 => ?_) (fun c14 => ?_)
    · refine lv_ldc hC.1 hC.2.1 hC.2.2.2.1 (hC.2.2.2.2 _ q1214) dX6_gust_29 ?_
      exact m_iret hC hlk hr hw rfl (by unfold mX6_gust; rw [if_pos c4]; rw [if_pos c14]; exact ⟨by (dsimp only; try rfl), by (dsimp only; try rfl)⟩) dX6_gust_31
    · refine lv_iload_n hC.1 hC.2.1 dX6_gust_17 rfl (lv_at hl 2 rfl) ?_
      refine lv_i2l hC.1 hC.2.1 dX6_gust_18 rfl ?_
      refine lv_lconst (v := 0) hC.1 hC.2.1 dX6_gust_19 (by decide) ?_
      refine lv_ldc2 hC.1 hC.2.1 hC.2.2.2.1 (hC.2.2.2.2 _ q1333) dX6_gust_20 ?_
      refine pS_call (n := 3) hC hl.1 (tX6_inI l v 0 (nI 31)) (lw_S q1210 q1211 q66 q1212) rfl rfl (by decide +kernel) ⟨by decide, by decide⟩ rfl rfl (Nat.le_of_ble_eq_true rfl) dX6_gust_23 ⟨Nat.zero_le _, Nat.zero_le _⟩ ?_
      refine k_bne (tgt := 32) hC dX6_gust_26 (by decide) (fun c26 => ?_) (fun c26 => ?_)
      · obtain ⟨q, hq, rfl⟩ := inB_nat (n := 3) (by decide) c14
        refine lv_aload_n hC.1 hC.2.1 dX6_gust_32 rfl (lv_at hl 0 rfl) ?_
        refine m_callv (n := 0) hC hl.1 hK hw (tX6_note l G  (h0)) (lw_V q1309 q1311 qs40 q66 q1312) rfl rfl (by decide +kernel) ⟨by decide, by decide⟩ rfl rfl (Nat.le_of_ble_eq_true rfl) dX6_gust_33 ⟨Nat.zero_le _, Nat.zero_le _⟩ ?_
        rintro G2 H locs hG2 hw
        replace hw := hw.eq hG2
        clear hG2
        refine lv_aload_n hC.1 hC.2.1 dX6_gust_36 rfl (lv_at hl 0 rfl) ?_
        refine m_ga hC hK hw 5 (by decide) rfl q1121 rfl dX6_gust_37 ?_
        refine lv_iconst (v := (nI 1)) hC.1 hC.2.1 dX6_gust_40 (by decide) ?_
        refine lv_iload_n hC.1 hC.2.1 dX6_gust_41 rfl (lv_at hl 1 rfl) ?_
        refine k_add hC dX6_gust_42 ?_
        refine m_ld hC hK hw 6 (by decide) (by decide) (by decide) (by simp only [mLen]; omega) (by omega) (v := ((noteG G) 6 (1 + q))) (rfl) dX6_gust_43 ?_
        refine lv_istore_n (lv' := [(3, .int ((noteG G) 6 (1 + q))), (0, .ref (ad 0)), (1, .int (nI q)), (2, .int v)]) hC.1 hC.2.1 dX6_gust_44 rfl hl (by decide) rfl (fun ls hl => ?_)
        refine lv_aload_n hC.1 hC.2.1 dX6_gust_45 rfl (lv_at hl 1 rfl) ?_
        refine m_ga hC hK hw 5 (by decide) rfl q1121 rfl dX6_gust_46 ?_
        refine lv_iconst (v := (nI 1)) hC.1 hC.2.1 dX6_gust_49 (by decide) ?_
        refine lv_iload_n hC.1 hC.2.1 dX6_gust_50 rfl (lv_at hl 2 rfl) ?_
        refine k_add hC dX6_gust_51 ?_
        refine lv_iload_n hC.1 hC.2.1 dX6_gust_52 rfl (lv_at hl 3 rfl) ?_
        refine m_st hC hK hw 6 (by decide) (by decide) (by decide) (by simp only [mLen]; omega) (by omega) dX6_gust_53 (fun H locs hw => ?_)
        refine lv_iload_n hC.1 hC.2.1 dX6_gust_54 rfl (lv_at hl 0 rfl) ?_
        exact m_iret hC hlk hr hw rfl (by unfold mX6_gust; simp only [ix_nI (show q < 2147483648 by omega)]; rw [if_pos c4]; rw [if_neg (b_nf c14)]; rw [if_pos c26]; exact ⟨by (dsimp only; try rfl), by (dsimp only; try rfl)⟩) dX6_gust_55
      · refine lv_ldc hC.1 hC.2.1 hC.2.2.2.1 (hC.2.2.2.2 _ q1214) dX6_gust_29 ?_
        exact m_iret hC hlk hr hw rfl (by unfold mX6_gust; rw [if_pos c4]; rw [if_neg (b_nf c14)]; rw [if_neg (b_nt c26)]; exact ⟨by (dsimp only; try rfl), by (dsimp only; try rfl)⟩) dX6_gust_31
  · refine lv_ldc hC.1 hC.2.1 hC.2.2.2.1 (hC.2.2.2.2 _ q1294) dX6_gust_7 ?_
    exact m_iret hC hlk hr hw rfl (by unfold mX6_gust; rw [if_neg (not_not_intro c4)]; exact ⟨by (dsimp only; try rfl), by (dsimp only; try rfl)⟩) dX6_gust_9

noncomputable def mX6_hours (G : mG) (n : Int32) : Int32 × mG := if ¬ (G 0 4) = 0 then if (inB n (nI 1) (nI 20)) = true then if ((G 6 0) + (nI (ix n))) ≤ (nI 999) then ((nI (cntW ((hrsG G (ix n)) 6) 16)), (hrsG G (ix n))) else ((-1000003 : Int32), G) else ((-1000001 : Int32), G) else ((-1000002 : Int32), G)
set_option maxHeartbeats 4000000 in
theorem tX6_hours (l : Launch) (G : mG) (n : Int32) (h0 : amOk G) : mI l yX6_hours cX6_hours 3 .int ({ frames := 5, cells := 0, slots := 0, locals := 117 } : Room) [.int n] G (fun r G' => r = ((mX6_hours G n).1) ∧ G' = (mX6_hours G n).2) := by
  refine mI.of (by decide) rfl (fun _ => Nat.le_of_ble_eq_true rfl) ?_
  intro D dA ad p e s m below meth cd ls hC hlk hr hK hl hw
  have hl : lv_has ls 3 [(0, .ref (ad 0)), (1, .int n)] := hl
  refine lv_aload_n hC.1 hC.2.1 dX6_hours_0 rfl (lv_at hl 0 rfl) ?_
  refine m_gi hC hK hw 4 (by decide) rfl q1120 rfl (v := (G 0 4)) (rfl) dX6_hours_1 ?_
  refine lv_if_ne (tgt := 10) hC.1 hC.2.1 dX6_hours_4 (by decide) (fun c4 => ?_) (fun c4 => ?_)
  · refine lv_iload_n hC.1 hC.2.1 dX6_hours_10 rfl (lv_at hl 1 rfl) ?_
    refine lv_i2l hC.1 hC.2.1 dX6_hours_11 rfl ?_
    refine lv_lconst (v := 1) hC.1 hC.2.1 dX6_hours_12 (by decide) ?_
    refine lv_ldc2 hC.1 hC.2.1 hC.2.2.2.1 (hC.2.2.2.2 _ q1338) dX6_hours_13 ?_
    refine pS_call (n := 3) hC hl.1 (tX6_inI l n (nI 1) (nI 20)) (lw_S q1210 q1211 q66 q1212) rfl rfl (by decide +kernel) ⟨by decide, by decide⟩ rfl rfl (Nat.le_of_ble_eq_true rfl) dX6_hours_16 ⟨Nat.zero_le _, Nat.zero_le _⟩ ?_
    refine k_bne (tgt := 25) hC dX6_hours_19 (by decide) (fun c19 => ?_) (fun c19 => ?_)
    · obtain ⟨q, hq0, hq, rfl⟩ := inB_nat1 (a := 1) (n := 20) (by decide) (by decide) c19
      refine lv_aload_n hC.1 hC.2.1 dX6_hours_25 rfl (lv_at hl 0 rfl) ?_
      refine m_ga hC hK hw 5 (by decide) rfl q1121 rfl dX6_hours_26 ?_
      refine lv_iconst (v := (nI 0)) hC.1 hC.2.1 dX6_hours_29 (by decide) ?_
      refine m_ld hC hK hw 6 (by decide) (by decide) (by decide) (by simp only [mLen]; omega) (by omega) (v := (G 6 0)) (rfl) dX6_hours_30 ?_
      refine lv_iload_n hC.1 hC.2.1 dX6_hours_31 rfl (lv_at hl 1 rfl) ?_
      refine lv_iadd hC.1 hC.2.1 dX6_hours_32 ?_
      refine lv_sipush (v := (nI 999)) hC.1 hC.2.1 dX6_hours_33 (by decide) ?_
      refine lv_icmp_le (tgt := 42) hC.1 hC.2.1 dX6_hours_36 (by decide) (fun c36 => ?_) (fun c36 => ?_)
      · refine lv_iconst (v := (nI 0)) hC.1 hC.2.1 dX6_hours_42 (by decide) ?_
        refine lv_istore_n (lv' := [(2, .int (nI 0)), (0, .ref (ad 0)), (1, .int (nI q))]) hC.1 hC.2.1 dX6_hours_43 rfl hl (by decide) rfl (fun ls hl => ?_)
        refine W.loop (fun ls i H locs => lv_has ls 3 [(0, .ref (ad 0)), (1, .int (nI q)), (2, .int (nI i))] ∧ mw D dA (nA mDom ad s.heap.size) s.heap ad (hrsG G i) H locs ∧ (i ≤ q)) 44 (fun _ => []) (fun i => q - i) ?_ 0 ⟨hl.sub' [1, 2, 0] (by rfl), hw.eq (by rfl), by omega⟩
        rintro ls i H locs ⟨hl, hw, hi⟩ ih44
        refine lv_iload_n hC.1 hC.2.1 dX6_hours_44 rfl (lv_at hl 2 rfl) ?_
        refine lv_iload_n hC.1 hC.2.1 dX6_hours_45 rfl (lv_at hl 1 rfl) ?_
        refine k_ge (tgt := 63) hC (by omega) (by omega) dX6_hours_46 (by decide) (fun c46 => ?_) (fun c46 => ?_)
        · have eN : i = q := by omega
          subst eN
          refine lv_aload_n hC.1 hC.2.1 dX6_hours_63 rfl (lv_at hl 0 rfl) ?_
          refine m_calli (n := 0) hC hl.1 hK hw (tX6_workMany l (hrsG G i)  ) (lw_V q1305 q1307 qs39 q66 q1308) rfl rfl (by decide +kernel) ⟨by decide, by decide⟩ rfl rfl (Nat.le_of_ble_eq_true rfl) dX6_hours_64 ⟨Nat.zero_le _, Nat.zero_le _⟩ ?_
          rintro r2 G2 H locs ⟨hr2, hG2⟩ hw
          replace hw := hw.eq hG2
          rw [hr2]
          clear hr2 hG2
          exact m_iret hC hlk hr hw rfl (by unfold mX6_hours; simp only [ix_nI (show i < 2147483648 by omega)]; rw [if_pos c4]; rw [if_pos c19]; rw [if_pos c36]; exact ⟨by (dsimp only; try rfl), by (dsimp only; try rfl)⟩) dX6_hours_67
        · refine lv_aload_n hC.1 hC.2.1 dX6_hours_49 rfl (lv_at hl 0 rfl) ?_
          refine m_callv (n := 0) hC hl.1 hK hw (tX6_note l (hrsG G i)  (amOk_hrs h0 i)) (lw_V q1309 q1311 qs40 q66 q1312) rfl rfl (by decide +kernel) ⟨by decide, by decide⟩ rfl rfl (Nat.le_of_ble_eq_true rfl) dX6_hours_50 ⟨Nat.zero_le _, Nat.zero_le _⟩ ?_
          rintro G2 H locs hG2 hw
          replace hw := hw.eq hG2
          clear hG2
          refine lv_aload_n hC.1 hC.2.1 dX6_hours_53 rfl (lv_at hl 0 rfl) ?_
          refine m_callv (n := 0) hC hl.1 hK hw (tX6_oneHour l (noteG (hrsG G i))  ) (lw_V q1339 q1341 qs42 q66 q1342) rfl rfl (by decide +kernel) ⟨by decide, by decide⟩ rfl rfl (Nat.le_of_ble_eq_true rfl) dX6_hours_54 ⟨Nat.zero_le _, Nat.zero_le _⟩ ?_
          rintro G2 H locs hG2 hw
          replace hw := hw.eq hG2
          clear hG2
          refine k_iinc (k := 2) (d := 1) (lv' := [(2, .int (nI (i + 1))), (0, .ref (ad 0)), (1, .int (nI q))]) hC dX6_hours_57 hl rfl (by decide) (by decide) rfl (fun ls hl => ?_)
          refine lv_goto (tgt := 44) hC.1 hC.2.1 dX6_hours_60 (by decide) ?_
          exact ih44 ls (i + 1) H locs ⟨hl.sub' [1, 2, 0] (by rfl), hw.eq (by rfl), by omega⟩ (by omega)
      · refine lv_ldc hC.1 hC.2.1 hC.2.2.2.1 (hC.2.2.2.2 _ q1244) dX6_hours_39 ?_
        exact m_iret hC hlk hr hw rfl (by unfold mX6_hours; simp only [ix_nI (show q < 2147483648 by omega)]; rw [if_pos c4]; rw [if_pos c19]; rw [if_neg c36]; exact ⟨by (dsimp only; try rfl), by (dsimp only; try rfl)⟩) dX6_hours_41
    · refine lv_ldc hC.1 hC.2.1 hC.2.2.2.1 (hC.2.2.2.2 _ q1214) dX6_hours_22 ?_
      exact m_iret hC hlk hr hw rfl (by unfold mX6_hours; rw [if_pos c4]; rw [if_neg (b_nt c19)]; exact ⟨by (dsimp only; try rfl), by (dsimp only; try rfl)⟩) dX6_hours_24
  · refine lv_ldc hC.1 hC.2.1 hC.2.2.2.1 (hC.2.2.2.2 _ q1294) dX6_hours_7 ?_
    exact m_iret hC hlk hr hw rfl (by unfold mX6_hours; rw [if_neg (not_not_intro c4)]; exact ⟨by (dsimp only; try rfl), by (dsimp only; try rfl)⟩) dX6_hours_9

noncomputable def mX6_undo (G : mG) : Int32 × mG := if (ix (G 0 22)) ≠ 0 then ((nI ((ix (G 0 22)) - 1)), va_up (g2 G 0 22 (nI ((ix (G 0 22)) - 1))) 6 (fun j => G 22 (57 * ((ix (G 0 22)) - 1) + j))) else ((-1000002 : Int32), G)
set_option maxHeartbeats 4000000 in
theorem tX6_undo (l : Launch) (G : mG) (h0 : amOk G) : mI l yX6_undo cX6_undo 2 .int ({ frames := 0, cells := 0, slots := 0, locals := 0 } : Room) [] G (fun r G' => r = ((mX6_undo G).1) ∧ G' = (mX6_undo G).2) := by
  refine mI.of (by decide) rfl (fun _ => Nat.le_of_ble_eq_true rfl) ?_
  intro D dA ad p e s m below meth cd ls hC hlk hr hK hl hw
  have hl : lv_has ls 2 [(0, .ref (ad 0))] := hl
  have ⟨am, ham, eam⟩ := h0
  refine lv_aload_n hC.1 hC.2.1 dX6_undo_0 rfl (lv_at hl 0 rfl) ?_
  refine m_gi hC hK hw 22 (by decide) rfl q1138 rfl (v := (nI am)) (eam) dX6_undo_1 ?_
  refine k_zne (tgt := 10) hC (by omega) dX6_undo_4 (by decide) (fun c4 => ?_) (fun c4 => ?_)
  · refine lv_aload_n hC.1 hC.2.1 dX6_undo_10 rfl (lv_at hl 0 rfl) ?_
    refine lv_dup hC.1 hC.2.1 dX6_undo_11 rfl ?_
    refine m_gi hC hK hw 22 (by decide) rfl q1138 rfl (v := (nI am)) (eam) dX6_undo_12 ?_
    refine lv_iconst (v := (nI 1)) hC.1 hC.2.1 dX6_undo_15 (by decide) ?_
    refine k_sub hC (by omega) dX6_undo_16 ?_
    refine m_pi hC hK hw 22 (by decide) rfl rfl q1138 rfl rfl rfl rfl dX6_undo_17 (fun H locs hw => ?_)
    refine lv_iconst (v := (nI 0)) hC.1 hC.2.1 dX6_undo_20 (by decide) ?_
    refine lv_istore_n (lv' := [(1, .int (nI 0)), (0, .ref (ad 0))]) hC.1 hC.2.1 dX6_undo_21 rfl hl (by decide) rfl (fun ls hl => ?_)
    refine W.loop (fun ls i H locs => lv_has ls 2 [(0, .ref (ad 0)), (1, .int (nI i))] ∧ mw D dA (nA mDom ad s.heap.size) s.heap ad (va_up (g2 G 0 22 (nI (am - 1))) 6 (fun j => if j < i then G 22 (57 * (am - 1) + j) else G 6 j)) H locs ∧ (i ≤ 57)) 22 (fun _ => []) (fun i => 57 - i) ?_ 0 ⟨hl.sub' [1, 0] (by rfl), hw.eq (cp_0 _ 6 _), by omega⟩
    rintro ls i H locs ⟨hl, hw, hi⟩ ih22
    refine lv_iload_n hC.1 hC.2.1 dX6_undo_22 rfl (lv_at hl 1 rfl) ?_
    refine lv_bipush (v := (nI 57)) hC.1 hC.2.1 dX6_undo_23 (by decide) ?_
    refine k_ge (tgt := 54) hC (by omega) (by omega) dX6_undo_25 (by decide) (fun c25 => ?_) (fun c25 => ?_)
    · have eN : i = 57 := by omega
      subst eN
      have hw : mw D dA (nA mDom ad s.heap.size) s.heap ad (va_up (g2 G 0 22 (nI (am - 1))) 6 (fun j => G 22 (57 * (am - 1) + j))) H locs := hw.to (fun k _ _ => rfl) (fun n j hn hj => by by_cases h : n = 6; (subst h; show (if j < 57 then _ else _) = _; rw [if_pos (show j < 57 from hj)]; rfl); simp [va_up, h])
      refine lv_aload_n hC.1 hC.2.1 dX6_undo_54 rfl (lv_at hl 0 rfl) ?_
      refine m_gi hC hK hw 22 (by decide) rfl q1138 rfl (v := (nI (am - 1))) (rfl) dX6_undo_55 ?_
      exact m_iret hC hlk hr hw rfl (by unfold mX6_undo; simp only [eam, ix_nI (show am < 2147483648 by omega)]; rw [if_pos c4]; exact ⟨by (dsimp only; try rfl), by (dsimp only; try rfl)⟩) dX6_undo_58
    · refine lv_aload_n hC.1 hC.2.1 dX6_undo_28 rfl (lv_at hl 0 rfl) ?_
      refine m_ga hC hK hw 5 (by decide) rfl q1121 rfl dX6_undo_29 ?_
      refine lv_iload_n hC.1 hC.2.1 dX6_undo_32 rfl (lv_at hl 1 rfl) ?_
      refine lv_aload_n hC.1 hC.2.1 dX6_undo_33 rfl (lv_at hl 0 rfl) ?_
      refine m_ga hC hK hw 21 (by decide) rfl q1137 rfl dX6_undo_34 ?_
      refine lv_bipush (v := (nI 57)) hC.1 hC.2.1 dX6_undo_37 (by decide) ?_
      refine lv_aload_n hC.1 hC.2.1 dX6_undo_39 rfl (lv_at hl 0 rfl) ?_
      refine m_gi hC hK hw 22 (by decide) rfl q1138 rfl (v := (nI (am - 1))) (rfl) dX6_undo_40 ?_
      refine k_mul hC dX6_undo_43 ?_
      refine lv_iload_n hC.1 hC.2.1 dX6_undo_44 rfl (lv_at hl 1 rfl) ?_
      refine k_add hC dX6_undo_45 ?_
      refine m_ld hC hK hw 22 (by decide) (by decide) (by decide) (by simp only [mLen]; omega) (by omega) (v := (G 22 (57 * (am - 1) + i))) (rfl) dX6_undo_46 ?_
      refine m_st hC hK hw 6 (by decide) (by decide) (by decide) (by simp only [mLen]; omega) (by omega) dX6_undo_47 (fun H locs hw => ?_)
      refine k_iinc (k := 1) (d := 1) (lv' := [(1, .int (nI (i + 1))), (0, .ref (ad 0))]) hC dX6_undo_48 hl rfl (by decide) (by decide) rfl (fun ls hl => ?_)
      refine lv_goto (tgt := 22) hC.1 hC.2.1 dX6_undo_51 (by decide) ?_
      exact ih22 ls (i + 1) H locs ⟨hl.sub' [1, 0] (by rfl), hw.eq (by rw [g2_up]; exact congrArg (va_up _ 6) (cp_step (fun j => G 22 (57 * (am - 1) + j)) (G 6) i)), by omega⟩ (by omega)
  · refine lv_ldc hC.1 hC.2.1 hC.2.2.2.1 (hC.2.2.2.2 _ q1294) dX6_undo_7 ?_
    exact m_iret hC hlk hr hw rfl (by unfold mX6_undo; simp only [eam, ix_nI (show am < 2147483648 by omega)]; rw [if_neg (not_not_intro c4)]; exact ⟨by (dsimp only; try rfl), by (dsimp only; try rfl)⟩) dX6_undo_9

noncomputable def mX6_cell (G : mG) (cell : Int32) (what : Int32) : Int32 × mG := if ¬ (G 0 4) = 0 then if (inB cell 0 (nI 15)) = false then ((-1000001 : Int32), G) else if (inB what 0 (nI 3)) = true then if ¬ what = 0 then if (isWk (G 6) (ix cell)) = true then if ¬ what = (nI 1) then if ¬ what = (nI 2) then ((G 6 (41 + (ix cell))), G) else ((G 6 (25 + (ix cell))), G) else ((G 6 (9 + (ix cell))), G) else ((-1000000 : Int32), G) else (((bl (G 6)).1 (ix cell)), blowG G) else ((-1000001 : Int32), G) else ((-1000002 : Int32), G)
set_option maxHeartbeats 4000000 in
theorem tX6_cell (l : Launch) (G : mG) (cell : Int32) (what : Int32) : mI l yX6_cell cX6_cell 3 .int ({ frames := 5, cells := 0, slots := 0, locals := 117 } : Room) [.int cell, .int what] G (fun r G' => r = ((mX6_cell G cell what).1) ∧ G' = (mX6_cell G cell what).2) := by
  refine mI.of (by decide) rfl (fun _ => Nat.le_of_ble_eq_true rfl) ?_
  intro D dA ad p e s m below meth cd ls hC hlk hr hK hl hw
  have hl : lv_has ls 3 [(0, .ref (ad 0)), (1, .int cell), (2, .int what)] := hl
  refine lv_aload_n hC.1 hC.2.1 dX6_cell_0 rfl (lv_at hl 0 rfl) ?_
  refine m_gi hC hK hw 4 (by decide) rfl q1120 rfl (v := (G 0 4)) (rfl) dX6_cell_1 ?_
  refine lv_if_ne (tgt := 10) hC.1 hC.2.1 dX6_cell_4 (by decide) (fun c4 => ?_) (fun c4 => ?_)
  · refine lv_iload_n hC.1 hC.2.1 dX6_cell_10 rfl (lv_at hl 1 rfl) ?_
    refine pS_call (n := 1) hC hl.1 (tX6_isCell l cell ) (lw_S q1295 q1296 q66 q1297) rfl rfl (by decide +kernel) ⟨by decide, by decide⟩ rfl rfl (Nat.le_of_ble_eq_true rfl) dX6_cell_11 ⟨Nat.zero_le _, Nat.zero_le _⟩ ?_
    refine k_beq (tgt := 29) hC dX6_cell_14 (by decide) (fun c14 => ?_) (fun c14 => ?_)
    · refine lv_ldc hC.1 hC.2.1 hC.2.2.2.1 (hC.2.2.2.2 _ q1214) dX6_cell_29 ?_
      exact m_iret hC hlk hr hw rfl (by unfold mX6_cell; rw [if_pos c4]; rw [if_pos c14]; exact ⟨by (dsimp only; try rfl), by (dsimp only; try rfl)⟩) dX6_cell_31
    · refine lv_iload_n hC.1 hC.2.1 dX6_cell_17 rfl (lv_at hl 2 rfl) ?_
      refine lv_i2l hC.1 hC.2.1 dX6_cell_18 rfl ?_
      refine lv_lconst (v := 0) hC.1 hC.2.1 dX6_cell_19 (by decide) ?_
      refine lv_ldc2 hC.1 hC.2.1 hC.2.2.2.1 (hC.2.2.2.2 _ q1332) dX6_cell_20 ?_
      refine pS_call (n := 3) hC hl.1 (tX6_inI l what 0 (nI 3)) (lw_S q1210 q1211 q66 q1212) rfl rfl (by decide +kernel) ⟨by decide, by decide⟩ rfl rfl (Nat.le_of_ble_eq_true rfl) dX6_cell_23 ⟨Nat.zero_le _, Nat.zero_le _⟩ ?_
      refine k_bne (tgt := 32) hC dX6_cell_26 (by decide) (fun c26 => ?_) (fun c26 => ?_)
      · obtain ⟨q, hq, rfl⟩ := inB_nat (n := 15) (by decide) c14
        refine lv_iload_n hC.1 hC.2.1 dX6_cell_32 rfl (lv_at hl 2 rfl) ?_
        refine lv_if_ne (tgt := 42) hC.1 hC.2.1 dX6_cell_33 (by decide) (fun c33 => ?_) (fun c33 => ?_)
        · refine lv_aload_n hC.1 hC.2.1 dX6_cell_42 rfl (lv_at hl 0 rfl) ?_
          refine lv_iload_n hC.1 hC.2.1 dX6_cell_43 rfl (lv_at hl 1 rfl) ?_
          refine m_calli (n := 1) hC hl.1 hK hw (tX6_isWork l G q (by omega)) (lw_V q1301 q1303 qs38 q66 q1304) rfl rfl (by decide +kernel) ⟨by decide, by decide⟩ rfl rfl (Nat.le_of_ble_eq_true rfl) dX6_cell_44 ⟨Nat.zero_le _, Nat.zero_le _⟩ ?_
          rintro r2 G2 H locs ⟨hr2, hG2⟩ hw
          replace hw := hw.eq hG2
          rw [hr2]
          clear hr2 hG2
          refine k_bne (tgt := 55) hC dX6_cell_47 (by decide) (fun c47 => ?_) (fun c47 => ?_)
          · refine lv_aload_n hC.1 hC.2.1 dX6_cell_55 rfl (lv_at hl 0 rfl) ?_
            refine m_ga hC hK hw 5 (by decide) rfl q1121 rfl dX6_cell_56 ?_
            refine lv_iload_n hC.1 hC.2.1 dX6_cell_59 rfl (lv_at hl 2 rfl) ?_
            refine lv_iconst (v := (nI 1)) hC.1 hC.2.1 dX6_cell_60 (by decide) ?_
            refine lv_icmp_ne (tgt := 69) hC.1 hC.2.1 dX6_cell_61 (by decide) (fun c61 => ?_) (fun c61 => ?_)
            · refine lv_iload_n hC.1 hC.2.1 dX6_cell_69 rfl (lv_at hl 2 rfl) ?_
              refine lv_iconst (v := (nI 2)) hC.1 hC.2.1 dX6_cell_70 (by decide) ?_
              refine lv_icmp_ne (tgt := 79) hC.1 hC.2.1 dX6_cell_71 (by decide) (fun c71 => ?_) (fun c71 => ?_)
              · refine lv_bipush (v := (nI 41)) hC.1 hC.2.1 dX6_cell_79 (by decide) ?_
                refine lv_iload_n hC.1 hC.2.1 dX6_cell_81 rfl (lv_at hl 1 rfl) ?_
                refine k_add hC dX6_cell_82 ?_
                refine m_ld hC hK hw 6 (by decide) (by decide) (by decide) (by simp only [mLen]; omega) (by omega) (v := (G 6 (41 + q))) (rfl) dX6_cell_83 ?_
                exact m_iret hC hlk hr hw rfl (by unfold mX6_cell; simp only [ix_nI (show q < 2147483648 by omega)]; rw [if_pos c4]; rw [if_neg (b_nf c14)]; rw [if_pos c26]; rw [if_pos c33]; rw [if_pos c47]; rw [if_pos c61]; rw [if_pos c71]; exact ⟨by (dsimp only; try rfl), by (dsimp only; try rfl)⟩) dX6_cell_84
              · refine lv_bipush (v := (nI 25)) hC.1 hC.2.1 dX6_cell_74 (by decide) ?_
                refine lv_goto (tgt := 81) hC.1 hC.2.1 dX6_cell_76 (by decide) ?_
                refine lv_iload_n hC.1 hC.2.1 dX6_cell_81 rfl (lv_at hl 1 rfl) ?_
                refine k_add hC dX6_cell_82 ?_
                refine m_ld hC hK hw 6 (by decide) (by decide) (by decide) (by simp only [mLen]; omega) (by omega) (v := (G 6 (25 + q))) (rfl) dX6_cell_83 ?_
                exact m_iret hC hlk hr hw rfl (by unfold mX6_cell; simp only [ix_nI (show q < 2147483648 by omega)]; rw [if_pos c4]; rw [if_neg (b_nf c14)]; rw [if_pos c26]; rw [if_pos c33]; rw [if_pos c47]; rw [if_pos c61]; rw [if_neg (not_not_intro c71)]; exact ⟨by (dsimp only; try rfl), by (dsimp only; try rfl)⟩) dX6_cell_84
            · refine lv_bipush (v := (nI 9)) hC.1 hC.2.1 dX6_cell_64 (by decide) ?_
              refine lv_goto (tgt := 81) hC.1 hC.2.1 dX6_cell_66 (by decide) ?_
              refine lv_iload_n hC.1 hC.2.1 dX6_cell_81 rfl (lv_at hl 1 rfl) ?_
              refine k_add hC dX6_cell_82 ?_
              refine m_ld hC hK hw 6 (by decide) (by decide) (by decide) (by simp only [mLen]; omega) (by omega) (v := (G 6 (9 + q))) (rfl) dX6_cell_83 ?_
              exact m_iret hC hlk hr hw rfl (by unfold mX6_cell; simp only [ix_nI (show q < 2147483648 by omega)]; rw [if_pos c4]; rw [if_neg (b_nf c14)]; rw [if_pos c26]; rw [if_pos c33]; rw [if_pos c47]; rw [if_neg (not_not_intro c61)]; exact ⟨by (dsimp only; try rfl), by (dsimp only; try rfl)⟩) dX6_cell_84
          · refine lv_ldc hC.1 hC.2.1 hC.2.2.2.1 (hC.2.2.2.2 _ q1363) dX6_cell_50 ?_
            refine lv_goto (tgt := 84) hC.1 hC.2.1 dX6_cell_52 (by decide) ?_
            exact m_iret hC hlk hr hw rfl (by unfold mX6_cell; simp only [ix_nI (show q < 2147483648 by omega)]; rw [if_pos c4]; rw [if_neg (b_nf c14)]; rw [if_pos c26]; rw [if_pos c33]; rw [if_neg (b_nt c47)]; exact ⟨by (dsimp only; try rfl), by (dsimp only; try rfl)⟩) dX6_cell_84
        · refine lv_aload_n hC.1 hC.2.1 dX6_cell_36 rfl (lv_at hl 0 rfl) ?_
          refine lv_iload_n hC.1 hC.2.1 dX6_cell_37 rfl (lv_at hl 1 rfl) ?_
          refine m_calli (n := 1) hC hl.1 hK hw (tX6_feltNow l G q (by omega)) (lw_V q1359 q1361 qs45 q66 q1362) rfl rfl (by decide +kernel) ⟨by decide, by decide⟩ rfl rfl (Nat.le_of_ble_eq_true rfl) dX6_cell_38 ⟨Nat.zero_le _, Nat.zero_le _⟩ ?_
          rintro r2 G2 H locs ⟨hr2, hG2⟩ hw
          replace hw := hw.eq hG2
          rw [hr2]
          clear hr2 hG2
          exact m_iret hC hlk hr hw rfl (by unfold mX6_cell; simp only [ix_nI (show q < 2147483648 by omega)]; rw [if_pos c4]; rw [if_neg (b_nf c14)]; rw [if_pos c26]; rw [if_neg (not_not_intro c33)]; exact ⟨by (dsimp only; try rfl), by (dsimp only; try rfl)⟩) dX6_cell_41
      · refine lv_ldc hC.1 hC.2.1 hC.2.2.2.1 (hC.2.2.2.2 _ q1214) dX6_cell_29 ?_
        exact m_iret hC hlk hr hw rfl (by unfold mX6_cell; rw [if_pos c4]; rw [if_neg (b_nf c14)]; rw [if_neg (b_nt c26)]; exact ⟨by (dsimp only; try rfl), by (dsimp only; try rfl)⟩) dX6_cell_31
  · refine lv_ldc hC.1 hC.2.1 hC.2.2.2.1 (hC.2.2.2.2 _ q1294) dX6_cell_7 ?_
    exact m_iret hC hlk hr hw rfl (by unfold mX6_cell; rw [if_neg (not_not_intro c4)]; exact ⟨by (dsimp only; try rfl), by (dsimp only; try rfl)⟩) dX6_cell_9

noncomputable def mX6_wind (G : mG) (y : Int32) (what : Int32) : Int32 × mG := if ¬ (G 0 4) = 0 then if (inB y 0 (nI 3)) = false then ((-1000001 : Int32), G) else if (inB what 0 (nI 1)) = true then if ¬ what = 0 then ((G 6 (5 + (ix y))), G) else ((G 6 (1 + (ix y))), G) else ((-1000001 : Int32), G) else ((-1000002 : Int32), G)
set_option maxHeartbeats 4000000 in
theorem tX6_wind (l : Launch) (G : mG) (y : Int32) (what : Int32) : mI l yX6_wind cX6_wind 3 .int ({ frames := 2, cells := 0, slots := 0, locals := 45 } : Room) [.int y, .int what] G (fun r G' => r = ((mX6_wind G y what).1) ∧ G' = (mX6_wind G y what).2) := by
  refine mI.of (by decide) rfl (fun _ => Nat.le_of_ble_eq_true rfl) ?_
  intro D dA ad p e s m below meth cd ls hC hlk hr hK hl hw
  have hl : lv_has ls 3 [(0, .ref (ad 0)), (1, .int y), (2, .int what)] := hl
  refine lv_aload_n hC.1 hC.2.1 dX6_wind_0 rfl (lv_at hl 0 rfl) ?_
  refine m_gi hC hK hw 4 (by decide) rfl q1120 rfl (v := (G 0 4)) (rfl) dX6_wind_1 ?_
  refine lv_if_ne (tgt := 10) hC.1 hC.2.1 dX6_wind_4 (by decide) (fun c4 => ?_) (fun c4 => ?_)
  · refine lv_iload_n hC.1 hC.2.1 dX6_wind_10 rfl (lv_at hl 1 rfl) ?_
    refine pS_call (n := 1) hC hl.1 (tX6_isRowOfPass l y ) (lw_S q1329 q1330 q66 q1331) rfl rfl (by decide +kernel) ⟨by decide, by decide⟩ rfl rfl (Nat.le_of_ble_eq_true rfl) dX6_wind_11 ⟨Nat.zero_le _, Nat.zero_le _⟩ ?_
    refine k_beq (tgt := 27) hC dX6_wind_14 (by decide) (fun c14 => ?_) (fun c14 => ?_)
    · refine lv_ldc hC.1 hC.2.1 hC.2.2.2.1 (hC.2.2.2.2 _ q1214) dX6_wind_27 ?_
      exact m_iret hC hlk hr hw rfl (by unfold mX6_wind; rw [if_pos c4]; rw [if_pos c14]; exact ⟨by (dsimp only; try rfl), by (dsimp only; try rfl)⟩) dX6_wind_29
    · refine lv_iload_n hC.1 hC.2.1 dX6_wind_17 rfl (lv_at hl 2 rfl) ?_
      refine lv_i2l hC.1 hC.2.1 dX6_wind_18 rfl ?_
      refine lv_lconst (v := 0) hC.1 hC.2.1 dX6_wind_19 (by decide) ?_
      refine lv_lconst (v := 1) hC.1 hC.2.1 dX6_wind_20 (by decide) ?_
      refine pS_call (n := 3) hC hl.1 (tX6_inI l what 0 (nI 1)) (lw_S q1210 q1211 q66 q1212) rfl rfl (by decide +kernel) ⟨by decide, by decide⟩ rfl rfl (Nat.le_of_ble_eq_true rfl) dX6_wind_21 ⟨Nat.zero_le _, Nat.zero_le _⟩ ?_
      refine k_bne (tgt := 30) hC dX6_wind_24 (by decide) (fun c24 => ?_) (fun c24 => ?_)
      · obtain ⟨q, hq, rfl⟩ := inB_nat (n := 3) (by decide) c14
        refine lv_iload_n hC.1 hC.2.1 dX6_wind_30 rfl (lv_at hl 2 rfl) ?_
        refine lv_if_ne (tgt := 45) hC.1 hC.2.1 dX6_wind_31 (by decide) (fun c31 => ?_) (fun c31 => ?_)
        · refine lv_aload_n hC.1 hC.2.1 dX6_wind_45 rfl (lv_at hl 0 rfl) ?_
          refine m_ga hC hK hw 5 (by decide) rfl q1121 rfl dX6_wind_46 ?_
          refine lv_iconst (v := (nI 5)) hC.1 hC.2.1 dX6_wind_49 (by decide) ?_
          refine lv_iload_n hC.1 hC.2.1 dX6_wind_50 rfl (lv_at hl 1 rfl) ?_
          refine k_add hC dX6_wind_51 ?_
          refine m_ld hC hK hw 6 (by decide) (by decide) (by decide) (by simp only [mLen]; omega) (by omega) (v := (G 6 (5 + q))) (rfl) dX6_wind_52 ?_
          exact m_iret hC hlk hr hw rfl (by unfold mX6_wind; simp only [ix_nI (show q < 2147483648 by omega)]; rw [if_pos c4]; rw [if_neg (b_nf c14)]; rw [if_pos c24]; rw [if_pos c31]; exact ⟨by (dsimp only; try rfl), by (dsimp only; try rfl)⟩) dX6_wind_53
        · refine lv_aload_n hC.1 hC.2.1 dX6_wind_34 rfl (lv_at hl 0 rfl) ?_
          refine m_ga hC hK hw 5 (by decide) rfl q1121 rfl dX6_wind_35 ?_
          refine lv_iconst (v := (nI 1)) hC.1 hC.2.1 dX6_wind_38 (by decide) ?_
          refine lv_iload_n hC.1 hC.2.1 dX6_wind_39 rfl (lv_at hl 1 rfl) ?_
          refine k_add hC dX6_wind_40 ?_
          refine m_ld hC hK hw 6 (by decide) (by decide) (by decide) (by simp only [mLen]; omega) (by omega) (v := (G 6 (1 + q))) (rfl) dX6_wind_41 ?_
          refine lv_goto (tgt := 53) hC.1 hC.2.1 dX6_wind_42 (by decide) ?_
          exact m_iret hC hlk hr hw rfl (by unfold mX6_wind; simp only [ix_nI (show q < 2147483648 by omega)]; rw [if_pos c4]; rw [if_neg (b_nf c14)]; rw [if_pos c24]; rw [if_neg (not_not_intro c31)]; exact ⟨by (dsimp only; try rfl), by (dsimp only; try rfl)⟩) dX6_wind_53
      · refine lv_ldc hC.1 hC.2.1 hC.2.2.2.1 (hC.2.2.2.2 _ q1214) dX6_wind_27 ?_
        exact m_iret hC hlk hr hw rfl (by unfold mX6_wind; rw [if_pos c4]; rw [if_neg (b_nf c14)]; rw [if_neg (b_nt c24)]; exact ⟨by (dsimp only; try rfl), by (dsimp only; try rfl)⟩) dX6_wind_29
  · refine lv_ldc hC.1 hC.2.1 hC.2.2.2.1 (hC.2.2.2.2 _ q1294) dX6_wind_7 ?_
    exact m_iret hC hlk hr hw rfl (by unfold mX6_wind; rw [if_neg (not_not_intro c4)]; exact ⟨by (dsimp only; try rfl), by (dsimp only; try rfl)⟩) dX6_wind_9

noncomputable def mX6_felt (G : mG) (cell : Int32) (d : Int32) : Int32 × mG := if ¬ (G 0 4) = 0 then if (inB cell 0 (nI 15)) = false then ((-1000001 : Int32), G) else if (inB d 0 (nI 40)) = true then (((blowInG G (ix d)) 19 (ix cell)), blowInG G (ix d)) else ((-1000001 : Int32), G) else ((-1000002 : Int32), G)
set_option maxHeartbeats 4000000 in
theorem tX6_felt (l : Launch) (G : mG) (cell : Int32) (d : Int32) : mI l yX6_felt cX6_felt 3 .int ({ frames := 6, cells := 0, slots := 0, locals := 139 } : Room) [.int cell, .int d] G (fun r G' => r = ((mX6_felt G cell d).1) ∧ G' = (mX6_felt G cell d).2) := by
  refine mI.of (by decide) rfl (fun _ => Nat.le_of_ble_eq_true rfl) ?_
  intro D dA ad p e s m below meth cd ls hC hlk hr hK hl hw
  have hl : lv_has ls 3 [(0, .ref (ad 0)), (1, .int cell), (2, .int d)] := hl
  refine lv_aload_n hC.1 hC.2.1 dX6_felt_0 rfl (lv_at hl 0 rfl) ?_
  refine m_gi hC hK hw 4 (by decide) rfl q1120 rfl (v := (G 0 4)) (rfl) dX6_felt_1 ?_
  refine lv_if_ne (tgt := 10) hC.1 hC.2.1 dX6_felt_4 (by decide) (fun c4 => ?_) (fun c4 => ?_)
  · refine lv_iload_n hC.1 hC.2.1 dX6_felt_10 rfl (lv_at hl 1 rfl) ?_
    refine pS_call (n := 1) hC hl.1 (tX6_isCell l cell ) (lw_S q1295 q1296 q66 q1297) rfl rfl (by decide +kernel) ⟨by decide, by decide⟩ rfl rfl (Nat.le_of_ble_eq_true rfl) dX6_felt_11 ⟨Nat.zero_le _, Nat.zero_le _⟩ ?_
    refine k_beq (tgt := 29) hC dX6_felt_14 (by decide) (fun c14 => ?_) (fun c14 => ?_)
    · refine lv_ldc hC.1 hC.2.1 hC.2.2.2.1 (hC.2.2.2.2 _ q1214) dX6_felt_29 ?_
      exact m_iret hC hlk hr hw rfl (by unfold mX6_felt; rw [if_pos c4]; rw [if_pos c14]; exact ⟨by (dsimp only; try rfl), by (dsimp only; try rfl)⟩) dX6_felt_31
    · refine lv_iload_n hC.1 hC.2.1 dX6_felt_17 rfl (lv_at hl 2 rfl) ?_
      refine lv_i2l hC.1 hC.2.1 dX6_felt_18 rfl ?_
      refine lv_lconst (v := 0) hC.1 hC.2.1 dX6_felt_19 (by decide) ?_
      refine lv_ldc2 hC.1 hC.2.1 hC.2.2.2.1 (hC.2.2.2.2 _ q1372) dX6_felt_20 ?_
      refine pS_call (n := 3) hC hl.1 (tX6_inI l d 0 (nI 40)) (lw_S q1210 q1211 q66 q1212) rfl rfl (by decide +kernel) ⟨by decide, by decide⟩ rfl rfl (Nat.le_of_ble_eq_true rfl) dX6_felt_23 ⟨Nat.zero_le _, Nat.zero_le _⟩ ?_
      refine k_bne (tgt := 32) hC dX6_felt_26 (by decide) (fun c26 => ?_) (fun c26 => ?_)
      · obtain ⟨q, hq, rfl⟩ := inB_nat (n := 15) (by decide) c14
        obtain ⟨t, ht, rfl⟩ := inB_nat (n := 40) (by decide) c26
        refine lv_aload_n hC.1 hC.2.1 dX6_felt_32 rfl (lv_at hl 0 rfl) ?_
        refine lv_iload_n hC.1 hC.2.1 dX6_felt_33 rfl (lv_at hl 2 rfl) ?_
        refine m_callv (n := 1) hC hl.1 hK hw (tX6_blowIn l G t (by omega)) (lw_V q1373 q1375 qs46 q66 q1376) rfl rfl (by decide +kernel) ⟨by decide, by decide⟩ rfl rfl (Nat.le_of_ble_eq_true rfl) dX6_felt_34 ⟨Nat.zero_le _, Nat.zero_le _⟩ ?_
        rintro G2 H locs hG2 hw
        replace hw := hw.eq hG2
        clear hG2
        refine lv_aload_n hC.1 hC.2.1 dX6_felt_37 rfl (lv_at hl 0 rfl) ?_
        refine m_ga hC hK hw 18 (by decide) rfl q1134 rfl dX6_felt_38 ?_
        refine lv_iload_n hC.1 hC.2.1 dX6_felt_41 rfl (lv_at hl 1 rfl) ?_
        refine m_ld hC hK hw 19 (by decide) (by decide) (by decide) (by simp only [mLen]; omega) (by omega) (v := ((blowInG G t) 19 q)) (rfl) dX6_felt_42 ?_
        exact m_iret hC hlk hr hw rfl (by unfold mX6_felt; simp only [ix_nI (show q < 2147483648 by omega), ix_nI (show t < 2147483648 by omega)]; rw [if_pos c4]; rw [if_neg (b_nf c14)]; rw [if_pos c26]; exact ⟨by (dsimp only; try rfl), by (dsimp only; try rfl)⟩) dX6_felt_43
      · refine lv_ldc hC.1 hC.2.1 hC.2.2.2.1 (hC.2.2.2.2 _ q1214) dX6_felt_29 ?_
        exact m_iret hC hlk hr hw rfl (by unfold mX6_felt; rw [if_pos c4]; rw [if_neg (b_nf c14)]; rw [if_neg (b_nt c26)]; exact ⟨by (dsimp only; try rfl), by (dsimp only; try rfl)⟩) dX6_felt_31
  · refine lv_ldc hC.1 hC.2.1 hC.2.2.2.1 (hC.2.2.2.2 _ q1294) dX6_felt_7 ?_
    exact m_iret hC hlk hr hw rfl (by unfold mX6_felt; rw [if_neg (not_not_intro c4)]; exact ⟨by (dsimp only; try rfl), by (dsimp only; try rfl)⟩) dX6_felt_9

noncomputable def mX6_lost (G : mG) (d : Int32) : Int32 × mG := if ¬ (G 0 4) = 0 then if (inB d 0 (nI 40)) = true then (((blowInG G (ix d)) 0 19), blowInG G (ix d)) else ((-1000001 : Int32), G) else ((-1000002 : Int32), G)
set_option maxHeartbeats 4000000 in
theorem tX6_lost (l : Launch) (G : mG) (d : Int32) : mI l yX6_lost cX6_lost 2 .int ({ frames := 6, cells := 0, slots := 0, locals := 139 } : Room) [.int d] G (fun r G' => r = ((mX6_lost G d).1) ∧ G' = (mX6_lost G d).2) := by
  refine mI.of (by decide) rfl (fun _ => Nat.le_of_ble_eq_true rfl) ?_
  intro D dA ad p e s m below meth cd ls hC hlk hr hK hl hw
  have hl : lv_has ls 2 [(0, .ref (ad 0)), (1, .int d)] := hl
  refine lv_aload_n hC.1 hC.2.1 dX6_lost_0 rfl (lv_at hl 0 rfl) ?_
  refine m_gi hC hK hw 4 (by decide) rfl q1120 rfl (v := (G 0 4)) (rfl) dX6_lost_1 ?_
  refine lv_if_ne (tgt := 10) hC.1 hC.2.1 dX6_lost_4 (by decide) (fun c4 => ?_) (fun c4 => ?_)
  · refine lv_iload_n hC.1 hC.2.1 dX6_lost_10 rfl (lv_at hl 1 rfl) ?_
    refine lv_i2l hC.1 hC.2.1 dX6_lost_11 rfl ?_
    refine lv_lconst (v := 0) hC.1 hC.2.1 dX6_lost_12 (by decide) ?_
    refine lv_ldc2 hC.1 hC.2.1 hC.2.2.2.1 (hC.2.2.2.2 _ q1372) dX6_lost_13 ?_
    refine pS_call (n := 3) hC hl.1 (tX6_inI l d 0 (nI 40)) (lw_S q1210 q1211 q66 q1212) rfl rfl (by decide +kernel) ⟨by decide, by decide⟩ rfl rfl (Nat.le_of_ble_eq_true rfl) dX6_lost_16 ⟨Nat.zero_le _, Nat.zero_le _⟩ ?_
    refine k_bne (tgt := 25) hC dX6_lost_19 (by decide) (fun c19 => ?_) (fun c19 => ?_)
    · obtain ⟨t, ht, rfl⟩ := inB_nat (n := 40) (by decide) c19
      refine lv_aload_n hC.1 hC.2.1 dX6_lost_25 rfl (lv_at hl 0 rfl) ?_
      refine lv_iload_n hC.1 hC.2.1 dX6_lost_26 rfl (lv_at hl 1 rfl) ?_
      refine m_callv (n := 1) hC hl.1 hK hw (tX6_blowIn l G t (by omega)) (lw_V q1373 q1375 qs46 q66 q1376) rfl rfl (by decide +kernel) ⟨by decide, by decide⟩ rfl rfl (Nat.le_of_ble_eq_true rfl) dX6_lost_27 ⟨Nat.zero_le _, Nat.zero_le _⟩ ?_
      rintro G2 H locs hG2 hw
      replace hw := hw.eq hG2
      clear hG2
      refine lv_aload_n hC.1 hC.2.1 dX6_lost_30 rfl (lv_at hl 0 rfl) ?_
      refine m_gi hC hK hw 19 (by decide) rfl q1135 rfl (v := ((blowInG G t) 0 19)) (rfl) dX6_lost_31 ?_
      exact m_iret hC hlk hr hw rfl (by unfold mX6_lost; simp only [ix_nI (show t < 2147483648 by omega)]; rw [if_pos c4]; rw [if_pos c19]; exact ⟨by (dsimp only; try rfl), by (dsimp only; try rfl)⟩) dX6_lost_34
    · refine lv_ldc hC.1 hC.2.1 hC.2.2.2.1 (hC.2.2.2.2 _ q1214) dX6_lost_22 ?_
      exact m_iret hC hlk hr hw rfl (by unfold mX6_lost; rw [if_pos c4]; rw [if_neg (b_nt c19)]; exact ⟨by (dsimp only; try rfl), by (dsimp only; try rfl)⟩) dX6_lost_24
  · refine lv_ldc hC.1 hC.2.1 hC.2.2.2.1 (hC.2.2.2.2 _ q1294) dX6_lost_7 ?_
    exact m_iret hC hlk hr hw rfl (by unfold mX6_lost; rw [if_neg (not_not_intro c4)]; exact ⟨by (dsimp only; try rfl), by (dsimp only; try rfl)⟩) dX6_lost_9

noncomputable def mX6_leaves (G : mG) (y : Int32) (d : Int32) : Int32 × mG := if ¬ (G 0 4) = 0 then if (inB y 0 (nI 3)) = false then ((-1000001 : Int32), G) else if (inB d 0 (nI 40)) = true then (((blowInG G (ix d)) 19 (16 + (ix y))), blowInG G (ix d)) else ((-1000001 : Int32), G) else ((-1000002 : Int32), G)
set_option maxHeartbeats 4000000 in
theorem tX6_leaves (l : Launch) (G : mG) (y : Int32) (d : Int32) : mI l yX6_leaves cX6_leaves 3 .int ({ frames := 6, cells := 0, slots := 0, locals := 139 } : Room) [.int y, .int d] G (fun r G' => r = ((mX6_leaves G y d).1) ∧ G' = (mX6_leaves G y d).2) := by
  refine mI.of (by decide) rfl (fun _ => Nat.le_of_ble_eq_true rfl) ?_
  intro D dA ad p e s m below meth cd ls hC hlk hr hK hl hw
  have hl : lv_has ls 3 [(0, .ref (ad 0)), (1, .int y), (2, .int d)] := hl
  refine lv_aload_n hC.1 hC.2.1 dX6_leaves_0 rfl (lv_at hl 0 rfl) ?_
  refine m_gi hC hK hw 4 (by decide) rfl q1120 rfl (v := (G 0 4)) (rfl) dX6_leaves_1 ?_
  refine lv_if_ne (tgt := 10) hC.1 hC.2.1 dX6_leaves_4 (by decide) (fun c4 => ?_) (fun c4 => ?_)
  · refine lv_iload_n hC.1 hC.2.1 dX6_leaves_10 rfl (lv_at hl 1 rfl) ?_
    refine pS_call (n := 1) hC hl.1 (tX6_isRowOfPass l y ) (lw_S q1329 q1330 q66 q1331) rfl rfl (by decide +kernel) ⟨by decide, by decide⟩ rfl rfl (Nat.le_of_ble_eq_true rfl) dX6_leaves_11 ⟨Nat.zero_le _, Nat.zero_le _⟩ ?_
    refine k_beq (tgt := 29) hC dX6_leaves_14 (by decide) (fun c14 => ?_) (fun c14 => ?_)
    · refine lv_ldc hC.1 hC.2.1 hC.2.2.2.1 (hC.2.2.2.2 _ q1214) dX6_leaves_29 ?_
      exact m_iret hC hlk hr hw rfl (by unfold mX6_leaves; rw [if_pos c4]; rw [if_pos c14]; exact ⟨by (dsimp only; try rfl), by (dsimp only; try rfl)⟩) dX6_leaves_31
    · refine lv_iload_n hC.1 hC.2.1 dX6_leaves_17 rfl (lv_at hl 2 rfl) ?_
      refine lv_i2l hC.1 hC.2.1 dX6_leaves_18 rfl ?_
      refine lv_lconst (v := 0) hC.1 hC.2.1 dX6_leaves_19 (by decide) ?_
      refine lv_ldc2 hC.1 hC.2.1 hC.2.2.2.1 (hC.2.2.2.2 _ q1372) dX6_leaves_20 ?_
      refine pS_call (n := 3) hC hl.1 (tX6_inI l d 0 (nI 40)) (lw_S q1210 q1211 q66 q1212) rfl rfl (by decide +kernel) ⟨by decide, by decide⟩ rfl rfl (Nat.le_of_ble_eq_true rfl) dX6_leaves_23 ⟨Nat.zero_le _, Nat.zero_le _⟩ ?_
      refine k_bne (tgt := 32) hC dX6_leaves_26 (by decide) (fun c26 => ?_) (fun c26 => ?_)
      · obtain ⟨q, hq, rfl⟩ := inB_nat (n := 3) (by decide) c14
        obtain ⟨t, ht, rfl⟩ := inB_nat (n := 40) (by decide) c26
        refine lv_aload_n hC.1 hC.2.1 dX6_leaves_32 rfl (lv_at hl 0 rfl) ?_
        refine lv_iload_n hC.1 hC.2.1 dX6_leaves_33 rfl (lv_at hl 2 rfl) ?_
        refine m_callv (n := 1) hC hl.1 hK hw (tX6_blowIn l G t (by omega)) (lw_V q1373 q1375 qs46 q66 q1376) rfl rfl (by decide +kernel) ⟨by decide, by decide⟩ rfl rfl (Nat.le_of_ble_eq_true rfl) dX6_leaves_34 ⟨Nat.zero_le _, Nat.zero_le _⟩ ?_
        rintro G2 H locs hG2 hw
        replace hw := hw.eq hG2
        clear hG2
        refine lv_aload_n hC.1 hC.2.1 dX6_leaves_37 rfl (lv_at hl 0 rfl) ?_
        refine m_ga hC hK hw 18 (by decide) rfl q1134 rfl dX6_leaves_38 ?_
        refine lv_bipush (v := (nI 16)) hC.1 hC.2.1 dX6_leaves_41 (by decide) ?_
        refine lv_iload_n hC.1 hC.2.1 dX6_leaves_43 rfl (lv_at hl 1 rfl) ?_
        refine k_add hC dX6_leaves_44 ?_
        refine m_ld hC hK hw 19 (by decide) (by decide) (by decide) (by simp only [mLen]; omega) (by omega) (v := ((blowInG G t) 19 (16 + q))) (rfl) dX6_leaves_45 ?_
        exact m_iret hC hlk hr hw rfl (by unfold mX6_leaves; simp only [ix_nI (show q < 2147483648 by omega), ix_nI (show t < 2147483648 by omega)]; rw [if_pos c4]; rw [if_neg (b_nf c14)]; rw [if_pos c26]; exact ⟨by (dsimp only; try rfl), by (dsimp only; try rfl)⟩) dX6_leaves_46
      · refine lv_ldc hC.1 hC.2.1 hC.2.2.2.1 (hC.2.2.2.2 _ q1214) dX6_leaves_29 ?_
        exact m_iret hC hlk hr hw rfl (by unfold mX6_leaves; rw [if_pos c4]; rw [if_neg (b_nf c14)]; rw [if_neg (b_nt c26)]; exact ⟨by (dsimp only; try rfl), by (dsimp only; try rfl)⟩) dX6_leaves_31
  · refine lv_ldc hC.1 hC.2.1 hC.2.2.2.1 (hC.2.2.2.2 _ q1294) dX6_leaves_7 ?_
    exact m_iret hC hlk hr hw rfl (by unfold mX6_leaves; rw [if_neg (not_not_intro c4)]; exact ⟨by (dsimp only; try rfl), by (dsimp only; try rfl)⟩) dX6_leaves_9

noncomputable def mX6_image (G : mG) (k : Int32) : Int32 × mG := if (inB k 0 (nI 1)) = true then if ¬ (G 0 4) = 0 then ((nI 1), g2 (va_up G 26 (fun j => if 57 * (ix k) ≤ j ∧ j < 57 * (ix k) + 57 then G 6 (j - 57 * (ix k)) else G 26 j)) 25 (ix k) (nI 1)) else ((-1000002 : Int32), G) else ((-1000001 : Int32), G)
set_option maxHeartbeats 4000000 in
theorem tX6_image (l : Launch) (G : mG) (k : Int32) : mI l yX6_image cX6_image 3 .int ({ frames := 1, cells := 0, slots := 0, locals := 25 } : Room) [.int k] G (fun r G' => r = ((mX6_image G k).1) ∧ G' = (mX6_image G k).2) := by
  refine mI.of (by decide) rfl (fun _ => Nat.le_of_ble_eq_true rfl) ?_
  intro D dA ad p e s m below meth cd ls hC hlk hr hK hl hw
  have hl : lv_has ls 3 [(0, .ref (ad 0)), (1, .int k)] := hl
  refine lv_iload_n hC.1 hC.2.1 dX6_image_0 rfl (lv_at hl 1 rfl) ?_
  refine lv_i2l hC.1 hC.2.1 dX6_image_1 rfl ?_
  refine lv_lconst (v := 0) hC.1 hC.2.1 dX6_image_2 (by decide) ?_
  refine lv_lconst (v := 1) hC.1 hC.2.1 dX6_image_3 (by decide) ?_
  refine pS_call (n := 3) hC hl.1 (tX6_inI l k 0 (nI 1)) (lw_S q1210 q1211 q66 q1212) rfl rfl (by decide +kernel) ⟨by decide, by decide⟩ rfl rfl (Nat.le_of_ble_eq_true rfl) dX6_image_4 ⟨Nat.zero_le _, Nat.zero_le _⟩ ?_
  refine k_bne (tgt := 13) hC dX6_image_7 (by decide) (fun c7 => ?_) (fun c7 => ?_)
  · obtain ⟨q, hq, rfl⟩ := inB_nat (n := 1) (by decide) c7
    refine lv_aload_n hC.1 hC.2.1 dX6_image_13 rfl (lv_at hl 0 rfl) ?_
    refine m_gi hC hK hw 4 (by decide) rfl q1120 rfl (v := (G 0 4)) (rfl) dX6_image_14 ?_
    refine lv_if_ne (tgt := 23) hC.1 hC.2.1 dX6_image_17 (by decide) (fun c17 => ?_) (fun c17 => ?_)
    · refine lv_iconst (v := (nI 0)) hC.1 hC.2.1 dX6_image_23 (by decide) ?_
      refine lv_istore_n (lv' := [(2, .int (nI 0)), (0, .ref (ad 0)), (1, .int (nI q))]) hC.1 hC.2.1 dX6_image_24 rfl hl (by decide) rfl (fun ls hl => ?_)
      refine W.loop (fun ls i H locs => lv_has ls 3 [(0, .ref (ad 0)), (1, .int (nI q)), (2, .int (nI i))] ∧ mw D dA (nA mDom ad s.heap.size) s.heap ad (va_up G 26 (fun j => if 57 * q ≤ j ∧ j < 57 * q + i then G 6 (j - 57 * q) else G 26 j)) H locs ∧ (i ≤ 57)) 25 (fun _ => []) (fun i => 57 - i) ?_ 0 ⟨hl.sub' [1, 2, 0] (by rfl), hw.eq (seg_0 _ 26 _ (G 6)), by omega⟩
      rintro ls i H locs ⟨hl, hw, hi⟩ ih25
      refine lv_iload_n hC.1 hC.2.1 dX6_image_25 rfl (lv_at hl 2 rfl) ?_
      refine lv_bipush (v := (nI 57)) hC.1 hC.2.1 dX6_image_26 (by decide) ?_
      refine k_ge (tgt := 54) hC (by omega) (by omega) dX6_image_28 (by decide) (fun c28 => ?_) (fun c28 => ?_)
      · have eN : i = 57 := by omega
        subst eN
        refine lv_aload_n hC.1 hC.2.1 dX6_image_54 rfl (lv_at hl 0 rfl) ?_
        refine m_ga hC hK hw 24 (by decide) rfl q1140 rfl dX6_image_55 ?_
        refine lv_iload_n hC.1 hC.2.1 dX6_image_58 rfl (lv_at hl 1 rfl) ?_
        refine lv_iconst (v := (nI 1)) hC.1 hC.2.1 dX6_image_59 (by decide) ?_
        refine m_stz hC hK hw (by omega) (by decide) dX6_image_60 (fun H locs hw => ?_)
        refine lv_iconst (v := (nI 1)) hC.1 hC.2.1 dX6_image_61 (by decide) ?_
        exact m_iret hC hlk hr hw rfl (by unfold mX6_image; simp only [ix_nI (show q < 2147483648 by omega)]; rw [if_pos c7]; rw [if_pos c17]; exact ⟨by (dsimp only; try rfl), by (dsimp only; try rfl)⟩) dX6_image_62
      · refine lv_aload_n hC.1 hC.2.1 dX6_image_31 rfl (lv_at hl 0 rfl) ?_
        refine m_ga hC hK hw 25 (by decide) rfl q1141 rfl dX6_image_32 ?_
        refine lv_bipush (v := (nI 57)) hC.1 hC.2.1 dX6_image_35 (by decide) ?_
        refine lv_iload_n hC.1 hC.2.1 dX6_image_37 rfl (lv_at hl 1 rfl) ?_
        refine k_mul hC dX6_image_38 ?_
        refine lv_iload_n hC.1 hC.2.1 dX6_image_39 rfl (lv_at hl 2 rfl) ?_
        refine k_add hC dX6_image_40 ?_
        refine lv_aload_n hC.1 hC.2.1 dX6_image_41 rfl (lv_at hl 0 rfl) ?_
        refine m_ga hC hK hw 5 (by decide) rfl q1121 rfl dX6_image_42 ?_
        refine lv_iload_n hC.1 hC.2.1 dX6_image_45 rfl (lv_at hl 2 rfl) ?_
        refine m_ld hC hK hw 6 (by decide) (by decide) (by decide) (by simp only [mLen]; omega) (by omega) (v := (G 6 i)) (rfl) dX6_image_46 ?_
        refine m_st hC hK hw 26 (by decide) (by decide) (by decide) (by simp only [mLen]; omega) (by omega) dX6_image_47 (fun H locs hw => ?_)
        refine k_iinc (k := 2) (d := 1) (lv' := [(2, .int (nI (i + 1))), (0, .ref (ad 0)), (1, .int (nI q))]) hC dX6_image_48 hl rfl (by decide) (by decide) rfl (fun ls hl => ?_)
        refine lv_goto (tgt := 25) hC.1 hC.2.1 dX6_image_51 (by decide) ?_
        exact ih25 ls (i + 1) H locs ⟨hl.sub' [1, 2, 0] (by rfl), hw.eq (by rw [g2_up]; exact congrArg (va_up _ 26) (seg_step (G 6) _ _ _)), by omega⟩ (by omega)
    · refine lv_ldc hC.1 hC.2.1 hC.2.2.2.1 (hC.2.2.2.2 _ q1294) dX6_image_20 ?_
      exact m_iret hC hlk hr hw rfl (by unfold mX6_image; simp only [ix_nI (show q < 2147483648 by omega)]; rw [if_pos c7]; rw [if_neg (not_not_intro c17)]; exact ⟨by (dsimp only; try rfl), by (dsimp only; try rfl)⟩) dX6_image_22
  · refine lv_ldc hC.1 hC.2.1 hC.2.2.2.1 (hC.2.2.2.2 _ q1214) dX6_image_10 ?_
    exact m_iret hC hlk hr hw rfl (by unfold mX6_image; rw [if_neg (b_nt c7)]; exact ⟨by (dsimp only; try rfl), by (dsimp only; try rfl)⟩) dX6_image_12

noncomputable def mX6_restore (G : mG) (k : Int32) : Int32 × mG := if (inB k 0 (nI 1)) = true then if ¬ (G 25 (ix k)) = 0 then ((nI 1), g2 (va_up G 6 (fun j => G 26 (57 * (ix k) + j))) 0 22 (nI 0)) else ((-1000002 : Int32), G) else ((-1000001 : Int32), G)
set_option maxHeartbeats 4000000 in
theorem tX6_restore (l : Launch) (G : mG) (k : Int32) : mI l yX6_restore cX6_restore 3 .int ({ frames := 1, cells := 0, slots := 0, locals := 25 } : Room) [.int k] G (fun r G' => r = ((mX6_restore G k).1) ∧ G' = (mX6_restore G k).2) := by
  refine mI.of (by decide) rfl (fun _ => Nat.le_of_ble_eq_true rfl) ?_
  intro D dA ad p e s m below meth cd ls hC hlk hr hK hl hw
  have hl : lv_has ls 3 [(0, .ref (ad 0)), (1, .int k)] := hl
  refine lv_iload_n hC.1 hC.2.1 dX6_restore_0 rfl (lv_at hl 1 rfl) ?_
  refine lv_i2l hC.1 hC.2.1 dX6_restore_1 rfl ?_
  refine lv_lconst (v := 0) hC.1 hC.2.1 dX6_restore_2 (by decide) ?_
  refine lv_lconst (v := 1) hC.1 hC.2.1 dX6_restore_3 (by decide) ?_
  refine pS_call (n := 3) hC hl.1 (tX6_inI l k 0 (nI 1)) (lw_S q1210 q1211 q66 q1212) rfl rfl (by decide +kernel) ⟨by decide, by decide⟩ rfl rfl (Nat.le_of_ble_eq_true rfl) dX6_restore_4 ⟨Nat.zero_le _, Nat.zero_le _⟩ ?_
  refine k_bne (tgt := 13) hC dX6_restore_7 (by decide) (fun c7 => ?_) (fun c7 => ?_)
  · obtain ⟨q, hq, rfl⟩ := inB_nat (n := 1) (by decide) c7
    refine lv_aload_n hC.1 hC.2.1 dX6_restore_13 rfl (lv_at hl 0 rfl) ?_
    refine m_ga hC hK hw 24 (by decide) rfl q1140 rfl dX6_restore_14 ?_
    refine lv_iload_n hC.1 hC.2.1 dX6_restore_17 rfl (lv_at hl 1 rfl) ?_
    refine m_ldz hC hK hw (by omega) (v := (G 25 q)) (rfl) dX6_restore_18 ?_
    refine lv_if_ne (tgt := 25) hC.1 hC.2.1 dX6_restore_19 (by decide) (fun c19 => ?_) (fun c19 => ?_)
    · refine lv_iconst (v := (nI 0)) hC.1 hC.2.1 dX6_restore_25 (by decide) ?_
      refine lv_istore_n (lv' := [(2, .int (nI 0)), (0, .ref (ad 0)), (1, .int (nI q))]) hC.1 hC.2.1 dX6_restore_26 rfl hl (by decide) rfl (fun ls hl => ?_)
      refine W.loop (fun ls i H locs => lv_has ls 3 [(0, .ref (ad 0)), (1, .int (nI q)), (2, .int (nI i))] ∧ mw D dA (nA mDom ad s.heap.size) s.heap ad (va_up G 6 (fun j => if j < i then G 26 (57 * q + j) else G 6 j)) H locs ∧ (i ≤ 57)) 27 (fun _ => []) (fun i => 57 - i) ?_ 0 ⟨hl.sub' [1, 2, 0] (by rfl), hw.eq (cp_0 _ 6 _), by omega⟩
      rintro ls i H locs ⟨hl, hw, hi⟩ ih27
      refine lv_iload_n hC.1 hC.2.1 dX6_restore_27 rfl (lv_at hl 2 rfl) ?_
      refine lv_bipush (v := (nI 57)) hC.1 hC.2.1 dX6_restore_28 (by decide) ?_
      refine k_ge (tgt := 56) hC (by omega) (by omega) dX6_restore_30 (by decide) (fun c30 => ?_) (fun c30 => ?_)
      · have eN : i = 57 := by omega
        subst eN
        have hw : mw D dA (nA mDom ad s.heap.size) s.heap ad (va_up G 6 (fun j => G 26 (57 * q + j))) H locs := hw.to (fun k _ _ => rfl) (fun n j hn hj => by by_cases h : n = 6; (subst h; show (if j < 57 then _ else _) = _; rw [if_pos (show j < 57 from hj)]; rfl); simp [va_up, h])
        refine lv_aload_n hC.1 hC.2.1 dX6_restore_56 rfl (lv_at hl 0 rfl) ?_
        refine lv_iconst (v := (nI 0)) hC.1 hC.2.1 dX6_restore_57 (by decide) ?_
        refine m_pi hC hK hw 22 (by decide) rfl rfl q1138 rfl rfl rfl rfl dX6_restore_58 (fun H locs hw => ?_)
        refine lv_iconst (v := (nI 1)) hC.1 hC.2.1 dX6_restore_61 (by decide) ?_
        exact m_iret hC hlk hr hw rfl (by unfold mX6_restore; simp only [ix_nI (show q < 2147483648 by omega)]; rw [if_pos c7]; rw [if_pos c19]; exact ⟨by (dsimp only; try rfl), by (dsimp only; try rfl)⟩) dX6_restore_62
      · refine lv_aload_n hC.1 hC.2.1 dX6_restore_33 rfl (lv_at hl 0 rfl) ?_
        refine m_ga hC hK hw 5 (by decide) rfl q1121 rfl dX6_restore_34 ?_
        refine lv_iload_n hC.1 hC.2.1 dX6_restore_37 rfl (lv_at hl 2 rfl) ?_
        refine lv_aload_n hC.1 hC.2.1 dX6_restore_38 rfl (lv_at hl 0 rfl) ?_
        refine m_ga hC hK hw 25 (by decide) rfl q1141 rfl dX6_restore_39 ?_
        refine lv_bipush (v := (nI 57)) hC.1 hC.2.1 dX6_restore_42 (by decide) ?_
        refine lv_iload_n hC.1 hC.2.1 dX6_restore_44 rfl (lv_at hl 1 rfl) ?_
        refine k_mul hC dX6_restore_45 ?_
        refine lv_iload_n hC.1 hC.2.1 dX6_restore_46 rfl (lv_at hl 2 rfl) ?_
        refine k_add hC dX6_restore_47 ?_
        refine m_ld hC hK hw 26 (by decide) (by decide) (by decide) (by simp only [mLen]; omega) (by omega) (v := (G 26 (57 * q + i))) (rfl) dX6_restore_48 ?_
        refine m_st hC hK hw 6 (by decide) (by decide) (by decide) (by simp only [mLen]; omega) (by omega) dX6_restore_49 (fun H locs hw => ?_)
        refine k_iinc (k := 2) (d := 1) (lv' := [(2, .int (nI (i + 1))), (0, .ref (ad 0)), (1, .int (nI q))]) hC dX6_restore_50 hl rfl (by decide) (by decide) rfl (fun ls hl => ?_)
        refine lv_goto (tgt := 27) hC.1 hC.2.1 dX6_restore_53 (by decide) ?_
        exact ih27 ls (i + 1) H locs ⟨hl.sub' [1, 2, 0] (by rfl), hw.eq (by rw [g2_up]; exact congrArg (va_up _ 6) (cp_step (fun j => G 26 (57 * q + j)) (G 6) i)), by omega⟩ (by omega)
    · refine lv_ldc hC.1 hC.2.1 hC.2.2.2.1 (hC.2.2.2.2 _ q1294) dX6_restore_22 ?_
      exact m_iret hC hlk hr hw rfl (by unfold mX6_restore; simp only [ix_nI (show q < 2147483648 by omega)]; rw [if_pos c7]; rw [if_neg (not_not_intro c19)]; exact ⟨by (dsimp only; try rfl), by (dsimp only; try rfl)⟩) dX6_restore_24
  · refine lv_ldc hC.1 hC.2.1 hC.2.2.2.1 (hC.2.2.2.2 _ q1214) dX6_restore_10 ?_
    exact m_iret hC hlk hr hw rfl (by unfold mX6_restore; rw [if_neg (b_nt c7)]; exact ⟨by (dsimp only; try rfl), by (dsimp only; try rfl)⟩) dX6_restore_12

noncomputable def mX6_kind (G : mG) (cell : Int32) : Int32 × mG := if ¬ (G 0 4) = 0 then if (inB cell 0 (nI 15)) = true then if (isWk (G 6) (ix cell)) = false then ((-1000000 : Int32), G) else ((G 6 (9 + (ix cell))), G) else ((-1000001 : Int32), G) else ((-1000002 : Int32), G)
set_option maxHeartbeats 4000000 in
theorem tX6_kind (l : Launch) (G : mG) (cell : Int32) : mI l yX6_kind cX6_kind 2 .int ({ frames := 2, cells := 0, slots := 0, locals := 45 } : Room) [.int cell] G (fun r G' => r = ((mX6_kind G cell).1) ∧ G' = (mX6_kind G cell).2) := by
  refine mI.of (by decide) rfl (fun _ => Nat.le_of_ble_eq_true rfl) ?_
  intro D dA ad p e s m below meth cd ls hC hlk hr hK hl hw
  have hl : lv_has ls 2 [(0, .ref (ad 0)), (1, .int cell)] := hl
  refine lv_aload_n hC.1 hC.2.1 dX6_kind_0 rfl (lv_at hl 0 rfl) ?_
  refine m_gi hC hK hw 4 (by decide) rfl q1120 rfl (v := (G 0 4)) (rfl) dX6_kind_1 ?_
  refine lv_if_ne (tgt := 10) hC.1 hC.2.1 dX6_kind_4 (by decide) (fun c4 => ?_) (fun c4 => ?_)
  · refine lv_iload_n hC.1 hC.2.1 dX6_kind_10 rfl (lv_at hl 1 rfl) ?_
    refine pS_call (n := 1) hC hl.1 (tX6_isCell l cell ) (lw_S q1295 q1296 q66 q1297) rfl rfl (by decide +kernel) ⟨by decide, by decide⟩ rfl rfl (Nat.le_of_ble_eq_true rfl) dX6_kind_11 ⟨Nat.zero_le _, Nat.zero_le _⟩ ?_
    refine k_bne (tgt := 22) hC dX6_kind_14 (by decide) (fun c14 => ?_) (fun c14 => ?_)
    · obtain ⟨q, hq, rfl⟩ := inB_nat (n := 15) (by decide) c14
      refine lv_aload_n hC.1 hC.2.1 dX6_kind_22 rfl (lv_at hl 0 rfl) ?_
      refine lv_iload_n hC.1 hC.2.1 dX6_kind_23 rfl (lv_at hl 1 rfl) ?_
      refine m_calli (n := 1) hC hl.1 hK hw (tX6_isWork l G q (by omega)) (lw_V q1301 q1303 qs38 q66 q1304) rfl rfl (by decide +kernel) ⟨by decide, by decide⟩ rfl rfl (Nat.le_of_ble_eq_true rfl) dX6_kind_24 ⟨Nat.zero_le _, Nat.zero_le _⟩ ?_
      rintro r2 G2 H locs ⟨hr2, hG2⟩ hw
      replace hw := hw.eq hG2
      rw [hr2]
      clear hr2 hG2
      refine k_beq (tgt := 42) hC dX6_kind_27 (by decide) (fun c27 => ?_) (fun c27 => ?_)
      · refine lv_ldc hC.1 hC.2.1 hC.2.2.2.1 (hC.2.2.2.2 _ q1363) dX6_kind_42 ?_
        exact m_iret hC hlk hr hw rfl (by unfold mX6_kind; simp only [ix_nI (show q < 2147483648 by omega)]; rw [if_pos c4]; rw [if_pos c14]; rw [if_pos c27]; exact ⟨by (dsimp only; try rfl), by (dsimp only; try rfl)⟩) dX6_kind_44
      · refine lv_aload_n hC.1 hC.2.1 dX6_kind_30 rfl (lv_at hl 0 rfl) ?_
        refine m_ga hC hK hw 5 (by decide) rfl q1121 rfl dX6_kind_31 ?_
        refine lv_bipush (v := (nI 9)) hC.1 hC.2.1 dX6_kind_34 (by decide) ?_
        refine lv_iload_n hC.1 hC.2.1 dX6_kind_36 rfl (lv_at hl 1 rfl) ?_
        refine k_add hC dX6_kind_37 ?_
        refine m_ld hC hK hw 6 (by decide) (by decide) (by decide) (by simp only [mLen]; omega) (by omega) (v := (G 6 (9 + q))) (rfl) dX6_kind_38 ?_
        refine lv_goto (tgt := 44) hC.1 hC.2.1 dX6_kind_39 (by decide) ?_
        exact m_iret hC hlk hr hw rfl (by unfold mX6_kind; simp only [ix_nI (show q < 2147483648 by omega)]; rw [if_pos c4]; rw [if_pos c14]; rw [if_neg (b_nf c27)]; exact ⟨by (dsimp only; try rfl), by (dsimp only; try rfl)⟩) dX6_kind_44
    · refine lv_ldc hC.1 hC.2.1 hC.2.2.2.1 (hC.2.2.2.2 _ q1214) dX6_kind_17 ?_
      refine lv_goto (tgt := 44) hC.1 hC.2.1 dX6_kind_19 (by decide) ?_
      exact m_iret hC hlk hr hw rfl (by unfold mX6_kind; rw [if_pos c4]; rw [if_neg (b_nt c14)]; exact ⟨by (dsimp only; try rfl), by (dsimp only; try rfl)⟩) dX6_kind_44
  · refine lv_ldc hC.1 hC.2.1 hC.2.2.2.1 (hC.2.2.2.2 _ q1294) dX6_kind_7 ?_
    exact m_iret hC hlk hr hw rfl (by unfold mX6_kind; rw [if_neg (not_not_intro c4)]; exact ⟨by (dsimp only; try rfl), by (dsimp only; try rfl)⟩) dX6_kind_9

noncomputable def mX6_as (G : mG) (cell : Int32) (kind : Int32) : Int32 × mG := if ¬ (G 0 4) = 0 then if (inB cell 0 (nI 15)) = false then ((-1000001 : Int32), G) else if (inB kind 0 (nI 5)) = true then if (isWk (G 6) (ix cell)) = true then if (isKd (G 6 (9 + (ix cell))) kind) = false then (((-1000010 : Int32) - (nI 3)), g2 G 0 3 (nI 3)) else ((nI (ix cell)), g2 G 0 3 (nI 0)) else ((-1000002 : Int32), G) else ((-1000001 : Int32), G) else ((-1000002 : Int32), G)
set_option maxHeartbeats 4000000 in
theorem tX6_as (l : Launch) (G : mG) (cell : Int32) (kind : Int32) : mI l yX6_as cX6_as 3 .int ({ frames := 2, cells := 0, slots := 0, locals := 45 } : Room) [.int cell, .int kind] G (fun r G' => r = ((mX6_as G cell kind).1) ∧ G' = (mX6_as G cell kind).2) := by
  refine mI.of (by decide) rfl (fun _ => Nat.le_of_ble_eq_true rfl) ?_
  intro D dA ad p e s m below meth cd ls hC hlk hr hK hl hw
  have hl : lv_has ls 3 [(0, .ref (ad 0)), (1, .int cell), (2, .int kind)] := hl
  refine lv_aload_n hC.1 hC.2.1 dX6_as_0 rfl (lv_at hl 0 rfl) ?_
  refine m_gi hC hK hw 4 (by decide) rfl q1120 rfl (v := (G 0 4)) (rfl) dX6_as_1 ?_
  refine lv_if_ne (tgt := 10) hC.1 hC.2.1 dX6_as_4 (by decide) (fun c4 => ?_) (fun c4 => ?_)
  · refine lv_iload_n hC.1 hC.2.1 dX6_as_10 rfl (lv_at hl 1 rfl) ?_
    refine pS_call (n := 1) hC hl.1 (tX6_isCell l cell ) (lw_S q1295 q1296 q66 q1297) rfl rfl (by decide +kernel) ⟨by decide, by decide⟩ rfl rfl (Nat.le_of_ble_eq_true rfl) dX6_as_11 ⟨Nat.zero_le _, Nat.zero_le _⟩ ?_
    refine k_beq (tgt := 29) hC dX6_as_14 (by decide) (fun c14 => ?_) (fun c14 => ?_)
    · refine lv_ldc hC.1 hC.2.1 hC.2.2.2.1 (hC.2.2.2.2 _ q1214) dX6_as_29 ?_
      exact m_iret hC hlk hr hw rfl (by unfold mX6_as; rw [if_pos c4]; rw [if_pos c14]; exact ⟨by (dsimp only; try rfl), by (dsimp only; try rfl)⟩) dX6_as_31
    · refine lv_iload_n hC.1 hC.2.1 dX6_as_17 rfl (lv_at hl 2 rfl) ?_
      refine lv_i2l hC.1 hC.2.1 dX6_as_18 rfl ?_
      refine lv_lconst (v := 0) hC.1 hC.2.1 dX6_as_19 (by decide) ?_
      refine lv_ldc2 hC.1 hC.2.1 hC.2.2.2.1 (hC.2.2.2.2 _ q1299) dX6_as_20 ?_
      refine pS_call (n := 3) hC hl.1 (tX6_inI l kind 0 (nI 5)) (lw_S q1210 q1211 q66 q1212) rfl rfl (by decide +kernel) ⟨by decide, by decide⟩ rfl rfl (Nat.le_of_ble_eq_true rfl) dX6_as_23 ⟨Nat.zero_le _, Nat.zero_le _⟩ ?_
      refine k_bne (tgt := 32) hC dX6_as_26 (by decide) (fun c26 => ?_) (fun c26 => ?_)
      · obtain ⟨q, hq, rfl⟩ := inB_nat (n := 15) (by decide) c14
        refine lv_aload_n hC.1 hC.2.1 dX6_as_32 rfl (lv_at hl 0 rfl) ?_
        refine lv_iload_n hC.1 hC.2.1 dX6_as_33 rfl (lv_at hl 1 rfl) ?_
        refine m_calli (n := 1) hC hl.1 hK hw (tX6_isWork l G q (by omega)) (lw_V q1301 q1303 qs38 q66 q1304) rfl rfl (by decide +kernel) ⟨by decide, by decide⟩ rfl rfl (Nat.le_of_ble_eq_true rfl) dX6_as_34 ⟨Nat.zero_le _, Nat.zero_le _⟩ ?_
        rintro r2 G2 H locs ⟨hr2, hG2⟩ hw
        replace hw := hw.eq hG2
        rw [hr2]
        clear hr2 hG2
        refine k_bne (tgt := 43) hC dX6_as_37 (by decide) (fun c37 => ?_) (fun c37 => ?_)
        · refine lv_aload_n hC.1 hC.2.1 dX6_as_43 rfl (lv_at hl 0 rfl) ?_
          refine m_ga hC hK hw 5 (by decide) rfl q1121 rfl dX6_as_44 ?_
          refine lv_bipush (v := (nI 9)) hC.1 hC.2.1 dX6_as_47 (by decide) ?_
          refine lv_iload_n hC.1 hC.2.1 dX6_as_49 rfl (lv_at hl 1 rfl) ?_
          refine k_add hC dX6_as_50 ?_
          refine m_ld hC hK hw 6 (by decide) (by decide) (by decide) (by simp only [mLen]; omega) (by omega) (v := (G 6 (9 + q))) (rfl) dX6_as_51 ?_
          refine lv_iload_n hC.1 hC.2.1 dX6_as_52 rfl (lv_at hl 2 rfl) ?_
          refine pS_call (n := 2) hC hl.1 (tX6_isKind l (G 6 (9 + q)) kind ) (lw_S q1446 q1447 q66 q1448) rfl rfl (by decide +kernel) ⟨by decide, by decide⟩ rfl rfl (Nat.le_of_ble_eq_true rfl) dX6_as_53 ⟨Nat.zero_le _, Nat.zero_le _⟩ ?_
          refine k_beq (tgt := 67) hC dX6_as_56 (by decide) (fun c56 => ?_) (fun c56 => ?_)
          · refine lv_aload_n hC.1 hC.2.1 dX6_as_67 rfl (lv_at hl 0 rfl) ?_
            refine lv_iconst (v := (nI 3)) hC.1 hC.2.1 dX6_as_68 (by decide) ?_
            refine m_calli (n := 1) hC hl.1 hK hw (tX6_find l G (nI 3) ) (lw_V q1215 q1217 qs28 q66 q1218) rfl rfl (by decide +kernel) ⟨by decide, by decide⟩ rfl rfl (Nat.le_of_ble_eq_true rfl) dX6_as_69 ⟨Nat.zero_le _, Nat.zero_le _⟩ ?_
            rintro r2 G2 H locs ⟨hr2, hG2⟩ hw
            replace hw := hw.eq hG2
            rw [hr2]
            clear hr2 hG2
            exact m_iret hC hlk hr hw rfl (by unfold mX6_as; simp only [ix_nI (show q < 2147483648 by omega)]; rw [if_pos c4]; rw [if_neg (b_nf c14)]; rw [if_pos c26]; rw [if_pos c37]; rw [if_pos c56]; exact ⟨by (dsimp only; try rfl), by (dsimp only; try rfl)⟩) dX6_as_72
          · refine lv_aload_n hC.1 hC.2.1 dX6_as_59 rfl (lv_at hl 0 rfl) ?_
            refine lv_iload_n hC.1 hC.2.1 dX6_as_60 rfl (lv_at hl 1 rfl) ?_
            refine m_calli (n := 1) hC hl.1 hK hw (tX6_well l G (nI q) ) (lw_V q1220 q1222 qs29 q66 q1223) rfl rfl (by decide +kernel) ⟨by decide, by decide⟩ rfl rfl (Nat.le_of_ble_eq_true rfl) dX6_as_61 ⟨Nat.zero_le _, Nat.zero_le _⟩ ?_
            rintro r2 G2 H locs ⟨hr2, hG2⟩ hw
            replace hw := hw.eq hG2
            rw [hr2]
            clear hr2 hG2
            refine lv_goto (tgt := 72) hC.1 hC.2.1 dX6_as_64 (by decide) ?_
            exact m_iret hC hlk hr hw rfl (by unfold mX6_as; simp only [ix_nI (show q < 2147483648 by omega)]; rw [if_pos c4]; rw [if_neg (b_nf c14)]; rw [if_pos c26]; rw [if_pos c37]; rw [if_neg (b_nf c56)]; exact ⟨by (dsimp only; try rfl), by (dsimp only; try rfl)⟩) dX6_as_72
        · refine lv_ldc hC.1 hC.2.1 hC.2.2.2.1 (hC.2.2.2.2 _ q1294) dX6_as_40 ?_
          exact m_iret hC hlk hr hw rfl (by unfold mX6_as; simp only [ix_nI (show q < 2147483648 by omega)]; rw [if_pos c4]; rw [if_neg (b_nf c14)]; rw [if_pos c26]; rw [if_neg (b_nt c37)]; exact ⟨by (dsimp only; try rfl), by (dsimp only; try rfl)⟩) dX6_as_42
      · refine lv_ldc hC.1 hC.2.1 hC.2.2.2.1 (hC.2.2.2.2 _ q1214) dX6_as_29 ?_
        exact m_iret hC hlk hr hw rfl (by unfold mX6_as; rw [if_pos c4]; rw [if_neg (b_nf c14)]; rw [if_neg (b_nt c26)]; exact ⟨by (dsimp only; try rfl), by (dsimp only; try rfl)⟩) dX6_as_31
  · refine lv_ldc hC.1 hC.2.1 hC.2.2.2.1 (hC.2.2.2.2 _ q1294) dX6_as_7 ?_
    exact m_iret hC hlk hr hw rfl (by unfold mX6_as; rw [if_neg (not_not_intro c4)]; exact ⟨by (dsimp only; try rfl), by (dsimp only; try rfl)⟩) dX6_as_9

set_option maxHeartbeats 4000000 in
theorem tX6_begin (l : Launch) (G : mG) (b : Int32) (h0 : trOk G) : mV l yX6_begin cX6_begin 2 ({ frames := 0, cells := 0, slots := 0, locals := 0 } : Room) [.int b] G (fun G' => G' = beginG G b) := by
  refine mV.of (by decide) rfl (fun _ => Nat.le_of_ble_eq_true rfl) ?_
  intro D dA ad p e s m below meth cd ls hC hlk hr hK hl hw
  have hl : lv_has ls 2 [(0, .ref (ad 0)), (1, .int b)] := hl
  have ⟨tm, htm, etm⟩ := h0
  refine lv_aload_n hC.1 hC.2.1 dX6_begin_0 rfl (lv_at hl 0 rfl) ?_
  refine m_gi hC hK hw 27 (by decide) rfl q1143 rfl (v := (nI tm)) (etm) dX6_begin_1 ?_
  refine lv_bipush (v := (nI 16)) hC.1 hC.2.1 dX6_begin_4 (by decide) ?_
  refine k_ge (tgt := 29) hC (by omega) (by omega) dX6_begin_6 (by decide) (fun c6 => ?_) (fun c6 => ?_)
  · exact m_vret hC hlk hr hw (by unfold beginG; rw [etm, ix_nI (by omega), if_neg (by omega)]) dX6_begin_29
  · refine lv_aload_n hC.1 hC.2.1 dX6_begin_9 rfl (lv_at hl 0 rfl) ?_
    refine m_ga hC hK hw 26 (by decide) rfl q1142 rfl dX6_begin_10 ?_
    refine lv_aload_n hC.1 hC.2.1 dX6_begin_13 rfl (lv_at hl 0 rfl) ?_
    refine m_gi hC hK hw 27 (by decide) rfl q1143 rfl (v := (nI tm)) (etm) dX6_begin_14 ?_
    refine lv_iload_n hC.1 hC.2.1 dX6_begin_17 rfl (lv_at hl 1 rfl) ?_
    refine m_st hC hK hw 27 (by decide) (by decide) (by decide) (by simp only [mLen]; omega) (by omega) dX6_begin_18 (fun H locs hw => ?_)
    refine lv_aload_n hC.1 hC.2.1 dX6_begin_19 rfl (lv_at hl 0 rfl) ?_
    refine lv_dup hC.1 hC.2.1 dX6_begin_20 rfl ?_
    refine m_gi hC hK hw 27 (by decide) rfl q1143 rfl (v := (nI tm)) (etm) dX6_begin_21 ?_
    refine lv_iconst (v := (nI 1)) hC.1 hC.2.1 dX6_begin_24 (by decide) ?_
    refine k_add hC dX6_begin_25 ?_
    refine m_pi hC hK hw 27 (by decide) rfl rfl q1143 rfl rfl rfl rfl dX6_begin_26 (fun H locs hw => ?_)
    exact m_vret hC hlk hr hw (by unfold beginG; rw [etm, ix_nI (by omega), if_pos (by omega)]) dX6_begin_29

set_option maxHeartbeats 4000000 in
theorem tX6_lent (l : Launch) (G : mG) (q : Nat) (b : Int32) (h0 : trOk G) (h1 : q < 16) : mI l yX6_lent cX6_lent 3 .int ({ frames := 1, cells := 0, slots := 0, locals := 21 } : Room) [.int (nI q), .int b] G (fun r G' => r = (lentF (G 6) b q) ∧ G' = beginG G b) := by
  refine mI.of (by decide) rfl (fun _ => Nat.le_of_ble_eq_true rfl) ?_
  intro D dA ad p e s m below meth cd ls hC hlk hr hK hl hw
  have hl : lv_has ls 3 [(0, .ref (ad 0)), (1, .int (nI q)), (2, .int b)] := hl
  refine lv_aload_n hC.1 hC.2.1 dX6_lent_0 rfl (lv_at hl 0 rfl) ?_
  refine lv_iload_n hC.1 hC.2.1 dX6_lent_1 rfl (lv_at hl 2 rfl) ?_
  refine m_callv (n := 1) hC hl.1 hK hw (tX6_begin l G b (h0)) (lw_V q1457 q1459 qs52 q66 q1460) rfl rfl (by decide +kernel) ⟨by decide, by decide⟩ rfl rfl (Nat.le_of_ble_eq_true rfl) dX6_lent_2 ⟨Nat.zero_le _, Nat.zero_le _⟩ ?_
  rintro G2 H locs hG2 hw
  replace hw := hw.eq hG2
  clear hG2
  refine lv_iload_n hC.1 hC.2.1 dX6_lent_5 rfl (lv_at hl 2 rfl) ?_
  refine lv_bipush (v := (nI 10)) hC.1 hC.2.1 dX6_lent_6 (by decide) ?_
  refine lv_icmp_ne (tgt := 23) hC.1 hC.2.1 dX6_lent_8 (by decide) (fun c8 => ?_) (fun c8 => ?_)
  · refine lv_iload_n hC.1 hC.2.1 dX6_lent_23 rfl (lv_at hl 1 rfl) ?_
    exact m_iret hC hlk hr hw rfl (⟨by unfold lentF; rw [if_neg c8], rfl⟩) dX6_lent_24
  · refine lv_aload_n hC.1 hC.2.1 dX6_lent_11 rfl (lv_at hl 0 rfl) ?_
    refine m_ga hC hK hw 5 (by decide) rfl q1121 rfl dX6_lent_12 ?_
    refine lv_bipush (v := (nI 25)) hC.1 hC.2.1 dX6_lent_15 (by decide) ?_
    refine lv_iload_n hC.1 hC.2.1 dX6_lent_17 rfl (lv_at hl 1 rfl) ?_
    refine k_add hC dX6_lent_18 ?_
    refine m_ld hC hK hw 6 (by decide) (by decide) (by decide) (by simp only [mLen]; omega) (by omega) (v := (G 6 (25 + q))) (congrFun (beginG_6 G b) _) dX6_lent_19 ?_
    refine lv_goto (tgt := 24) hC.1 hC.2.1 dX6_lent_20 (by decide) ?_
    exact m_iret hC hlk hr hw rfl (⟨by unfold lentF; rw [if_pos c8], rfl⟩) dX6_lent_24

set_option maxHeartbeats 4000000 in
theorem tX6_wallMark (l : Launch) (G : mG) (q : Nat) (h0 : trOk G) (h1 : q < 16) : mI l yX6_wallMark cX6_wallMark 2 .int ({ frames := 5, cells := 0, slots := 0, locals := 117 } : Room) [.int (nI q)] G (fun r G' => r = (wmkR (G 6) q) ∧ G' = wmkG G) := by
  refine mI.of (by decide) rfl (fun _ => Nat.le_of_ble_eq_true rfl) ?_
  intro D dA ad p e s m below meth cd ls hC hlk hr hK hl hw
  have hl : lv_has ls 2 [(0, .ref (ad 0)), (1, .int (nI q))] := hl
  refine lv_aload_n hC.1 hC.2.1 dX6_wallMark_0 rfl (lv_at hl 0 rfl) ?_
  refine lv_bipush (v := (nI 21)) hC.1 hC.2.1 dX6_wallMark_1 (by decide) ?_
  refine m_callv (n := 1) hC hl.1 hK hw (tX6_begin l G (nI 21) (h0)) (lw_V q1457 q1459 qs52 q66 q1460) rfl rfl (by decide +kernel) ⟨by decide, by decide⟩ rfl rfl (Nat.le_of_ble_eq_true rfl) dX6_wallMark_3 ⟨Nat.zero_le _, Nat.zero_le _⟩ ?_
  rintro G2 H locs hG2 hw
  replace hw := hw.eq hG2
  clear hG2
  refine lv_aload_n hC.1 hC.2.1 dX6_wallMark_6 rfl (lv_at hl 0 rfl) ?_
  refine lv_iload_n hC.1 hC.2.1 dX6_wallMark_7 rfl (lv_at hl 1 rfl) ?_
  refine lv_bipush (v := (nI 20)) hC.1 hC.2.1 dX6_wallMark_8 (by decide) ?_
  refine m_calli (n := 2) hC hl.1 hK hw (tX6_lent l (beginG G (nI 21)) q (nI 20) (trOk_begin (h0)) (by omega)) (lw_V q1465 q1467 qs54 q66 q1468) rfl rfl (by decide +kernel) ⟨by decide, by decide⟩ rfl rfl (Nat.le_of_ble_eq_true rfl) dX6_wallMark_10 ⟨Nat.zero_le _, Nat.zero_le _⟩ ?_
  rintro r2 G2 H locs ⟨hr2, hG2⟩ hw
  replace hw := hw.eq hG2
  rw [hr2]
  clear hr2 hG2
  refine lv_aload_n hC.1 hC.2.1 dX6_wallMark_13 rfl (lv_at hl 0 rfl) ?_
  refine lv_iload_n hC.1 hC.2.1 dX6_wallMark_14 rfl (lv_at hl 1 rfl) ?_
  refine m_calli (n := 1) hC hl.1 hK hw (tX6_feltNow l (beginG (beginG G (nI 21)) (nI 20)) q (by omega)) (lw_V q1359 q1361 qs45 q66 q1362) rfl rfl (by decide +kernel) ⟨by decide, by decide⟩ rfl rfl (Nat.le_of_ble_eq_true rfl) dX6_wallMark_15 ⟨Nat.zero_le _, Nat.zero_le _⟩ ?_
  rintro r2 G2 H locs ⟨hr2, hG2⟩ hw
  replace hw := hw.eq hG2
  rw [hr2]
  clear hr2 hG2
  refine lv_iadd hC.1 hC.2.1 dX6_wallMark_18 ?_
  exact m_iret hC hlk hr hw rfl (⟨by simp only [wmkR, beginG_6], rfl⟩) dX6_wallMark_19

set_option maxHeartbeats 4000000 in
theorem tX6_handSize (l : Launch) (G : mG) (q : Nat) (h0 : trOk G) (h1 : q < 16) : mI l yX6_handSize cX6_handSize 2 .int ({ frames := 2, cells := 0, slots := 0, locals := 43 } : Room) [.int (nI q)] G (fun r G' => r = (hszR (G 6) q) ∧ G' = hszG G) := by
  refine mI.of (by decide) rfl (fun _ => Nat.le_of_ble_eq_true rfl) ?_
  intro D dA ad p e s m below meth cd ls hC hlk hr hK hl hw
  have hl : lv_has ls 2 [(0, .ref (ad 0)), (1, .int (nI q))] := hl
  refine lv_aload_n hC.1 hC.2.1 dX6_handSize_0 rfl (lv_at hl 0 rfl) ?_
  refine lv_bipush (v := (nI 13)) hC.1 hC.2.1 dX6_handSize_1 (by decide) ?_
  refine m_callv (n := 1) hC hl.1 hK hw (tX6_begin l G (nI 13) (h0)) (lw_V q1457 q1459 qs52 q66 q1460) rfl rfl (by decide +kernel) ⟨by decide, by decide⟩ rfl rfl (Nat.le_of_ble_eq_true rfl) dX6_handSize_3 ⟨Nat.zero_le _, Nat.zero_le _⟩ ?_
  rintro G2 H locs hG2 hw
  replace hw := hw.eq hG2
  clear hG2
  refine lv_aload_n hC.1 hC.2.1 dX6_handSize_6 rfl (lv_at hl 0 rfl) ?_
  refine lv_iload_n hC.1 hC.2.1 dX6_handSize_7 rfl (lv_at hl 1 rfl) ?_
  refine lv_bipush (v := (nI 10)) hC.1 hC.2.1 dX6_handSize_8 (by decide) ?_
  refine m_calli (n := 2) hC hl.1 hK hw (tX6_lent l (beginG G (nI 13)) q (nI 10) (trOk_begin (h0)) (by omega)) (lw_V q1465 q1467 qs54 q66 q1468) rfl rfl (by decide +kernel) ⟨by decide, by decide⟩ rfl rfl (Nat.le_of_ble_eq_true rfl) dX6_handSize_10 ⟨Nat.zero_le _, Nat.zero_le _⟩ ?_
  rintro r2 G2 H locs ⟨hr2, hG2⟩ hw
  replace hw := hw.eq hG2
  rw [hr2]
  clear hr2 hG2
  refine lv_bipush (v := (nI 100)) hC.1 hC.2.1 dX6_handSize_13 (by decide) ?_
  refine lv_isub hC.1 hC.2.1 dX6_handSize_15 ?_
  exact m_iret hC hlk hr hw rfl (⟨by simp only [hszR, beginG_6], rfl⟩) dX6_handSize_16

noncomputable def mX6_sizeOfHand (G : mG) (q : Nat) : Int32 × mG := if ¬ (G 6 (9 + q)) = (nI 5) then ((hszR (G 6) q), hszG G) else (((nI 2) * (hszR ((beginG G (nI 14)) 6) q)), hszG (beginG G (nI 14)))
set_option maxHeartbeats 4000000 in
theorem tX6_sizeOfHand (l : Launch) (G : mG) (q : Nat) (h0 : trOk G) (h1 : q < 16) : mI l yX6_sizeOfHand cX6_sizeOfHand 2 .int ({ frames := 3, cells := 0, slots := 0, locals := 64 } : Room) [.int (nI q)] G (fun r G' => r = ((mX6_sizeOfHand G q).1) ∧ G' = (mX6_sizeOfHand G q).2) := by
  refine mI.of (by decide) rfl (fun _ => Nat.le_of_ble_eq_true rfl) ?_
  intro D dA ad p e s m below meth cd ls hC hlk hr hK hl hw
  have hl : lv_has ls 2 [(0, .ref (ad 0)), (1, .int (nI q))] := hl
  refine lv_aload_n hC.1 hC.2.1 dX6_sizeOfHand_0 rfl (lv_at hl 0 rfl) ?_
  refine m_ga hC hK hw 5 (by decide) rfl q1121 rfl dX6_sizeOfHand_1 ?_
  refine lv_bipush (v := (nI 9)) hC.1 hC.2.1 dX6_sizeOfHand_4 (by decide) ?_
  refine lv_iload_n hC.1 hC.2.1 dX6_sizeOfHand_6 rfl (lv_at hl 1 rfl) ?_
  refine k_add hC dX6_sizeOfHand_7 ?_
  refine m_ld hC hK hw 6 (by decide) (by decide) (by decide) (by simp only [mLen]; omega) (by omega) (v := (G 6 (9 + q))) (rfl) dX6_sizeOfHand_8 ?_
  refine lv_iconst (v := (nI 5)) hC.1 hC.2.1 dX6_sizeOfHand_9 (by decide) ?_
  refine lv_icmp_ne (tgt := 27) hC.1 hC.2.1 dX6_sizeOfHand_10 (by decide) (fun c10 => ?_) (fun c10 => ?_)
  · refine lv_aload_n hC.1 hC.2.1 dX6_sizeOfHand_27 rfl (lv_at hl 0 rfl) ?_
    refine lv_iload_n hC.1 hC.2.1 dX6_sizeOfHand_28 rfl (lv_at hl 1 rfl) ?_
    refine m_calli (n := 1) hC hl.1 hK hw (tX6_handSize l G q (h0) (by omega)) (lw_V q1481 q1483 qs58 q66 q1484) rfl rfl (by decide +kernel) ⟨by decide, by decide⟩ rfl rfl (Nat.le_of_ble_eq_true rfl) dX6_sizeOfHand_29 ⟨Nat.zero_le _, Nat.zero_le _⟩ ?_
    rintro r2 G2 H locs ⟨hr2, hG2⟩ hw
    replace hw := hw.eq hG2
    rw [hr2]
    clear hr2 hG2
    exact m_iret hC hlk hr hw rfl (by unfold mX6_sizeOfHand; rw [if_pos c10]; exact ⟨by (dsimp only; try rfl), by (dsimp only; try rfl)⟩) dX6_sizeOfHand_32
  · refine lv_aload_n hC.1 hC.2.1 dX6_sizeOfHand_13 rfl (lv_at hl 0 rfl) ?_
    refine lv_bipush (v := (nI 14)) hC.1 hC.2.1 dX6_sizeOfHand_14 (by decide) ?_
    refine m_callv (n := 1) hC hl.1 hK hw (tX6_begin l G (nI 14) (h0)) (lw_V q1457 q1459 qs52 q66 q1460) rfl rfl (by decide +kernel) ⟨by decide, by decide⟩ rfl rfl (Nat.le_of_ble_eq_true rfl) dX6_sizeOfHand_16 ⟨Nat.zero_le _, Nat.zero_le _⟩ ?_
    rintro G2 H locs hG2 hw
    replace hw := hw.eq hG2
    clear hG2
    refine lv_iconst (v := (nI 2)) hC.1 hC.2.1 dX6_sizeOfHand_19 (by decide) ?_
    refine lv_aload_n hC.1 hC.2.1 dX6_sizeOfHand_20 rfl (lv_at hl 0 rfl) ?_
    refine lv_iload_n hC.1 hC.2.1 dX6_sizeOfHand_21 rfl (lv_at hl 1 rfl) ?_
    refine m_calli (n := 1) hC hl.1 hK hw (tX6_handSize l (beginG G (nI 14)) q (trOk_begin (h0)) (by omega)) (lw_V q1481 q1483 qs58 q66 q1484) rfl rfl (by decide +kernel) ⟨by decide, by decide⟩ rfl rfl (Nat.le_of_ble_eq_true rfl) dX6_sizeOfHand_22 ⟨Nat.zero_le _, Nat.zero_le _⟩ ?_
    rintro r2 G2 H locs ⟨hr2, hG2⟩ hw
    replace hw := hw.eq hG2
    rw [hr2]
    clear hr2 hG2
    refine lv_imul hC.1 hC.2.1 dX6_sizeOfHand_25 ?_
    exact m_iret hC hlk hr hw rfl (by unfold mX6_sizeOfHand; rw [if_neg (not_not_intro c10)]; exact ⟨by (dsimp only; try rfl), by (dsimp only; try rfl)⟩) dX6_sizeOfHand_26

noncomputable def mX6_markOf (G : mG) (q : Nat) : Int32 × mG := if ¬ (G 6 (9 + q)) = (nI 2) then if ¬ (G 6 (9 + q)) = (nI 3) then if ¬ (G 6 (9 + q)) = (nI 1) then (((lentF ((beginG G (nI 23)) 6) (nI 20) q) - ((mX6_sizeOfHand (beginG (beginG G (nI 23)) (nI 20)) q).1)), (mX6_sizeOfHand (beginG (beginG G (nI 23)) (nI 20)) q).2) else ((wmkR (G 6) q), wmkG G) else (((wmkR ((beginG G (nI 22)) 6) q) - (nI 1000)), wmkG (beginG G (nI 22))) else (((nI 2) * (wmkR ((beginG G (nI 24)) 6) q)), wmkG (beginG G (nI 24)))
set_option maxHeartbeats 4000000 in
theorem tX6_markOf (l : Launch) (G : mG) (q : Nat) (h0 : trOk G) (h1 : q < 16) : mI l yX6_markOf cX6_markOf 4 .int ({ frames := 6, cells := 0, slots := 0, locals := 138 } : Room) [.int (nI q)] G (fun r G' => r = ((mX6_markOf G q).1) ∧ G' = (mX6_markOf G q).2) := by
  refine mI.of (by decide) rfl (fun _ => Nat.le_of_ble_eq_true rfl) ?_
  intro D dA ad p e s m below meth cd ls hC hlk hr hK hl hw
  have hl : lv_has ls 4 [(0, .ref (ad 0)), (1, .int (nI q))] := hl
  refine lv_aload_n hC.1 hC.2.1 dX6_markOf_0 rfl (lv_at hl 0 rfl) ?_
  refine m_ga hC hK hw 5 (by decide) rfl q1121 rfl dX6_markOf_1 ?_
  refine lv_bipush (v := (nI 9)) hC.1 hC.2.1 dX6_markOf_4 (by decide) ?_
  refine lv_iload_n hC.1 hC.2.1 dX6_markOf_6 rfl (lv_at hl 1 rfl) ?_
  refine k_add hC dX6_markOf_7 ?_
  refine m_ld hC hK hw 6 (by decide) (by decide) (by decide) (by simp only [mLen]; omega) (by omega) (v := (G 6 (9 + q))) (rfl) dX6_markOf_8 ?_
  refine lv_istore_n (lv' := [(2, .int (G 6 (9 + q))), (0, .ref (ad 0)), (1, .int (nI q))]) hC.1 hC.2.1 dX6_markOf_9 rfl hl (by decide) rfl (fun ls hl => ?_)
  refine lv_iload_n hC.1 hC.2.1 dX6_markOf_10 rfl (lv_at hl 0 rfl) ?_
  refine lv_iconst (v := (nI 2)) hC.1 hC.2.1 dX6_markOf_11 (by decide) ?_
  refine lv_icmp_ne (tgt := 29) hC.1 hC.2.1 dX6_markOf_12 (by decide) (fun c12 => ?_) (fun c12 => ?_)
  · refine lv_iload_n hC.1 hC.2.1 dX6_markOf_29 rfl (lv_at hl 0 rfl) ?_
    refine lv_iconst (v := (nI 3)) hC.1 hC.2.1 dX6_markOf_30 (by decide) ?_
    refine lv_icmp_ne (tgt := 50) hC.1 hC.2.1 dX6_markOf_31 (by decide) (fun c31 => ?_) (fun c31 => ?_)
    · refine lv_iload_n hC.1 hC.2.1 dX6_markOf_50 rfl (lv_at hl 0 rfl) ?_
      refine lv_iconst (v := (nI 1)) hC.1 hC.2.1 dX6_markOf_51 (by decide) ?_
      refine lv_icmp_ne (tgt := 61) hC.1 hC.2.1 dX6_markOf_52 (by decide) (fun c52 => ?_) (fun c52 => ?_)
      · refine lv_aload_n hC.1 hC.2.1 dX6_markOf_61 rfl (lv_at hl 1 rfl) ?_
        refine lv_bipush (v := (nI 23)) hC.1 hC.2.1 dX6_markOf_62 (by decide) ?_
        refine m_callv (n := 1) hC hl.1 hK hw (tX6_begin l G (nI 23) (h0)) (lw_V q1457 q1459 qs52 q66 q1460) rfl rfl (by decide +kernel) ⟨by decide, by decide⟩ rfl rfl (Nat.le_of_ble_eq_true rfl) dX6_markOf_64 ⟨Nat.zero_le _, Nat.zero_le _⟩ ?_
        rintro G2 H locs hG2 hw
        replace hw := hw.eq hG2
        clear hG2
        refine lv_aload_n hC.1 hC.2.1 dX6_markOf_67 rfl (lv_at hl 1 rfl) ?_
        refine lv_iload_n hC.1 hC.2.1 dX6_markOf_68 rfl (lv_at hl 2 rfl) ?_
        refine lv_bipush (v := (nI 20)) hC.1 hC.2.1 dX6_markOf_69 (by decide) ?_
        refine m_calli (n := 2) hC hl.1 hK hw (tX6_lent l (beginG G (nI 23)) q (nI 20) (trOk_begin (h0)) (by omega)) (lw_V q1465 q1467 qs54 q66 q1468) rfl rfl (by decide +kernel) ⟨by decide, by decide⟩ rfl rfl (Nat.le_of_ble_eq_true rfl) dX6_markOf_71 ⟨Nat.zero_le _, Nat.zero_le _⟩ ?_
        rintro r2 G2 H locs ⟨hr2, hG2⟩ hw
        replace hw := hw.eq hG2
        rw [hr2]
        clear hr2 hG2
        refine lv_istore_n (lv' := [(3, .int (lentF ((beginG G (nI 23)) 6) (nI 20) q)), (2, .int (G 6 (9 + q))), (0, .ref (ad 0)), (1, .int (nI q))]) hC.1 hC.2.1 dX6_markOf_74 rfl hl (by decide) rfl (fun ls hl => ?_)
        refine lv_iload_n hC.1 hC.2.1 dX6_markOf_75 rfl (lv_at hl 0 rfl) ?_
        refine lv_aload_n hC.1 hC.2.1 dX6_markOf_76 rfl (lv_at hl 2 rfl) ?_
        refine lv_iload_n hC.1 hC.2.1 dX6_markOf_77 rfl (lv_at hl 3 rfl) ?_
        refine m_calli (n := 1) hC hl.1 hK hw (tX6_sizeOfHand l (beginG (beginG G (nI 23)) (nI 20)) q (trOk_begin (trOk_begin (h0))) (by omega)) (lw_V q1477 q1479 qs57 q66 q1480) rfl rfl (by decide +kernel) ⟨by decide, by decide⟩ rfl rfl (Nat.le_of_ble_eq_true rfl) dX6_markOf_78 ⟨Nat.zero_le _, Nat.zero_le _⟩ ?_
        rintro r2 G2 H locs ⟨hr2, hG2⟩ hw
        replace hw := hw.eq hG2
        rw [hr2]
        clear hr2 hG2
        refine lv_isub hC.1 hC.2.1 dX6_markOf_81 ?_
        exact m_iret hC hlk hr hw rfl (by unfold mX6_markOf; rw [if_pos c12]; rw [if_pos c31]; rw [if_pos c52]; exact ⟨by (dsimp only; try rfl), by (dsimp only; try rfl)⟩) dX6_markOf_82
      · refine lv_aload_n hC.1 hC.2.1 dX6_markOf_55 rfl (lv_at hl 1 rfl) ?_
        refine lv_iload_n hC.1 hC.2.1 dX6_markOf_56 rfl (lv_at hl 2 rfl) ?_
        refine m_calli (n := 1) hC hl.1 hK hw (tX6_wallMark l G q (h0) (by omega)) (lw_V q1473 q1475 qs56 q66 q1476) rfl rfl (by decide +kernel) ⟨by decide, by decide⟩ rfl rfl (Nat.le_of_ble_eq_true rfl) dX6_markOf_57 ⟨Nat.zero_le _, Nat.zero_le _⟩ ?_
        rintro r2 G2 H locs ⟨hr2, hG2⟩ hw
        replace hw := hw.eq hG2
        rw [hr2]
        clear hr2 hG2
        exact m_iret hC hlk hr hw rfl (by unfold mX6_markOf; rw [if_pos c12]; rw [if_pos c31]; rw [if_neg (not_not_intro c52)]; exact ⟨by (dsimp only; try rfl), by (dsimp only; try rfl)⟩) dX6_markOf_60
    · refine lv_aload_n hC.1 hC.2.1 dX6_markOf_34 rfl (lv_at hl 1 rfl) ?_
      refine lv_bipush (v := (nI 22)) hC.1 hC.2.1 dX6_markOf_35 (by decide) ?_
      refine m_callv (n := 1) hC hl.1 hK hw (tX6_begin l G (nI 22) (h0)) (lw_V q1457 q1459 qs52 q66 q1460) rfl rfl (by decide +kernel) ⟨by decide, by decide⟩ rfl rfl (Nat.le_of_ble_eq_true rfl) dX6_markOf_37 ⟨Nat.zero_le _, Nat.zero_le _⟩ ?_
      rintro G2 H locs hG2 hw
      replace hw := hw.eq hG2
      clear hG2
      refine lv_aload_n hC.1 hC.2.1 dX6_markOf_40 rfl (lv_at hl 1 rfl) ?_
      refine lv_iload_n hC.1 hC.2.1 dX6_markOf_41 rfl (lv_at hl 2 rfl) ?_
      refine m_calli (n := 1) hC hl.1 hK hw (tX6_wallMark l (beginG G (nI 22)) q (trOk_begin (h0)) (by omega)) (lw_V q1473 q1475 qs56 q66 q1476) rfl rfl (by decide +kernel) ⟨by decide, by decide⟩ rfl rfl (Nat.le_of_ble_eq_true rfl) dX6_markOf_42 ⟨Nat.zero_le _, Nat.zero_le _⟩ ?_
      rintro r2 G2 H locs ⟨hr2, hG2⟩ hw
      replace hw := hw.eq hG2
      rw [hr2]
      clear hr2 hG2
      refine lv_sipush (v := (nI 1000)) hC.1 hC.2.1 dX6_markOf_45 (by decide) ?_
      refine lv_isub hC.1 hC.2.1 dX6_markOf_48 ?_
      exact m_iret hC hlk hr hw rfl (by unfold mX6_markOf; rw [if_pos c12]; rw [if_neg (not_not_intro c31)]; exact ⟨by (dsimp only; try rfl), by (dsimp only; try rfl)⟩) dX6_markOf_49
  · refine lv_aload_n hC.1 hC.2.1 dX6_markOf_15 rfl (lv_at hl 1 rfl) ?_
    refine lv_bipush (v := (nI 24)) hC.1 hC.2.1 dX6_markOf_16 (by decide) ?_
    refine m_callv (n := 1) hC hl.1 hK hw (tX6_begin l G (nI 24) (h0)) (lw_V q1457 q1459 qs52 q66 q1460) rfl rfl (by decide +kernel) ⟨by decide, by decide⟩ rfl rfl (Nat.le_of_ble_eq_true rfl) dX6_markOf_18 ⟨Nat.zero_le _, Nat.zero_le _⟩ ?_
    rintro G2 H locs hG2 hw
    replace hw := hw.eq hG2
    clear hG2
    refine lv_iconst (v := (nI 2)) hC.1 hC.2.1 dX6_markOf_21 (by decide) ?_
    refine lv_aload_n hC.1 hC.2.1 dX6_markOf_22 rfl (lv_at hl 1 rfl) ?_
    refine lv_iload_n hC.1 hC.2.1 dX6_markOf_23 rfl (lv_at hl 2 rfl) ?_
    refine m_calli (n := 1) hC hl.1 hK hw (tX6_wallMark l (beginG G (nI 24)) q (trOk_begin (h0)) (by omega)) (lw_V q1473 q1475 qs56 q66 q1476) rfl rfl (by decide +kernel) ⟨by decide, by decide⟩ rfl rfl (Nat.le_of_ble_eq_true rfl) dX6_markOf_24 ⟨Nat.zero_le _, Nat.zero_le _⟩ ?_
    rintro r2 G2 H locs ⟨hr2, hG2⟩ hw
    replace hw := hw.eq hG2
    rw [hr2]
    clear hr2 hG2
    refine lv_imul hC.1 hC.2.1 dX6_markOf_27 ?_
    exact m_iret hC hlk hr hw rfl (by unfold mX6_markOf; rw [if_neg (not_not_intro c12)]; exact ⟨by (dsimp only; try rfl), by (dsimp only; try rfl)⟩) dX6_markOf_28

noncomputable def mX6_wallSize (G : mG) (q : Nat) : Int32 × mG := (((lentF ((beginG G (nI 11)) 6) (nI 10) q) + ((mX6_markOf (beginG (beginG G (nI 11)) (nI 10)) q).1)), (mX6_markOf (beginG (beginG G (nI 11)) (nI 10)) q).2)
set_option maxHeartbeats 4000000 in
theorem tX6_wallSize (l : Launch) (G : mG) (q : Nat) (h0 : trOk G) (h1 : q < 16) : mI l yX6_wallSize cX6_wallSize 3 .int ({ frames := 7, cells := 0, slots := 0, locals := 161 } : Room) [.int (nI q)] G (fun r G' => r = ((mX6_wallSize G q).1) ∧ G' = (mX6_wallSize G q).2) := by
  refine mI.of (by decide) rfl (fun _ => Nat.le_of_ble_eq_true rfl) ?_
  intro D dA ad p e s m below meth cd ls hC hlk hr hK hl hw
  have hl : lv_has ls 3 [(0, .ref (ad 0)), (1, .int (nI q))] := hl
  refine lv_aload_n hC.1 hC.2.1 dX6_wallSize_0 rfl (lv_at hl 0 rfl) ?_
  refine lv_bipush (v := (nI 11)) hC.1 hC.2.1 dX6_wallSize_1 (by decide) ?_
  refine m_callv (n := 1) hC hl.1 hK hw (tX6_begin l G (nI 11) (h0)) (lw_V q1457 q1459 qs52 q66 q1460) rfl rfl (by decide +kernel) ⟨by decide, by decide⟩ rfl rfl (Nat.le_of_ble_eq_true rfl) dX6_wallSize_3 ⟨Nat.zero_le _, Nat.zero_le _⟩ ?_
  rintro G2 H locs hG2 hw
  replace hw := hw.eq hG2
  clear hG2
  refine lv_aload_n hC.1 hC.2.1 dX6_wallSize_6 rfl (lv_at hl 0 rfl) ?_
  refine lv_iload_n hC.1 hC.2.1 dX6_wallSize_7 rfl (lv_at hl 1 rfl) ?_
  refine lv_bipush (v := (nI 10)) hC.1 hC.2.1 dX6_wallSize_8 (by decide) ?_
  refine m_calli (n := 2) hC hl.1 hK hw (tX6_lent l (beginG G (nI 11)) q (nI 10) (trOk_begin (h0)) (by omega)) (lw_V q1465 q1467 qs54 q66 q1468) rfl rfl (by decide +kernel) ⟨by decide, by decide⟩ rfl rfl (Nat.le_of_ble_eq_true rfl) dX6_wallSize_10 ⟨Nat.zero_le _, Nat.zero_le _⟩ ?_
  rintro r2 G2 H locs ⟨hr2, hG2⟩ hw
  replace hw := hw.eq hG2
  rw [hr2]
  clear hr2 hG2
  refine lv_istore_n (lv' := [(2, .int (lentF ((beginG G (nI 11)) 6) (nI 10) q)), (0, .ref (ad 0)), (1, .int (nI q))]) hC.1 hC.2.1 dX6_wallSize_13 rfl hl (by decide) rfl (fun ls hl => ?_)
  refine lv_iload_n hC.1 hC.2.1 dX6_wallSize_14 rfl (lv_at hl 0 rfl) ?_
  refine lv_aload_n hC.1 hC.2.1 dX6_wallSize_15 rfl (lv_at hl 1 rfl) ?_
  refine lv_iload_n hC.1 hC.2.1 dX6_wallSize_16 rfl (lv_at hl 2 rfl) ?_
  refine m_calli (n := 1) hC hl.1 hK hw (tX6_markOf l (beginG (beginG G (nI 11)) (nI 10)) q (trOk_begin (trOk_begin (h0))) (by omega)) (lw_V q1469 q1471 qs55 q66 q1472) rfl rfl (by decide +kernel) ⟨by decide, by decide⟩ rfl rfl (Nat.le_of_ble_eq_true rfl) dX6_wallSize_17 ⟨Nat.zero_le _, Nat.zero_le _⟩ ?_
  rintro r2 G2 H locs ⟨hr2, hG2⟩ hw
  replace hw := hw.eq hG2
  rw [hr2]
  clear hr2 hG2
  refine lv_iadd hC.1 hC.2.1 dX6_wallSize_20 ?_
  exact m_iret hC hlk hr hw rfl (by unfold mX6_wallSize; exact ⟨by (dsimp only; try rfl), by (dsimp only; try rfl)⟩) dX6_wallSize_21

noncomputable def mX6_sizeOf (G : mG) (q : Nat) : Int32 × mG := if ¬ (G 6 (9 + q)) = (nI 2) then if (G 6 (9 + q)) < (nI 4) then (((mX6_wallSize G q).1), (mX6_wallSize G q).2) else (((mX6_sizeOfHand G q).1), (mX6_sizeOfHand G q).2) else ((-((mX6_wallSize (beginG G (nI 12)) q).1)), (mX6_wallSize (beginG G (nI 12)) q).2)
set_option maxHeartbeats 4000000 in
theorem tX6_sizeOf (l : Launch) (G : mG) (q : Nat) (h0 : trOk G) (h1 : q < 16) : mI l yX6_sizeOf cX6_sizeOf 3 .int ({ frames := 8, cells := 0, slots := 0, locals := 183 } : Room) [.int (nI q)] G (fun r G' => r = ((mX6_sizeOf G q).1) ∧ G' = (mX6_sizeOf G q).2) := by
  refine mI.of (by decide) rfl (fun _ => Nat.le_of_ble_eq_true rfl) ?_
  intro D dA ad p e s m below meth cd ls hC hlk hr hK hl hw
  have hl : lv_has ls 3 [(0, .ref (ad 0)), (1, .int (nI q))] := hl
  refine lv_aload_n hC.1 hC.2.1 dX6_sizeOf_0 rfl (lv_at hl 0 rfl) ?_
  refine m_ga hC hK hw 5 (by decide) rfl q1121 rfl dX6_sizeOf_1 ?_
  refine lv_bipush (v := (nI 9)) hC.1 hC.2.1 dX6_sizeOf_4 (by decide) ?_
  refine lv_iload_n hC.1 hC.2.1 dX6_sizeOf_6 rfl (lv_at hl 1 rfl) ?_
  refine k_add hC dX6_sizeOf_7 ?_
  refine m_ld hC hK hw 6 (by decide) (by decide) (by decide) (by simp only [mLen]; omega) (by omega) (v := (G 6 (9 + q))) (rfl) dX6_sizeOf_8 ?_
  refine lv_istore_n (lv' := [(2, .int (G 6 (9 + q))), (0, .ref (ad 0)), (1, .int (nI q))]) hC.1 hC.2.1 dX6_sizeOf_9 rfl hl (by decide) rfl (fun ls hl => ?_)
  refine lv_iload_n hC.1 hC.2.1 dX6_sizeOf_10 rfl (lv_at hl 0 rfl) ?_
  refine lv_iconst (v := (nI 2)) hC.1 hC.2.1 dX6_sizeOf_11 (by decide) ?_
  refine lv_icmp_ne (tgt := 28) hC.1 hC.2.1 dX6_sizeOf_12 (by decide) (fun c12 => ?_) (fun c12 => ?_)
  · refine lv_iload_n hC.1 hC.2.1 dX6_sizeOf_28 rfl (lv_at hl 0 rfl) ?_
    refine lv_iconst (v := (nI 4)) hC.1 hC.2.1 dX6_sizeOf_29 (by decide) ?_
    refine lv_icmp_lt (tgt := 41) hC.1 hC.2.1 dX6_sizeOf_30 (by decide) (fun c30 => ?_) (fun c30 => ?_)
    · refine lv_aload_n hC.1 hC.2.1 dX6_sizeOf_41 rfl (lv_at hl 1 rfl) ?_
      refine lv_iload_n hC.1 hC.2.1 dX6_sizeOf_42 rfl (lv_at hl 2 rfl) ?_
      refine m_calli (n := 1) hC hl.1 hK hw (tX6_wallSize l G q (h0) (by omega)) (lw_V q1461 q1463 qs53 q66 q1464) rfl rfl (by decide +kernel) ⟨by decide, by decide⟩ rfl rfl (Nat.le_of_ble_eq_true rfl) dX6_sizeOf_43 ⟨Nat.zero_le _, Nat.zero_le _⟩ ?_
      rintro r2 G2 H locs ⟨hr2, hG2⟩ hw
      replace hw := hw.eq hG2
      rw [hr2]
      clear hr2 hG2
      exact m_iret hC hlk hr hw rfl (by unfold mX6_sizeOf; rw [if_pos c12]; rw [if_pos c30]; exact ⟨by (dsimp only; try rfl), by (dsimp only; try rfl)⟩) dX6_sizeOf_46
    · refine lv_aload_n hC.1 hC.2.1 dX6_sizeOf_33 rfl (lv_at hl 1 rfl) ?_
      refine lv_iload_n hC.1 hC.2.1 dX6_sizeOf_34 rfl (lv_at hl 2 rfl) ?_
      refine m_calli (n := 1) hC hl.1 hK hw (tX6_sizeOfHand l G q (h0) (by omega)) (lw_V q1477 q1479 qs57 q66 q1480) rfl rfl (by decide +kernel) ⟨by decide, by decide⟩ rfl rfl (Nat.le_of_ble_eq_true rfl) dX6_sizeOf_35 ⟨Nat.zero_le _, Nat.zero_le _⟩ ?_
      rintro r2 G2 H locs ⟨hr2, hG2⟩ hw
      replace hw := hw.eq hG2
      rw [hr2]
      clear hr2 hG2
      refine lv_goto (tgt := 46) hC.1 hC.2.1 dX6_sizeOf_38 (by decide) ?_
      exact m_iret hC hlk hr hw rfl (by unfold mX6_sizeOf; rw [if_pos c12]; rw [if_neg c30]; exact ⟨by (dsimp only; try rfl), by (dsimp only; try rfl)⟩) dX6_sizeOf_46
  · refine lv_aload_n hC.1 hC.2.1 dX6_sizeOf_15 rfl (lv_at hl 1 rfl) ?_
    refine lv_bipush (v := (nI 12)) hC.1 hC.2.1 dX6_sizeOf_16 (by decide) ?_
    refine m_callv (n := 1) hC hl.1 hK hw (tX6_begin l G (nI 12) (h0)) (lw_V q1457 q1459 qs52 q66 q1460) rfl rfl (by decide +kernel) ⟨by decide, by decide⟩ rfl rfl (Nat.le_of_ble_eq_true rfl) dX6_sizeOf_18 ⟨Nat.zero_le _, Nat.zero_le _⟩ ?_
    rintro G2 H locs hG2 hw
    replace hw := hw.eq hG2
    clear hG2
    refine lv_aload_n hC.1 hC.2.1 dX6_sizeOf_21 rfl (lv_at hl 1 rfl) ?_
    refine lv_iload_n hC.1 hC.2.1 dX6_sizeOf_22 rfl (lv_at hl 2 rfl) ?_
    refine m_calli (n := 1) hC hl.1 hK hw (tX6_wallSize l (beginG G (nI 12)) q (trOk_begin (h0)) (by omega)) (lw_V q1461 q1463 qs53 q66 q1464) rfl rfl (by decide +kernel) ⟨by decide, by decide⟩ rfl rfl (Nat.le_of_ble_eq_true rfl) dX6_sizeOf_23 ⟨Nat.zero_le _, Nat.zero_le _⟩ ?_
    rintro r2 G2 H locs ⟨hr2, hG2⟩ hw
    replace hw := hw.eq hG2
    rw [hr2]
    clear hr2 hG2
    refine lv_ineg hC.1 hC.2.1 dX6_sizeOf_26 ?_
    exact m_iret hC hlk hr hw rfl (by unfold mX6_sizeOf; rw [if_neg (not_not_intro c12)]; exact ⟨by (dsimp only; try rfl), by (dsimp only; try rfl)⟩) dX6_sizeOf_27

noncomputable def mX6_ask (G : mG) (cell : Int32) (what : Int32) : Int32 × mG := if ¬ (G 0 4) = 0 then if (inB cell 0 (nI 15)) = false then ((-1000001 : Int32), G) else if (inB what 0 (nI 1)) = true then if (isWk (G 6) (ix cell)) = true then if ¬ what = 0 then (((mX6_markOf (g2 G 0 27 (nI 0)) (ix cell)).1), (mX6_markOf (g2 G 0 27 (nI 0)) (ix cell)).2) else (((mX6_sizeOf (g2 G 0 27 (nI 0)) (ix cell)).1), (mX6_sizeOf (g2 G 0 27 (nI 0)) (ix cell)).2) else ((-1000002 : Int32), G) else ((-1000001 : Int32), G) else ((-1000002 : Int32), G)
set_option maxHeartbeats 4000000 in
theorem tX6_ask (l : Launch) (G : mG) (cell : Int32) (what : Int32) : mI l yX6_ask cX6_ask 3 .int ({ frames := 9, cells := 0, slots := 0, locals := 205 } : Room) [.int cell, .int what] G (fun r G' => r = ((mX6_ask G cell what).1) ∧ G' = (mX6_ask G cell what).2) := by
  refine mI.of (by decide) rfl (fun _ => Nat.le_of_ble_eq_true rfl) ?_
  intro D dA ad p e s m below meth cd ls hC hlk hr hK hl hw
  have hl : lv_has ls 3 [(0, .ref (ad 0)), (1, .int cell), (2, .int what)] := hl
  refine lv_aload_n hC.1 hC.2.1 dX6_ask_0 rfl (lv_at hl 0 rfl) ?_
  refine m_gi hC hK hw 4 (by decide) rfl q1120 rfl (v := (G 0 4)) (rfl) dX6_ask_1 ?_
  refine lv_if_ne (tgt := 10) hC.1 hC.2.1 dX6_ask_4 (by decide) (fun c4 => ?_) (fun c4 => ?_)
  · refine lv_iload_n hC.1 hC.2.1 dX6_ask_10 rfl (lv_at hl 1 rfl) ?_
    refine pS_call (n := 1) hC hl.1 (tX6_isCell l cell ) (lw_S q1295 q1296 q66 q1297) rfl rfl (by decide +kernel) ⟨by decide, by decide⟩ rfl rfl (Nat.le_of_ble_eq_true rfl) dX6_ask_11 ⟨Nat.zero_le _, Nat.zero_le _⟩ ?_
    refine k_beq (tgt := 27) hC dX6_ask_14 (by decide) (fun c14 => ?_) (fun c14 => ?_)
    · refine lv_ldc hC.1 hC.2.1 hC.2.2.2.1 (hC.2.2.2.2 _ q1214) dX6_ask_27 ?_
      exact m_iret hC hlk hr hw rfl (by unfold mX6_ask; rw [if_pos c4]; rw [if_pos c14]; exact ⟨by (dsimp only; try rfl), by (dsimp only; try rfl)⟩) dX6_ask_29
    · refine lv_iload_n hC.1 hC.2.1 dX6_ask_17 rfl (lv_at hl 2 rfl) ?_
      refine lv_i2l hC.1 hC.2.1 dX6_ask_18 rfl ?_
      refine lv_lconst (v := 0) hC.1 hC.2.1 dX6_ask_19 (by decide) ?_
      refine lv_lconst (v := 1) hC.1 hC.2.1 dX6_ask_20 (by decide) ?_
      refine pS_call (n := 3) hC hl.1 (tX6_inI l what 0 (nI 1)) (lw_S q1210 q1211 q66 q1212) rfl rfl (by decide +kernel) ⟨by decide, by decide⟩ rfl rfl (Nat.le_of_ble_eq_true rfl) dX6_ask_21 ⟨Nat.zero_le _, Nat.zero_le _⟩ ?_
      refine k_bne (tgt := 30) hC dX6_ask_24 (by decide) (fun c24 => ?_) (fun c24 => ?_)
      · obtain ⟨q, hq, rfl⟩ := inB_nat (n := 15) (by decide) c14
        refine lv_aload_n hC.1 hC.2.1 dX6_ask_30 rfl (lv_at hl 0 rfl) ?_
        refine lv_iload_n hC.1 hC.2.1 dX6_ask_31 rfl (lv_at hl 1 rfl) ?_
        refine m_calli (n := 1) hC hl.1 hK hw (tX6_isWork l G q (by omega)) (lw_V q1301 q1303 qs38 q66 q1304) rfl rfl (by decide +kernel) ⟨by decide, by decide⟩ rfl rfl (Nat.le_of_ble_eq_true rfl) dX6_ask_32 ⟨Nat.zero_le _, Nat.zero_le _⟩ ?_
        rintro r2 G2 H locs ⟨hr2, hG2⟩ hw
        replace hw := hw.eq hG2
        rw [hr2]
        clear hr2 hG2
        refine k_bne (tgt := 41) hC dX6_ask_35 (by decide) (fun c35 => ?_) (fun c35 => ?_)
        · refine lv_aload_n hC.1 hC.2.1 dX6_ask_41 rfl (lv_at hl 0 rfl) ?_
          refine lv_iconst (v := (nI 0)) hC.1 hC.2.1 dX6_ask_42 (by decide) ?_
          refine m_pi hC hK hw 27 (by decide) rfl rfl q1143 rfl rfl rfl rfl dX6_ask_43 (fun H locs hw => ?_)
          refine lv_iload_n hC.1 hC.2.1 dX6_ask_46 rfl (lv_at hl 2 rfl) ?_
          refine lv_if_ne (tgt := 58) hC.1 hC.2.1 dX6_ask_47 (by decide) (fun c47 => ?_) (fun c47 => ?_)
          · refine lv_aload_n hC.1 hC.2.1 dX6_ask_58 rfl (lv_at hl 0 rfl) ?_
            refine lv_iload_n hC.1 hC.2.1 dX6_ask_59 rfl (lv_at hl 1 rfl) ?_
            refine m_calli (n := 1) hC hl.1 hK hw (tX6_markOf l (g2 G 0 27 (nI 0)) q (⟨0, by decide, rfl⟩) (by omega)) (lw_V q1469 q1471 qs55 q66 q1472) rfl rfl (by decide +kernel) ⟨by decide, by decide⟩ rfl rfl (Nat.le_of_ble_eq_true rfl) dX6_ask_60 ⟨Nat.zero_le _, Nat.zero_le _⟩ ?_
            rintro r2 G2 H locs ⟨hr2, hG2⟩ hw
            replace hw := hw.eq hG2
            rw [hr2]
            clear hr2 hG2
            exact m_iret hC hlk hr hw rfl (by unfold mX6_ask; simp only [ix_nI (show q < 2147483648 by omega)]; rw [if_pos c4]; rw [if_neg (b_nf c14)]; rw [if_pos c24]; rw [if_pos c35]; rw [if_pos c47]; exact ⟨by (dsimp only; try rfl), by (dsimp only; try rfl)⟩) dX6_ask_63
          · refine lv_aload_n hC.1 hC.2.1 dX6_ask_50 rfl (lv_at hl 0 rfl) ?_
            refine lv_iload_n hC.1 hC.2.1 dX6_ask_51 rfl (lv_at hl 1 rfl) ?_
            refine m_calli (n := 1) hC hl.1 hK hw (tX6_sizeOf l (g2 G 0 27 (nI 0)) q (⟨0, by decide, rfl⟩) (by omega)) (lw_V q1453 q1455 qs51 q66 q1456) rfl rfl (by decide +kernel) ⟨by decide, by decide⟩ rfl rfl (Nat.le_of_ble_eq_true rfl) dX6_ask_52 ⟨Nat.zero_le _, Nat.zero_le _⟩ ?_
            rintro r2 G2 H locs ⟨hr2, hG2⟩ hw
            replace hw := hw.eq hG2
            rw [hr2]
            clear hr2 hG2
            refine lv_goto (tgt := 63) hC.1 hC.2.1 dX6_ask_55 (by decide) ?_
            exact m_iret hC hlk hr hw rfl (by unfold mX6_ask; simp only [ix_nI (show q < 2147483648 by omega)]; rw [if_pos c4]; rw [if_neg (b_nf c14)]; rw [if_pos c24]; rw [if_pos c35]; rw [if_neg (not_not_intro c47)]; exact ⟨by (dsimp only; try rfl), by (dsimp only; try rfl)⟩) dX6_ask_63
        · refine lv_ldc hC.1 hC.2.1 hC.2.2.2.1 (hC.2.2.2.2 _ q1294) dX6_ask_38 ?_
          exact m_iret hC hlk hr hw rfl (by unfold mX6_ask; simp only [ix_nI (show q < 2147483648 by omega)]; rw [if_pos c4]; rw [if_neg (b_nf c14)]; rw [if_pos c24]; rw [if_neg (b_nt c35)]; exact ⟨by (dsimp only; try rfl), by (dsimp only; try rfl)⟩) dX6_ask_40
      · refine lv_ldc hC.1 hC.2.1 hC.2.2.2.1 (hC.2.2.2.2 _ q1214) dX6_ask_27 ?_
        exact m_iret hC hlk hr hw rfl (by unfold mX6_ask; rw [if_pos c4]; rw [if_neg (b_nf c14)]; rw [if_neg (b_nt c24)]; exact ⟨by (dsimp only; try rfl), by (dsimp only; try rfl)⟩) dX6_ask_29
  · refine lv_ldc hC.1 hC.2.1 hC.2.2.2.1 (hC.2.2.2.2 _ q1294) dX6_ask_7 ?_
    exact m_iret hC hlk hr hw rfl (by unfold mX6_ask; rw [if_neg (not_not_intro c4)]; exact ⟨by (dsimp only; try rfl), by (dsimp only; try rfl)⟩) dX6_ask_9

noncomputable def mX6_trace (G : mG) (i : Int32) : Int32 × mG := if (inB i 0 ((G 0 27) - (nI 1))) = false then ((-1000000 : Int32), G) else ((G 27 (ix i)), G)
set_option maxHeartbeats 4000000 in
theorem tX6_trace (l : Launch) (G : mG) (i : Int32) (h0 : trOk G) : mI l yX6_trace cX6_trace 2 .int ({ frames := 1, cells := 0, slots := 0, locals := 25 } : Room) [.int i] G (fun r G' => r = ((mX6_trace G i).1) ∧ G' = (mX6_trace G i).2) := by
  refine mI.of (by decide) rfl (fun _ => Nat.le_of_ble_eq_true rfl) ?_
  intro D dA ad p e s m below meth cd ls hC hlk hr hK hl hw
  have hl : lv_has ls 2 [(0, .ref (ad 0)), (1, .int i)] := hl
  have ⟨tm, htm, etm⟩ := h0
  refine lv_iload_n hC.1 hC.2.1 dX6_trace_0 rfl (lv_at hl 1 rfl) ?_
  refine lv_i2l hC.1 hC.2.1 dX6_trace_1 rfl ?_
  refine lv_lconst (v := 0) hC.1 hC.2.1 dX6_trace_2 (by decide) ?_
  refine lv_aload_n hC.1 hC.2.1 dX6_trace_3 rfl (lv_at hl 0 rfl) ?_
  refine m_gi hC hK hw 27 (by decide) rfl q1143 rfl (v := (G 0 27)) (rfl) dX6_trace_4 ?_
  refine lv_iconst (v := (nI 1)) hC.1 hC.2.1 dX6_trace_7 (by decide) ?_
  refine lv_isub hC.1 hC.2.1 dX6_trace_8 ?_
  refine lv_i2l hC.1 hC.2.1 dX6_trace_9 rfl ?_
  refine pS_call (n := 3) hC hl.1 (tX6_inI l i 0 ((G 0 27) - (nI 1))) (lw_S q1210 q1211 q66 q1212) rfl rfl (by decide +kernel) ⟨by decide, by decide⟩ rfl rfl (Nat.le_of_ble_eq_true rfl) dX6_trace_10 ⟨Nat.zero_le _, Nat.zero_le _⟩ ?_
  refine k_beq (tgt := 25) hC dX6_trace_13 (by decide) (fun c13 => ?_) (fun c13 => ?_)
  · refine lv_ldc hC.1 hC.2.1 hC.2.2.2.1 (hC.2.2.2.2 _ q1363) dX6_trace_25 ?_
    exact m_iret hC hlk hr hw rfl (by unfold mX6_trace; rw [if_pos c13]; exact ⟨by (dsimp only; try rfl), by (dsimp only; try rfl)⟩) dX6_trace_27
  · obtain ⟨j, hj, rfl⟩ := inB_sz (by omega) etm c13
    refine lv_aload_n hC.1 hC.2.1 dX6_trace_16 rfl (lv_at hl 0 rfl) ?_
    refine m_ga hC hK hw 26 (by decide) rfl q1142 rfl dX6_trace_17 ?_
    refine lv_iload_n hC.1 hC.2.1 dX6_trace_20 rfl (lv_at hl 1 rfl) ?_
    refine m_ld hC hK hw 27 (by decide) (by decide) (by decide) (by simp only [mLen]; omega) (by omega) (v := (G 27 j)) (rfl) dX6_trace_21 ?_
    refine lv_goto (tgt := 27) hC.1 hC.2.1 dX6_trace_22 (by decide) ?_
    exact m_iret hC hlk hr hw rfl (by unfold mX6_trace; simp only [ix_nI (show j < 2147483648 by omega)]; rw [if_neg (b_nf c13)]; exact ⟨by (dsimp only; try rfl), by (dsimp only; try rfl)⟩) dX6_trace_27

noncomputable def mX6_count (G : mG) (what : Int32) : Int32 × mG := if what = nI 0 then ((nI (cntR (G 2) 8)), blowG G) else if what = nI 1 then ((nI (cntW ((blowG G) 6) 16)), (blowG G)) else if what = nI 2 then (((blowG G) 6 0), blowG G) else if what = nI 3 then (((blowG G) 0 19), blowG G) else if what = nI 4 then ((((((blowG G) 19 16) + ((blowG G) 19 17)) + ((blowG G) 19 18)) + ((blowG G) 19 19)), blowG G) else if what = nI 5 then (((blowG G) 0 22), blowG G) else if what = nI 6 then (((blowG G) 0 8), blowG G) else ((-1000001 : Int32), blowG G)
set_option maxHeartbeats 4000000 in
theorem tX6_count (l : Launch) (G : mG) (what : Int32) : mI l yX6_count cX6_count 4 .int ({ frames := 4, cells := 0, slots := 0, locals := 96 } : Room) [.int what] G (fun r G' => r = ((mX6_count G what).1) ∧ G' = (mX6_count G what).2) := by
  refine mI.of (by decide) rfl (fun _ => Nat.le_of_ble_eq_true rfl) ?_
  intro D dA ad p e s m below meth cd ls hC hlk hr hK hl hw
  have hl : lv_has ls 4 [(0, .ref (ad 0)), (1, .int what)] := hl
  refine lv_iconst (v := (nI 0)) hC.1 hC.2.1 dX6_count_0 (by decide) ?_
  refine lv_istore_n (lv' := [(2, .int (nI 0)), (0, .ref (ad 0)), (1, .int what)]) hC.1 hC.2.1 dX6_count_1 rfl hl (by decide) rfl (fun ls hl => ?_)
  refine lv_iconst (v := (nI 0)) hC.1 hC.2.1 dX6_count_2 (by decide) ?_
  refine lv_istore_n (lv' := [(3, .int (nI 0)), (2, .int (nI 0)), (0, .ref (ad 0)), (1, .int what)]) hC.1 hC.2.1 dX6_count_3 rfl hl (by decide) rfl (fun ls hl => ?_)
  refine W.loop (fun ls i H locs => lv_has ls 4 [(0, .ref (ad 0)), (1, .int what), (2, .int (nI (cntR (G 2) i))), (3, .int (nI i))] ∧ mw D dA (nA mDom ad s.heap.size) s.heap ad G H locs ∧ (i ≤ 8)) 4 (fun _ => []) (fun i => 8 - i) ?_ 0 ⟨hl.sub' [2, 3, 1, 0] (by rfl), hw, by omega⟩
  rintro ls i H locs ⟨hl, hw, hi⟩ ih4
  have hcn := cntR_le (G 2) i
  refine lv_iload_n hC.1 hC.2.1 dX6_count_4 rfl (lv_at hl 3 rfl) ?_
  refine lv_bipush (v := (nI 8)) hC.1 hC.2.1 dX6_count_5 (by decide) ?_
  refine k_ge (tgt := 33) hC (by omega) (by omega) dX6_count_7 (by decide) (fun c7 => ?_) (fun c7 => ?_)
  · have eN : i = 8 := by omega
    subst eN
    refine lv_aload_n hC.1 hC.2.1 dX6_count_33 rfl (lv_at hl 0 rfl) ?_
    refine m_callv (n := 0) hC hl.1 hK hw (tX6_blow l G  ) (lw_V q1343 q1345 qs43 q66 q1346) rfl rfl (by decide +kernel) ⟨by decide, by decide⟩ rfl rfl (Nat.le_of_ble_eq_true rfl) dX6_count_34 ⟨Nat.zero_le _, Nat.zero_le _⟩ ?_
    rintro G2 H locs hG2 hw
    replace hw := hw.eq hG2
    clear hG2
    refine lv_iload_n hC.1 hC.2.1 dX6_count_37 rfl (lv_at hl 1 rfl) ?_
    by_cases t38_0 : what = nI 0
    · refine lv_tableIn (off := 42) (tgt := 80) hC.1 hC.2.1 dX6_count_38 (by rw [t38_0]; decide) (by rw [t38_0]; decide) (by rw [t38_0]; decide) (by decide) ?_
      refine lv_iload_n hC.1 hC.2.1 dX6_count_80 rfl (lv_at hl 2 rfl) ?_
      exact m_iret hC hlk hr hw rfl (by unfold mX6_count; rw [if_pos t38_0]; exact ⟨by (dsimp only; try rfl), by (dsimp only; try rfl)⟩) dX6_count_81
    by_cases t38_1 : what = nI 1
    · refine lv_tableIn (off := 44) (tgt := 82) hC.1 hC.2.1 dX6_count_38 (by rw [t38_1]; decide) (by rw [t38_1]; decide) (by rw [t38_1]; decide) (by decide) ?_
      refine lv_aload_n hC.1 hC.2.1 dX6_count_82 rfl (lv_at hl 0 rfl) ?_
      refine m_calli (n := 0) hC hl.1 hK hw (tX6_workMany l (blowG G)  ) (lw_V q1305 q1307 qs39 q66 q1308) rfl rfl (by decide +kernel) ⟨by decide, by decide⟩ rfl rfl (Nat.le_of_ble_eq_true rfl) dX6_count_83 ⟨Nat.zero_le _, Nat.zero_le _⟩ ?_
      rintro r2 G2 H locs ⟨hr2, hG2⟩ hw
      replace hw := hw.eq hG2
      rw [hr2]
      clear hr2 hG2
      exact m_iret hC hlk hr hw rfl (by unfold mX6_count; rw [if_neg t38_0]; rw [if_pos t38_1]; exact ⟨by (dsimp only; try rfl), by (dsimp only; try rfl)⟩) dX6_count_86
    by_cases t38_2 : what = nI 2
    · refine lv_tableIn (off := 49) (tgt := 87) hC.1 hC.2.1 dX6_count_38 (by rw [t38_2]; decide) (by rw [t38_2]; decide) (by rw [t38_2]; decide) (by decide) ?_
      refine lv_aload_n hC.1 hC.2.1 dX6_count_87 rfl (lv_at hl 0 rfl) ?_
      refine m_ga hC hK hw 5 (by decide) rfl q1121 rfl dX6_count_88 ?_
      refine lv_iconst (v := (nI 0)) hC.1 hC.2.1 dX6_count_91 (by decide) ?_
      refine m_ld hC hK hw 6 (by decide) (by decide) (by decide) (by simp only [mLen]; omega) (by omega) (v := ((blowG G) 6 0)) (rfl) dX6_count_92 ?_
      exact m_iret hC hlk hr hw rfl (by unfold mX6_count; rw [if_neg t38_0]; rw [if_neg t38_1]; rw [if_pos t38_2]; exact ⟨by (dsimp only; try rfl), by (dsimp only; try rfl)⟩) dX6_count_93
    by_cases t38_3 : what = nI 3
    · refine lv_tableIn (off := 56) (tgt := 94) hC.1 hC.2.1 dX6_count_38 (by rw [t38_3]; decide) (by rw [t38_3]; decide) (by rw [t38_3]; decide) (by decide) ?_
      refine lv_aload_n hC.1 hC.2.1 dX6_count_94 rfl (lv_at hl 0 rfl) ?_
      refine m_gi hC hK hw 19 (by decide) rfl q1135 rfl (v := ((blowG G) 0 19)) (rfl) dX6_count_95 ?_
      exact m_iret hC hlk hr hw rfl (by unfold mX6_count; rw [if_neg t38_0]; rw [if_neg t38_1]; rw [if_neg t38_2]; rw [if_pos t38_3]; exact ⟨by (dsimp only; try rfl), by (dsimp only; try rfl)⟩) dX6_count_98
    by_cases t38_4 : what = nI 4
    · refine lv_tableIn (off := 61) (tgt := 99) hC.1 hC.2.1 dX6_count_38 (by rw [t38_4]; decide) (by rw [t38_4]; decide) (by rw [t38_4]; decide) (by decide) ?_
      refine lv_aload_n hC.1 hC.2.1 dX6_count_99 rfl (lv_at hl 0 rfl) ?_
      refine m_ga hC hK hw 18 (by decide) rfl q1134 rfl dX6_count_100 ?_
      refine lv_bipush (v := (nI 16)) hC.1 hC.2.1 dX6_count_103 (by decide) ?_
      refine m_ld hC hK hw 19 (by decide) (by decide) (by decide) (by simp only [mLen]; omega) (by omega) (v := ((blowG G) 19 16)) (rfl) dX6_count_105 ?_
      refine lv_aload_n hC.1 hC.2.1 dX6_count_106 rfl (lv_at hl 0 rfl) ?_
      refine m_ga hC hK hw 18 (by decide) rfl q1134 rfl dX6_count_107 ?_
      refine lv_bipush (v := (nI 17)) hC.1 hC.2.1 dX6_count_110 (by decide) ?_
      refine m_ld hC hK hw 19 (by decide) (by decide) (by decide) (by simp only [mLen]; omega) (by omega) (v := ((blowG G) 19 17)) (rfl) dX6_count_112 ?_
      refine lv_iadd hC.1 hC.2.1 dX6_count_113 ?_
      refine lv_aload_n hC.1 hC.2.1 dX6_count_114 rfl (lv_at hl 0 rfl) ?_
      refine m_ga hC hK hw 18 (by decide) rfl q1134 rfl dX6_count_115 ?_
      refine lv_bipush (v := (nI 18)) hC.1 hC.2.1 dX6_count_118 (by decide) ?_
      refine m_ld hC hK hw 19 (by decide) (by decide) (by decide) (by simp only [mLen]; omega) (by omega) (v := ((blowG G) 19 18)) (rfl) dX6_count_120 ?_
      refine lv_iadd hC.1 hC.2.1 dX6_count_121 ?_
      refine lv_aload_n hC.1 hC.2.1 dX6_count_122 rfl (lv_at hl 0 rfl) ?_
      refine m_ga hC hK hw 18 (by decide) rfl q1134 rfl dX6_count_123 ?_
      refine lv_bipush (v := (nI 19)) hC.1 hC.2.1 dX6_count_126 (by decide) ?_
      refine m_ld hC hK hw 19 (by decide) (by decide) (by decide) (by simp only [mLen]; omega) (by omega) (v := ((blowG G) 19 19)) (rfl) dX6_count_128 ?_
      refine lv_iadd hC.1 hC.2.1 dX6_count_129 ?_
      exact m_iret hC hlk hr hw rfl (by unfold mX6_count; rw [if_neg t38_0]; rw [if_neg t38_1]; rw [if_neg t38_2]; rw [if_neg t38_3]; rw [if_pos t38_4]; exact ⟨by (dsimp only; try rfl), by (dsimp only; try rfl)⟩) dX6_count_130
    by_cases t38_5 : what = nI 5
    · refine lv_tableIn (off := 93) (tgt := 131) hC.1 hC.2.1 dX6_count_38 (by rw [t38_5]; decide) (by rw [t38_5]; decide) (by rw [t38_5]; decide) (by decide) ?_
      refine lv_aload_n hC.1 hC.2.1 dX6_count_131 rfl (lv_at hl 0 rfl) ?_
      refine m_gi hC hK hw 22 (by decide) rfl q1138 rfl (v := ((blowG G) 0 22)) (rfl) dX6_count_132 ?_
      exact m_iret hC hlk hr hw rfl (by unfold mX6_count; rw [if_neg t38_0]; rw [if_neg t38_1]; rw [if_neg t38_2]; rw [if_neg t38_3]; rw [if_neg t38_4]; rw [if_pos t38_5]; exact ⟨by (dsimp only; try rfl), by (dsimp only; try rfl)⟩) dX6_count_135
    by_cases t38_6 : what = nI 6
    · refine lv_tableIn (off := 98) (tgt := 136) hC.1 hC.2.1 dX6_count_38 (by rw [t38_6]; decide) (by rw [t38_6]; decide) (by rw [t38_6]; decide) (by decide) ?_
      refine lv_aload_n hC.1 hC.2.1 dX6_count_136 rfl (lv_at hl 0 rfl) ?_
      refine m_gi hC hK hw 8 (by decide) rfl q1124 rfl (v := ((blowG G) 0 8)) (rfl) dX6_count_137 ?_
      exact m_iret hC hlk hr hw rfl (by unfold mX6_count; rw [if_neg t38_0]; rw [if_neg t38_1]; rw [if_neg t38_2]; rw [if_neg t38_3]; rw [if_neg t38_4]; rw [if_neg t38_5]; rw [if_pos t38_6]; exact ⟨by (dsimp only; try rfl), by (dsimp only; try rfl)⟩) dX6_count_140
    refine lv_tableOut (tgt := 141) hC.1 hC.2.1 dX6_count_38 (tsw0_6 t38_0 t38_1 t38_2 t38_3 t38_4 t38_5 t38_6) (by decide) ?_
    refine lv_ldc hC.1 hC.2.1 hC.2.2.2.1 (hC.2.2.2.2 _ q1214) dX6_count_141 ?_
    exact m_iret hC hlk hr hw rfl (by unfold mX6_count; rw [if_neg t38_0]; rw [if_neg t38_1]; rw [if_neg t38_2]; rw [if_neg t38_3]; rw [if_neg t38_4]; rw [if_neg t38_5]; rw [if_neg t38_6]; exact ⟨by (dsimp only; try rfl), by (dsimp only; try rfl)⟩) dX6_count_143
  · refine lv_iload_n hC.1 hC.2.1 dX6_count_10 rfl (lv_at hl 2 rfl) ?_
    refine lv_aload_n hC.1 hC.2.1 dX6_count_11 rfl (lv_at hl 0 rfl) ?_
    refine m_ga hC hK hw 1 (by decide) rfl q1117 rfl dX6_count_12 ?_
    refine lv_iload_n hC.1 hC.2.1 dX6_count_15 rfl (lv_at hl 3 rfl) ?_
    refine m_ld hC hK hw 2 (by decide) (by decide) (by decide) (by simp only [mLen]; omega) (by omega) (v := (G 2 i)) (rfl) dX6_count_16 ?_
    refine lv_if_lt (tgt := 24) hC.1 hC.2.1 dX6_count_17 (by decide) (fun c17 => ?_) (fun c17 => ?_)
    · refine lv_iconst (v := (nI 0)) hC.1 hC.2.1 dX6_count_24 (by decide) ?_
      refine k_add hC dX6_count_25 ?_
      refine lv_istore_n (lv' := [(2, .int (nI ((cntR (G 2) i) + 0))), (0, .ref (ad 0)), (1, .int what), (3, .int (nI i))]) hC.1 hC.2.1 dX6_count_26 rfl hl (by decide) rfl (fun ls hl => ?_)
      refine k_iinc (k := 3) (d := 1) (lv' := [(3, .int (nI (i + 1))), (2, .int (nI ((cntR (G 2) i) + 0))), (0, .ref (ad 0)), (1, .int what)]) hC dX6_count_27 hl rfl (by decide) (by decide) rfl (fun ls hl => ?_)
      refine lv_goto (tgt := 4) hC.1 hC.2.1 dX6_count_30 (by decide) ?_
      exact ih4 ls (i + 1) H locs ⟨hl.sub' [2, 3, 1, 0] (by simp [lv_pick, cntR, c17]), hw, by omega⟩ (by omega)
    · refine lv_iconst (v := (nI 1)) hC.1 hC.2.1 dX6_count_20 (by decide) ?_
      refine lv_goto (tgt := 25) hC.1 hC.2.1 dX6_count_21 (by decide) ?_
      refine k_add hC dX6_count_25 ?_
      refine lv_istore_n (lv' := [(2, .int (nI ((cntR (G 2) i) + 1))), (0, .ref (ad 0)), (1, .int what), (3, .int (nI i))]) hC.1 hC.2.1 dX6_count_26 rfl hl (by decide) rfl (fun ls hl => ?_)
      refine k_iinc (k := 3) (d := 1) (lv' := [(3, .int (nI (i + 1))), (2, .int (nI ((cntR (G 2) i) + 1))), (0, .ref (ad 0)), (1, .int what)]) hC dX6_count_27 hl rfl (by decide) (by decide) rfl (fun ls hl => ?_)
      refine lv_goto (tgt := 4) hC.1 hC.2.1 dX6_count_30 (by decide) ?_
      exact ih4 ls (i + 1) H locs ⟨hl.sub' [2, 3, 1, 0] (by simp [lv_pick, cntR, c17]), hw, by omega⟩ (by omega)
