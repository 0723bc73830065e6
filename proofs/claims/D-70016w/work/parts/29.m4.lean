/-! WindCarverModel: the reader (by gen/m4.py) -/
set_option maxHeartbeats 4000000 in
theorem tX6_nextToken (l : Launch) (G : mG) (b n : Nat) (tk va bg wr wk rx : Int32) (rd : vV) (hb : b ≤ n) (hn : n ≤ 120) (en : G 0 8 = nI n) : mV l yX6_nextToken cX6_nextToken 1 ({ frames := 1, cells := 0, slots := 0, locals := 25 } : Room) [] (rds G (nI b) tk va bg wr wk rx rd) (fun G' => G' = rds G (nI (ntT (G 8) n b).1) (ntT (G 8) n b).2.1 (ntT (G 8) n b).2.2 (nI b) wr wk rx rd) := by
  refine mV.of (by decide) rfl (fun _ => Nat.le_of_ble_eq_true rfl) ?_
  intro D dA ad p e s m below meth cd ls hC hlk hr hK hl hw
  have hl : lv_has ls 1 [(0, .ref (ad 0))] := hl
  refine lv_aload_n hC.1 hC.2.1 dX6_nextToken_0 rfl (lv_at hl 0 rfl) ?_
  refine lv_aload_n hC.1 hC.2.1 dX6_nextToken_1 rfl (lv_at hl 0 rfl) ?_
  refine m_gi hC hK hw 10 (by decide) rfl q1126 rfl (v := (nI b)) (rfl) dX6_nextToken_2 ?_
  refine m_pi hC hK hw 13 (by decide) rfl rfl q1129 rfl rfl rfl rfl dX6_nextToken_5 (fun H locs hw => ?_)
  replace hw := hw.eq (rds_13 _ _ _ _ _ _ _ _ _ _)
  refine lv_aload_n hC.1 hC.2.1 dX6_nextToken_8 rfl (lv_at hl 0 rfl) ?_
  refine lv_aload_n hC.1 hC.2.1 dX6_nextToken_9 rfl (lv_at hl 0 rfl) ?_
  refine m_gi hC hK hw 10 (by decide) rfl q1126 rfl (v := (nI b)) (rfl) dX6_nextToken_10 ?_
  refine lv_aload_n hC.1 hC.2.1 dX6_nextToken_13 rfl (lv_at hl 0 rfl) ?_
  refine m_gi hC hK hw 8 (by decide) rfl q1124 rfl (v := (nI n)) (en) dX6_nextToken_14 ?_
  refine k_ne (tgt := 24) hC (by omega) (by omega) dX6_nextToken_17 (by decide) (fun c17 => ?_) (fun c17 => ?_)
  · refine lv_iconst (v := (nI 0)) hC.1 hC.2.1 dX6_nextToken_24 (by decide) ?_
    refine m_pi hC hK hw 11 (by decide) rfl rfl q1127 rfl rfl rfl rfl dX6_nextToken_25 (fun H locs hw => ?_)
    replace hw := hw.eq (rds_11 _ _ _ _ _ _ _ _ _ _)
    refine lv_aload_n hC.1 hC.2.1 dX6_nextToken_28 rfl (lv_at hl 0 rfl) ?_
    refine lv_iconst (v := (nI 0)) hC.1 hC.2.1 dX6_nextToken_29 (by decide) ?_
    refine m_pi hC hK hw 12 (by decide) rfl rfl q1128 rfl rfl rfl rfl dX6_nextToken_30 (fun H locs hw => ?_)
    replace hw := hw.eq (rds_12 _ _ _ _ _ _ _ _ _ _)
    refine W.loop (fun ls z H locs => lv_has ls 1 [(0, .ref (ad 0))] ∧ (mw D dA (nA mDom ad s.heap.size) s.heap ad (rds G (nI z.1) (nI 0) z.2 (nI b) wr wk rx rd) H locs) ∧ (b ≤ z.1) ∧ (z.1 ≤ n) ∧ (dgV (G 8) n z.1 z.2 = dgV (G 8) n b (nI 0))) 33 (fun _ => []) (fun z => n - z.1) ?_ ((b, nI 0) : Nat × Int32) ⟨hl.sub' [0] (by rfl), hw.eq (by dsimp only), Nat.le_refl b, hb, rfl⟩
    rintro ls z H locs ⟨hl, hw, hz1, hz2, hD⟩ ih33
    refine lv_aload_n hC.1 hC.2.1 dX6_nextToken_33 rfl (lv_at hl 0 rfl) ?_
    refine m_gi hC hK hw 10 (by decide) rfl q1126 rfl (v := (nI z.1)) (rfl) dX6_nextToken_34 ?_
    refine lv_aload_n hC.1 hC.2.1 dX6_nextToken_37 rfl (lv_at hl 0 rfl) ?_
    refine m_gi hC hK hw 8 (by decide) rfl q1124 rfl (v := (nI n)) (en) dX6_nextToken_38 ?_
    refine k_ge (tgt := 119) hC (by omega) (by omega) dX6_nextToken_41 (by decide) (fun c41 => ?_) (fun c41 => ?_)
    · have eD := hD.symm.trans (dgV_e (v := z.2) (dgt_e1 c41))
      refine lv_aload_n hC.1 hC.2.1 dX6_nextToken_119 rfl (lv_at hl 0 rfl) ?_
      refine m_gi hC hK hw 10 (by decide) rfl q1126 rfl (v := (nI z.1)) (rfl) dX6_nextToken_120 ?_
      refine lv_aload_n hC.1 hC.2.1 dX6_nextToken_123 rfl (lv_at hl 0 rfl) ?_
      refine m_gi hC hK hw 13 (by decide) rfl q1129 rfl (v := (nI b)) (rfl) dX6_nextToken_124 ?_
      refine k_le (tgt := 155) hC (by omega) (by omega) dX6_nextToken_127 (by decide) (fun c127 => ?_) (fun c127 => ?_)
      · have eB : z.1 = b := by omega
        refine lv_aload_n hC.1 hC.2.1 dX6_nextToken_155 rfl (lv_at hl 0 rfl) ?_
        refine m_gi hC hK hw 11 (by decide) rfl q1127 rfl (v := (nI 0)) (rfl) dX6_nextToken_156 ?_
        refine k_zne (tgt := 229) hC (by decide) dX6_nextToken_159 (by decide) (fun h => absurd h (by decide)) (fun c159 => ?_)
        refine lv_aload_n hC.1 hC.2.1 dX6_nextToken_162 rfl (lv_at hl 0 rfl) ?_
        refine lv_aload_n hC.1 hC.2.1 dX6_nextToken_163 rfl (lv_at hl 0 rfl) ?_
        refine m_ga hC hK hw 7 (by decide) rfl q1123 rfl dX6_nextToken_164 ?_
        refine lv_aload_n hC.1 hC.2.1 dX6_nextToken_167 rfl (lv_at hl 0 rfl) ?_
        refine m_gi hC hK hw 10 (by decide) rfl q1126 rfl (v := (nI z.1)) (rfl) dX6_nextToken_168 ?_
        refine m_ld hC hK hw 8 (by decide) (by decide) (by decide) (by simp only [mLen]; omega) (by omega) (v := (G 8 z.1)) (rfl) dX6_nextToken_171 ?_
        refine m_pi hC hK hw 12 (by decide) rfl rfl q1128 rfl rfl rfl rfl dX6_nextToken_172 (fun H locs hw => ?_)
        replace hw := hw.eq (rds_12 _ _ _ _ _ _ _ _ _ _)
        refine lv_aload_n hC.1 hC.2.1 dX6_nextToken_175 rfl (lv_at hl 0 rfl) ?_
        refine lv_aload_n hC.1 hC.2.1 dX6_nextToken_176 rfl (lv_at hl 0 rfl) ?_
        refine m_gi hC hK hw 12 (by decide) rfl q1128 rfl (v := (G 8 z.1)) (rfl) dX6_nextToken_177 ?_
        refine lv_i2l hC.1 hC.2.1 dX6_nextToken_180 rfl ?_
        refine lv_ldc2 hC.1 hC.2.1 hC.2.2.2.1 (hC.2.2.2.2 _ q1259) dX6_nextToken_181 ?_
        refine lv_ldc2 hC.1 hC.2.1 hC.2.2.2.1 (hC.2.2.2.2 _ q1260) dX6_nextToken_184 ?_
        refine pS_call (n := 3) hC hl.1 (tX6_inI l (G 8 z.1) (nI 97) (nI 122)) (lw_S q1210 q1211 q66 q1212) rfl rfl (by decide +kernel) ⟨by decide, by decide⟩ rfl rfl (Nat.le_of_ble_eq_true rfl) dX6_nextToken_187 ⟨Nat.zero_le _, Nat.zero_le _⟩ ?_
        refine k_bne (tgt := 211) hC dX6_nextToken_190 (by decide) (fun c190 => ?_) (fun c190 => ?_)
        · refine lv_iconst (v := (nI 1)) hC.1 hC.2.1 dX6_nextToken_211 (by decide) ?_
          refine lv_goto (tgt := 216) hC.1 hC.2.1 dX6_nextToken_212 (by decide) ?_
          refine m_pi hC hK hw 11 (by decide) rfl rfl q1127 rfl rfl rfl rfl dX6_nextToken_216 (fun H locs hw => ?_)
          replace hw := hw.eq (rds_11 _ _ _ _ _ _ _ _ _ _)
          refine lv_aload_n hC.1 hC.2.1 dX6_nextToken_219 rfl (lv_at hl 0 rfl) ?_
          refine lv_dup hC.1 hC.2.1 dX6_nextToken_220 rfl ?_
          refine m_gi hC hK hw 10 (by decide) rfl q1126 rfl (v := (nI z.1)) (rfl) dX6_nextToken_221 ?_
          refine lv_iconst (v := (nI 1)) hC.1 hC.2.1 dX6_nextToken_224 (by decide) ?_
          refine k_add hC dX6_nextToken_225 ?_
          refine m_pi hC hK hw 10 (by decide) rfl rfl q1126 rfl rfl rfl rfl dX6_nextToken_226 (fun H locs hw => ?_)
          replace hw := hw.eq (rds_10 _ _ _ _ _ _ _ _ _ _)
          exact m_vret hC hlk hr hw (by rw [nt_o eD c127 c17, ← eB, ← bI_of_t (b := isLet (G 8 z.1)) (by simp only [isLet, c190, Bool.true_or])]) dX6_nextToken_229
        · refine lv_aload_n hC.1 hC.2.1 dX6_nextToken_193 rfl (lv_at hl 0 rfl) ?_
          refine m_gi hC hK hw 12 (by decide) rfl q1128 rfl (v := (G 8 z.1)) (rfl) dX6_nextToken_194 ?_
          refine lv_bipush (v := (nI 44)) hC.1 hC.2.1 dX6_nextToken_197 (by decide) ?_
          refine lv_icmp_eq (tgt := 211) hC.1 hC.2.1 dX6_nextToken_199 (by decide) (fun c199 => ?_) (fun c199 => ?_)
          · refine lv_iconst (v := (nI 1)) hC.1 hC.2.1 dX6_nextToken_211 (by decide) ?_
            refine lv_goto (tgt := 216) hC.1 hC.2.1 dX6_nextToken_212 (by decide) ?_
            refine m_pi hC hK hw 11 (by decide) rfl rfl q1127 rfl rfl rfl rfl dX6_nextToken_216 (fun H locs hw => ?_)
            replace hw := hw.eq (rds_11 _ _ _ _ _ _ _ _ _ _)
            refine lv_aload_n hC.1 hC.2.1 dX6_nextToken_219 rfl (lv_at hl 0 rfl) ?_
            refine lv_dup hC.1 hC.2.1 dX6_nextToken_220 rfl ?_
            refine m_gi hC hK hw 10 (by decide) rfl q1126 rfl (v := (nI z.1)) (rfl) dX6_nextToken_221 ?_
            refine lv_iconst (v := (nI 1)) hC.1 hC.2.1 dX6_nextToken_224 (by decide) ?_
            refine k_add hC dX6_nextToken_225 ?_
            refine m_pi hC hK hw 10 (by decide) rfl rfl q1126 rfl rfl rfl rfl dX6_nextToken_226 (fun H locs hw => ?_)
            replace hw := hw.eq (rds_10 _ _ _ _ _ _ _ _ _ _)
            exact m_vret hC hlk hr hw (by rw [nt_o eD c127 c17, ← eB, ← bI_of_t (b := isLet (G 8 z.1)) (by simp only [isLet, c199, decide_true, Bool.true_or, Bool.or_true])]) dX6_nextToken_229
          · refine lv_aload_n hC.1 hC.2.1 dX6_nextToken_202 rfl (lv_at hl 0 rfl) ?_
            refine m_gi hC hK hw 12 (by decide) rfl q1128 rfl (v := (G 8 z.1)) (rfl) dX6_nextToken_203 ?_
            refine lv_bipush (v := (nI 59)) hC.1 hC.2.1 dX6_nextToken_206 (by decide) ?_
            refine lv_icmp_ne (tgt := 215) hC.1 hC.2.1 dX6_nextToken_208 (by decide) (fun c208 => ?_) (fun c208 => ?_)
            · refine lv_iconst (v := (nI 0)) hC.1 hC.2.1 dX6_nextToken_215 (by decide) ?_
              refine m_pi hC hK hw 11 (by decide) rfl rfl q1127 rfl rfl rfl rfl dX6_nextToken_216 (fun H locs hw => ?_)
              replace hw := hw.eq (rds_11 _ _ _ _ _ _ _ _ _ _)
              refine lv_aload_n hC.1 hC.2.1 dX6_nextToken_219 rfl (lv_at hl 0 rfl) ?_
              refine lv_dup hC.1 hC.2.1 dX6_nextToken_220 rfl ?_
              refine m_gi hC hK hw 10 (by decide) rfl q1126 rfl (v := (nI z.1)) (rfl) dX6_nextToken_221 ?_
              refine lv_iconst (v := (nI 1)) hC.1 hC.2.1 dX6_nextToken_224 (by decide) ?_
              refine k_add hC dX6_nextToken_225 ?_
              refine m_pi hC hK hw 10 (by decide) rfl rfl q1126 rfl rfl rfl rfl dX6_nextToken_226 (fun H locs hw => ?_)
              replace hw := hw.eq (rds_10 _ _ _ _ _ _ _ _ _ _)
              exact m_vret hC hlk hr hw (by rw [nt_o eD c127 c17, ← eB, ← bI_of_f (b := isLet (G 8 z.1)) (by simp only [isLet, c190, c199, c208, decide_false, Bool.or_false])]) dX6_nextToken_229
            · refine lv_iconst (v := (nI 1)) hC.1 hC.2.1 dX6_nextToken_211 (by decide) ?_
              refine lv_goto (tgt := 216) hC.1 hC.2.1 dX6_nextToken_212 (by decide) ?_
              refine m_pi hC hK hw 11 (by decide) rfl rfl q1127 rfl rfl rfl rfl dX6_nextToken_216 (fun H locs hw => ?_)
              replace hw := hw.eq (rds_11 _ _ _ _ _ _ _ _ _ _)
              refine lv_aload_n hC.1 hC.2.1 dX6_nextToken_219 rfl (lv_at hl 0 rfl) ?_
              refine lv_dup hC.1 hC.2.1 dX6_nextToken_220 rfl ?_
              refine m_gi hC hK hw 10 (by decide) rfl q1126 rfl (v := (nI z.1)) (rfl) dX6_nextToken_221 ?_
              refine lv_iconst (v := (nI 1)) hC.1 hC.2.1 dX6_nextToken_224 (by decide) ?_
              refine k_add hC dX6_nextToken_225 ?_
              refine m_pi hC hK hw 10 (by decide) rfl rfl q1126 rfl rfl rfl rfl dX6_nextToken_226 (fun H locs hw => ?_)
              replace hw := hw.eq (rds_10 _ _ _ _ _ _ _ _ _ _)
              exact m_vret hC hlk hr hw (by rw [nt_o eD c127 c17, ← eB, ← bI_of_t (b := isLet (G 8 z.1)) (by simp only [isLet, c208, decide_true, Bool.or_true])]) dX6_nextToken_229
      · refine lv_aload_n hC.1 hC.2.1 dX6_nextToken_130 rfl (lv_at hl 0 rfl) ?_
        refine lv_aload_n hC.1 hC.2.1 dX6_nextToken_131 rfl (lv_at hl 0 rfl) ?_
        refine m_gi hC hK hw 10 (by decide) rfl q1126 rfl (v := (nI z.1)) (rfl) dX6_nextToken_132 ?_
        refine lv_aload_n hC.1 hC.2.1 dX6_nextToken_135 rfl (lv_at hl 0 rfl) ?_
        refine m_gi hC hK hw 13 (by decide) rfl q1129 rfl (v := (nI b)) (rfl) dX6_nextToken_136 ?_
        refine k_sub hC (by omega) dX6_nextToken_139 ?_
        refine lv_iconst (v := (nI 2)) hC.1 hC.2.1 dX6_nextToken_140 (by decide) ?_
        refine k_le (tgt := 148) hC (by omega) (by omega) dX6_nextToken_141 (by decide) (fun c141 => ?_) (fun c141 => ?_)
        · refine lv_iconst (v := (nI 2)) hC.1 hC.2.1 dX6_nextToken_148 (by decide) ?_
          refine m_pi hC hK hw 11 (by decide) rfl rfl q1127 rfl rfl rfl rfl dX6_nextToken_149 (fun H locs hw => ?_)
          replace hw := hw.eq (rds_11 _ _ _ _ _ _ _ _ _ _)
          refine lv_goto (tgt := 229) hC.1 hC.2.1 dX6_nextToken_152 (by decide) ?_
          exact m_vret hC hlk hr hw (by rw [nt_d eD c127, if_neg (by omega)]) dX6_nextToken_229
        · refine lv_iconst (v := (nI 0)) hC.1 hC.2.1 dX6_nextToken_144 (by decide) ?_
          refine lv_goto (tgt := 149) hC.1 hC.2.1 dX6_nextToken_145 (by decide) ?_
          refine m_pi hC hK hw 11 (by decide) rfl rfl q1127 rfl rfl rfl rfl dX6_nextToken_149 (fun H locs hw => ?_)
          replace hw := hw.eq (rds_11 _ _ _ _ _ _ _ _ _ _)
          refine lv_goto (tgt := 229) hC.1 hC.2.1 dX6_nextToken_152 (by decide) ?_
          exact m_vret hC hlk hr hw (by rw [nt_d eD c127, if_pos (by omega)]) dX6_nextToken_229
    · refine lv_aload_n hC.1 hC.2.1 dX6_nextToken_44 rfl (lv_at hl 0 rfl) ?_
      refine m_ga hC hK hw 7 (by decide) rfl q1123 rfl dX6_nextToken_45 ?_
      refine lv_aload_n hC.1 hC.2.1 dX6_nextToken_48 rfl (lv_at hl 0 rfl) ?_
      refine m_gi hC hK hw 10 (by decide) rfl q1126 rfl (v := (nI z.1)) (rfl) dX6_nextToken_49 ?_
      refine m_ld hC hK hw 8 (by decide) (by decide) (by decide) (by simp only [mLen]; omega) (by omega) (v := (G 8 z.1)) (rfl) dX6_nextToken_52 ?_
      refine lv_i2l hC.1 hC.2.1 dX6_nextToken_53 rfl ?_
      refine lv_ldc2 hC.1 hC.2.1 hC.2.2.2.1 (hC.2.2.2.2 _ q1257) dX6_nextToken_54 ?_
      refine lv_ldc2 hC.1 hC.2.1 hC.2.2.2.1 (hC.2.2.2.2 _ q1258) dX6_nextToken_57 ?_
      refine pS_call (n := 3) hC hl.1 (tX6_inI l (G 8 z.1) (nI 48) (nI 57)) (lw_S q1210 q1211 q66 q1212) rfl rfl (by decide +kernel) ⟨by decide, by decide⟩ rfl rfl (Nat.le_of_ble_eq_true rfl) dX6_nextToken_60 ⟨Nat.zero_le _, Nat.zero_le _⟩ ?_
      refine k_beq (tgt := 119) hC dX6_nextToken_63 (by decide) (fun c63 => ?_) (fun c63 => ?_)
      · have eD := hD.symm.trans (dgV_e (v := z.2) (dgt_e2 c63))
        refine lv_aload_n hC.1 hC.2.1 dX6_nextToken_119 rfl (lv_at hl 0 rfl) ?_
        refine m_gi hC hK hw 10 (by decide) rfl q1126 rfl (v := (nI z.1)) (rfl) dX6_nextToken_120 ?_
        refine lv_aload_n hC.1 hC.2.1 dX6_nextToken_123 rfl (lv_at hl 0 rfl) ?_
        refine m_gi hC hK hw 13 (by decide) rfl q1129 rfl (v := (nI b)) (rfl) dX6_nextToken_124 ?_
        refine k_le (tgt := 155) hC (by omega) (by omega) dX6_nextToken_127 (by decide) (fun c127 => ?_) (fun c127 => ?_)
        · have eB : z.1 = b := by omega
          refine lv_aload_n hC.1 hC.2.1 dX6_nextToken_155 rfl (lv_at hl 0 rfl) ?_
          refine m_gi hC hK hw 11 (by decide) rfl q1127 rfl (v := (nI 0)) (rfl) dX6_nextToken_156 ?_
          refine k_zne (tgt := 229) hC (by decide) dX6_nextToken_159 (by decide) (fun h => absurd h (by decide)) (fun c159 => ?_)
          refine lv_aload_n hC.1 hC.2.1 dX6_nextToken_162 rfl (lv_at hl 0 rfl) ?_
          refine lv_aload_n hC.1 hC.2.1 dX6_nextToken_163 rfl (lv_at hl 0 rfl) ?_
          refine m_ga hC hK hw 7 (by decide) rfl q1123 rfl dX6_nextToken_164 ?_
          refine lv_aload_n hC.1 hC.2.1 dX6_nextToken_167 rfl (lv_at hl 0 rfl) ?_
          refine m_gi hC hK hw 10 (by decide) rfl q1126 rfl (v := (nI z.1)) (rfl) dX6_nextToken_168 ?_
          refine m_ld hC hK hw 8 (by decide) (by decide) (by decide) (by simp only [mLen]; omega) (by omega) (v := (G 8 z.1)) (rfl) dX6_nextToken_171 ?_
          refine m_pi hC hK hw 12 (by decide) rfl rfl q1128 rfl rfl rfl rfl dX6_nextToken_172 (fun H locs hw => ?_)
          replace hw := hw.eq (rds_12 _ _ _ _ _ _ _ _ _ _)
          refine lv_aload_n hC.1 hC.2.1 dX6_nextToken_175 rfl (lv_at hl 0 rfl) ?_
          refine lv_aload_n hC.1 hC.2.1 dX6_nextToken_176 rfl (lv_at hl 0 rfl) ?_
          refine m_gi hC hK hw 12 (by decide) rfl q1128 rfl (v := (G 8 z.1)) (rfl) dX6_nextToken_177 ?_
          refine lv_i2l hC.1 hC.2.1 dX6_nextToken_180 rfl ?_
          refine lv_ldc2 hC.1 hC.2.1 hC.2.2.2.1 (hC.2.2.2.2 _ q1259) dX6_nextToken_181 ?_
          refine lv_ldc2 hC.1 hC.2.1 hC.2.2.2.1 (hC.2.2.2.2 _ q1260) dX6_nextToken_184 ?_
          refine pS_call (n := 3) hC hl.1 (tX6_inI l (G 8 z.1) (nI 97) (nI 122)) (lw_S q1210 q1211 q66 q1212) rfl rfl (by decide +kernel) ⟨by decide, by decide⟩ rfl rfl (Nat.le_of_ble_eq_true rfl) dX6_nextToken_187 ⟨Nat.zero_le _, Nat.zero_le _⟩ ?_
          refine k_bne (tgt := 211) hC dX6_nextToken_190 (by decide) (fun c190 => ?_) (fun c190 => ?_)
          · refine lv_iconst (v := (nI 1)) hC.1 hC.2.1 dX6_nextToken_211 (by decide) ?_
            refine lv_goto (tgt := 216) hC.1 hC.2.1 dX6_nextToken_212 (by decide) ?_
            refine m_pi hC hK hw 11 (by decide) rfl rfl q1127 rfl rfl rfl rfl dX6_nextToken_216 (fun H locs hw => ?_)
            replace hw := hw.eq (rds_11 _ _ _ _ _ _ _ _ _ _)
            refine lv_aload_n hC.1 hC.2.1 dX6_nextToken_219 rfl (lv_at hl 0 rfl) ?_
            refine lv_dup hC.1 hC.2.1 dX6_nextToken_220 rfl ?_
            refine m_gi hC hK hw 10 (by decide) rfl q1126 rfl (v := (nI z.1)) (rfl) dX6_nextToken_221 ?_
            refine lv_iconst (v := (nI 1)) hC.1 hC.2.1 dX6_nextToken_224 (by decide) ?_
            refine k_add hC dX6_nextToken_225 ?_
            refine m_pi hC hK hw 10 (by decide) rfl rfl q1126 rfl rfl rfl rfl dX6_nextToken_226 (fun H locs hw => ?_)
            replace hw := hw.eq (rds_10 _ _ _ _ _ _ _ _ _ _)
            exact m_vret hC hlk hr hw (by rw [nt_o eD c127 c17, ← eB, ← bI_of_t (b := isLet (G 8 z.1)) (by simp only [isLet, c190, Bool.true_or])]) dX6_nextToken_229
          · refine lv_aload_n hC.1 hC.2.1 dX6_nextToken_193 rfl (lv_at hl 0 rfl) ?_
            refine m_gi hC hK hw 12 (by decide) rfl q1128 rfl (v := (G 8 z.1)) (rfl) dX6_nextToken_194 ?_
            refine lv_bipush (v := (nI 44)) hC.1 hC.2.1 dX6_nextToken_197 (by decide) ?_
            refine lv_icmp_eq (tgt := 211) hC.1 hC.2.1 dX6_nextToken_199 (by decide) (fun c199 => ?_) (fun c199 => ?_)
            · refine lv_iconst (v := (nI 1)) hC.1 hC.2.1 dX6_nextToken_211 (by decide) ?_
              refine lv_goto (tgt := 216) hC.1 hC.2.1 dX6_nextToken_212 (by decide) ?_
              refine m_pi hC hK hw 11 (by decide) rfl rfl q1127 rfl rfl rfl rfl dX6_nextToken_216 (fun H locs hw => ?_)
              replace hw := hw.eq (rds_11 _ _ _ _ _ _ _ _ _ _)
              refine lv_aload_n hC.1 hC.2.1 dX6_nextToken_219 rfl (lv_at hl 0 rfl) ?_
              refine lv_dup hC.1 hC.2.1 dX6_nextToken_220 rfl ?_
              refine m_gi hC hK hw 10 (by decide) rfl q1126 rfl (v := (nI z.1)) (rfl) dX6_nextToken_221 ?_
              refine lv_iconst (v := (nI 1)) hC.1 hC.2.1 dX6_nextToken_224 (by decide) ?_
              refine k_add hC dX6_nextToken_225 ?_
              refine m_pi hC hK hw 10 (by decide) rfl rfl q1126 rfl rfl rfl rfl dX6_nextToken_226 (fun H locs hw => ?_)
              replace hw := hw.eq (rds_10 _ _ _ _ _ _ _ _ _ _)
              exact m_vret hC hlk hr hw (by rw [nt_o eD c127 c17, ← eB, ← bI_of_t (b := isLet (G 8 z.1)) (by simp only [isLet, c199, decide_true, Bool.true_or, Bool.or_true])]) dX6_nextToken_229
            · refine lv_aload_n hC.1 hC.2.1 dX6_nextToken_202 rfl (lv_at hl 0 rfl) ?_
              refine m_gi hC hK hw 12 (by decide) rfl q1128 rfl (v := (G 8 z.1)) (rfl) dX6_nextToken_203 ?_
              refine lv_bipush (v := (nI 59)) hC.1 hC.2.1 dX6_nextToken_206 (by decide) ?_
              refine lv_icmp_ne (tgt := 215) hC.1 hC.2.1 dX6_nextToken_208 (by decide) (fun c208 => ?_) (fun c208 => ?_)
              · refine lv_iconst (v := (nI 0)) hC.1 hC.2.1 dX6_nextToken_215 (by decide) ?_
                refine m_pi hC hK hw 11 (by decide) rfl rfl q1127 rfl rfl rfl rfl dX6_nextToken_216 (fun H locs hw => ?_)
                replace hw := hw.eq (rds_11 _ _ _ _ _ _ _ _ _ _)
                refine lv_aload_n hC.1 hC.2.1 dX6_nextToken_219 rfl (lv_at hl 0 rfl) ?_
                refine lv_dup hC.1 hC.2.1 dX6_nextToken_220 rfl ?_
                refine m_gi hC hK hw 10 (by decide) rfl q1126 rfl (v := (nI z.1)) (rfl) dX6_nextToken_221 ?_
                refine lv_iconst (v := (nI 1)) hC.1 hC.2.1 dX6_nextToken_224 (by decide) ?_
                refine k_add hC dX6_nextToken_225 ?_
                refine m_pi hC hK hw 10 (by decide) rfl rfl q1126 rfl rfl rfl rfl dX6_nextToken_226 (fun H locs hw => ?_)
                replace hw := hw.eq (rds_10 _ _ _ _ _ _ _ _ _ _)
                exact m_vret hC hlk hr hw (by rw [nt_o eD c127 c17, ← eB, ← bI_of_f (b := isLet (G 8 z.1)) (by simp only [isLet, c190, c199, c208, decide_false, Bool.or_false])]) dX6_nextToken_229
              · refine lv_iconst (v := (nI 1)) hC.1 hC.2.1 dX6_nextToken_211 (by decide) ?_
                refine lv_goto (tgt := 216) hC.1 hC.2.1 dX6_nextToken_212 (by decide) ?_
                refine m_pi hC hK hw 11 (by decide) rfl rfl q1127 rfl rfl rfl rfl dX6_nextToken_216 (fun H locs hw => ?_)
                replace hw := hw.eq (rds_11 _ _ _ _ _ _ _ _ _ _)
                refine lv_aload_n hC.1 hC.2.1 dX6_nextToken_219 rfl (lv_at hl 0 rfl) ?_
                refine lv_dup hC.1 hC.2.1 dX6_nextToken_220 rfl ?_
                refine m_gi hC hK hw 10 (by decide) rfl q1126 rfl (v := (nI z.1)) (rfl) dX6_nextToken_221 ?_
                refine lv_iconst (v := (nI 1)) hC.1 hC.2.1 dX6_nextToken_224 (by decide) ?_
                refine k_add hC dX6_nextToken_225 ?_
                refine m_pi hC hK hw 10 (by decide) rfl rfl q1126 rfl rfl rfl rfl dX6_nextToken_226 (fun H locs hw => ?_)
                replace hw := hw.eq (rds_10 _ _ _ _ _ _ _ _ _ _)
                exact m_vret hC hlk hr hw (by rw [nt_o eD c127 c17, ← eB, ← bI_of_t (b := isLet (G 8 z.1)) (by simp only [isLet, c208, decide_true, Bool.or_true])]) dX6_nextToken_229
        · refine lv_aload_n hC.1 hC.2.1 dX6_nextToken_130 rfl (lv_at hl 0 rfl) ?_
          refine lv_aload_n hC.1 hC.2.1 dX6_nextToken_131 rfl (lv_at hl 0 rfl) ?_
          refine m_gi hC hK hw 10 (by decide) rfl q1126 rfl (v := (nI z.1)) (rfl) dX6_nextToken_132 ?_
          refine lv_aload_n hC.1 hC.2.1 dX6_nextToken_135 rfl (lv_at hl 0 rfl) ?_
          refine m_gi hC hK hw 13 (by decide) rfl q1129 rfl (v := (nI b)) (rfl) dX6_nextToken_136 ?_
          refine k_sub hC (by omega) dX6_nextToken_139 ?_
          refine lv_iconst (v := (nI 2)) hC.1 hC.2.1 dX6_nextToken_140 (by decide) ?_
          refine k_le (tgt := 148) hC (by omega) (by omega) dX6_nextToken_141 (by decide) (fun c141 => ?_) (fun c141 => ?_)
          · refine lv_iconst (v := (nI 2)) hC.1 hC.2.1 dX6_nextToken_148 (by decide) ?_
            refine m_pi hC hK hw 11 (by decide) rfl rfl q1127 rfl rfl rfl rfl dX6_nextToken_149 (fun H locs hw => ?_)
            replace hw := hw.eq (rds_11 _ _ _ _ _ _ _ _ _ _)
            refine lv_goto (tgt := 229) hC.1 hC.2.1 dX6_nextToken_152 (by decide) ?_
            exact m_vret hC hlk hr hw (by rw [nt_d eD c127, if_neg (by omega)]) dX6_nextToken_229
          · refine lv_iconst (v := (nI 0)) hC.1 hC.2.1 dX6_nextToken_144 (by decide) ?_
            refine lv_goto (tgt := 149) hC.1 hC.2.1 dX6_nextToken_145 (by decide) ?_
            refine m_pi hC hK hw 11 (by decide) rfl rfl q1127 rfl rfl rfl rfl dX6_nextToken_149 (fun H locs hw => ?_)
            replace hw := hw.eq (rds_11 _ _ _ _ _ _ _ _ _ _)
            refine lv_goto (tgt := 229) hC.1 hC.2.1 dX6_nextToken_152 (by decide) ?_
            exact m_vret hC hlk hr hw (by rw [nt_d eD c127, if_pos (by omega)]) dX6_nextToken_229
      · refine lv_aload_n hC.1 hC.2.1 dX6_nextToken_66 rfl (lv_at hl 0 rfl) ?_
        refine lv_aload_n hC.1 hC.2.1 dX6_nextToken_67 rfl (lv_at hl 0 rfl) ?_
        refine m_gi hC hK hw 12 (by decide) rfl q1128 rfl (v := z.2) (rfl) dX6_nextToken_68 ?_
        refine lv_bipush (v := (nI 99)) hC.1 hC.2.1 dX6_nextToken_71 (by decide) ?_
        refine lv_icmp_le (tgt := 83) hC.1 hC.2.1 dX6_nextToken_73 (by decide) (fun c73 => ?_) (fun c73 => ?_)
        · refine lv_bipush (v := (nI 10)) hC.1 hC.2.1 dX6_nextToken_83 (by decide) ?_
          refine lv_aload_n hC.1 hC.2.1 dX6_nextToken_85 rfl (lv_at hl 0 rfl) ?_
          refine m_gi hC hK hw 12 (by decide) rfl q1128 rfl (v := z.2) (rfl) dX6_nextToken_86 ?_
          refine lv_imul hC.1 hC.2.1 dX6_nextToken_89 ?_
          refine lv_aload_n hC.1 hC.2.1 dX6_nextToken_90 rfl (lv_at hl 0 rfl) ?_
          refine m_ga hC hK hw 7 (by decide) rfl q1123 rfl dX6_nextToken_91 ?_
          refine lv_aload_n hC.1 hC.2.1 dX6_nextToken_94 rfl (lv_at hl 0 rfl) ?_
          refine m_gi hC hK hw 10 (by decide) rfl q1126 rfl (v := (nI z.1)) (rfl) dX6_nextToken_95 ?_
          refine m_ld hC hK hw 8 (by decide) (by decide) (by decide) (by simp only [mLen]; omega) (by omega) (v := (G 8 z.1)) (rfl) dX6_nextToken_98 ?_
          refine lv_iadd hC.1 hC.2.1 dX6_nextToken_99 ?_
          refine lv_bipush (v := (nI 48)) hC.1 hC.2.1 dX6_nextToken_100 (by decide) ?_
          refine lv_isub hC.1 hC.2.1 dX6_nextToken_102 ?_
          refine m_pi hC hK hw 12 (by decide) rfl rfl q1128 rfl rfl rfl rfl dX6_nextToken_103 (fun H locs hw => ?_)
          replace hw := hw.eq (rds_12 _ _ _ _ _ _ _ _ _ _)
          refine lv_aload_n hC.1 hC.2.1 dX6_nextToken_106 rfl (lv_at hl 0 rfl) ?_
          refine lv_dup hC.1 hC.2.1 dX6_nextToken_107 rfl ?_
          refine m_gi hC hK hw 10 (by decide) rfl q1126 rfl (v := (nI z.1)) (rfl) dX6_nextToken_108 ?_
          refine lv_iconst (v := (nI 1)) hC.1 hC.2.1 dX6_nextToken_111 (by decide) ?_
          refine k_add hC dX6_nextToken_112 ?_
          refine m_pi hC hK hw 10 (by decide) rfl rfl q1126 rfl rfl rfl rfl dX6_nextToken_113 (fun H locs hw => ?_)
          replace hw := hw.eq (rds_10 _ _ _ _ _ _ _ _ _ _)
          refine lv_goto (tgt := 33) hC.1 hC.2.1 dX6_nextToken_116 (by decide) ?_
          have eS : vst z.2 (G 8 z.1) = nI 10 * z.2 + G 8 z.1 - nI 48 := if_pos c73
          have hD2 := dgV_s (v := z.2) c41 c63
          rw [eS, hD] at hD2
          exact ih33 ls (z.1 + 1, nI 10 * z.2 + G 8 z.1 - nI 48) H locs ⟨hl.sub' [0] (by rfl), hw.eq (by dsimp only), by show b ≤ z.1 + 1; omega, by show z.1 + 1 ≤ n; omega, hD2.symm⟩ (by show n - (z.1 + 1) < n - z.1; omega)
        · refine lv_aload_n hC.1 hC.2.1 dX6_nextToken_76 rfl (lv_at hl 0 rfl) ?_
          refine m_gi hC hK hw 12 (by decide) rfl q1128 rfl (v := z.2) (rfl) dX6_nextToken_77 ?_
          refine lv_goto (tgt := 103) hC.1 hC.2.1 dX6_nextToken_80 (by decide) ?_
          refine m_pi hC hK hw 12 (by decide) rfl rfl q1128 rfl rfl rfl rfl dX6_nextToken_103 (fun H locs hw => ?_)
          replace hw := hw.eq (rds_12 _ _ _ _ _ _ _ _ _ _)
          refine lv_aload_n hC.1 hC.2.1 dX6_nextToken_106 rfl (lv_at hl 0 rfl) ?_
          refine lv_dup hC.1 hC.2.1 dX6_nextToken_107 rfl ?_
          refine m_gi hC hK hw 10 (by decide) rfl q1126 rfl (v := (nI z.1)) (rfl) dX6_nextToken_108 ?_
          refine lv_iconst (v := (nI 1)) hC.1 hC.2.1 dX6_nextToken_111 (by decide) ?_
          refine k_add hC dX6_nextToken_112 ?_
          refine m_pi hC hK hw 10 (by decide) rfl rfl q1126 rfl rfl rfl rfl dX6_nextToken_113 (fun H locs hw => ?_)
          replace hw := hw.eq (rds_10 _ _ _ _ _ _ _ _ _ _)
          refine lv_goto (tgt := 33) hC.1 hC.2.1 dX6_nextToken_116 (by decide) ?_
          have eS : vst z.2 (G 8 z.1) = z.2 := if_neg c73
          have hD2 := dgV_s (v := z.2) c41 c63
          rw [eS, hD] at hD2
          exact ih33 ls (z.1 + 1, z.2) H locs ⟨hl.sub' [0] (by rfl), hw.eq (by dsimp only), by show b ≤ z.1 + 1; omega, by show z.1 + 1 ≤ n; omega, hD2.symm⟩ (by show n - (z.1 + 1) < n - z.1; omega)
  · refine lv_iconst (v := (nI 3)) hC.1 hC.2.1 dX6_nextToken_20 (by decide) ?_
    refine lv_goto (tgt := 25) hC.1 hC.2.1 dX6_nextToken_21 (by decide) ?_
    refine m_pi hC hK hw 11 (by decide) rfl rfl q1127 rfl rfl rfl rfl dX6_nextToken_25 (fun H locs hw => ?_)
    replace hw := hw.eq (rds_11 _ _ _ _ _ _ _ _ _ _)
    refine lv_aload_n hC.1 hC.2.1 dX6_nextToken_28 rfl (lv_at hl 0 rfl) ?_
    refine lv_iconst (v := (nI 0)) hC.1 hC.2.1 dX6_nextToken_29 (by decide) ?_
    refine m_pi hC hK hw 12 (by decide) rfl rfl q1128 rfl rfl rfl rfl dX6_nextToken_30 (fun H locs hw => ?_)
    replace hw := hw.eq (rds_12 _ _ _ _ _ _ _ _ _ _)
    refine W.loop (fun ls z H locs => lv_has ls 1 [(0, .ref (ad 0))] ∧ (mw D dA (nA mDom ad s.heap.size) s.heap ad (rds G (nI z.1) (nI 3) z.2 (nI b) wr wk rx rd) H locs) ∧ (b ≤ z.1) ∧ (z.1 ≤ n) ∧ (dgV (G 8) n z.1 z.2 = dgV (G 8) n b (nI 0))) 33 (fun _ => []) (fun z => n - z.1) ?_ ((b, nI 0) : Nat × Int32) ⟨hl.sub' [0] (by rfl), hw.eq (by dsimp only), Nat.le_refl b, hb, rfl⟩
    rintro ls z H locs ⟨hl, hw, hz1, hz2, hD⟩ ih33
    refine lv_aload_n hC.1 hC.2.1 dX6_nextToken_33 rfl (lv_at hl 0 rfl) ?_
    refine m_gi hC hK hw 10 (by decide) rfl q1126 rfl (v := (nI z.1)) (rfl) dX6_nextToken_34 ?_
    refine lv_aload_n hC.1 hC.2.1 dX6_nextToken_37 rfl (lv_at hl 0 rfl) ?_
    refine m_gi hC hK hw 8 (by decide) rfl q1124 rfl (v := (nI n)) (en) dX6_nextToken_38 ?_
    refine k_ge (tgt := 119) hC (by omega) (by omega) dX6_nextToken_41 (by decide) (fun c41 => ?_) (fun c41 => ?_)
    · have eD := hD.symm.trans (dgV_e (v := z.2) (dgt_e1 c41))
      refine lv_aload_n hC.1 hC.2.1 dX6_nextToken_119 rfl (lv_at hl 0 rfl) ?_
      refine m_gi hC hK hw 10 (by decide) rfl q1126 rfl (v := (nI z.1)) (rfl) dX6_nextToken_120 ?_
      refine lv_aload_n hC.1 hC.2.1 dX6_nextToken_123 rfl (lv_at hl 0 rfl) ?_
      refine m_gi hC hK hw 13 (by decide) rfl q1129 rfl (v := (nI b)) (rfl) dX6_nextToken_124 ?_
      refine k_le (tgt := 155) hC (by omega) (by omega) dX6_nextToken_127 (by decide) (fun c127 => ?_) (fun c127 => ?_)
      · have eB : z.1 = b := by omega
        refine lv_aload_n hC.1 hC.2.1 dX6_nextToken_155 rfl (lv_at hl 0 rfl) ?_
        refine m_gi hC hK hw 11 (by decide) rfl q1127 rfl (v := (nI 3)) (rfl) dX6_nextToken_156 ?_
        refine k_zne (tgt := 229) hC (by decide) dX6_nextToken_159 (by decide) (fun c159 => ?_) (fun h => absurd h (by decide))
        exact m_vret hC hlk hr hw (by rw [nt_e eD c127 c17, ← eB]) dX6_nextToken_229
      · refine lv_aload_n hC.1 hC.2.1 dX6_nextToken_130 rfl (lv_at hl 0 rfl) ?_
        refine lv_aload_n hC.1 hC.2.1 dX6_nextToken_131 rfl (lv_at hl 0 rfl) ?_
        refine m_gi hC hK hw 10 (by decide) rfl q1126 rfl (v := (nI z.1)) (rfl) dX6_nextToken_132 ?_
        refine lv_aload_n hC.1 hC.2.1 dX6_nextToken_135 rfl (lv_at hl 0 rfl) ?_
        refine m_gi hC hK hw 13 (by decide) rfl q1129 rfl (v := (nI b)) (rfl) dX6_nextToken_136 ?_
        refine k_sub hC (by omega) dX6_nextToken_139 ?_
        refine lv_iconst (v := (nI 2)) hC.1 hC.2.1 dX6_nextToken_140 (by decide) ?_
        refine k_le (tgt := 148) hC (by omega) (by omega) dX6_nextToken_141 (by decide) (fun c141 => ?_) (fun c141 => ?_)
        · refine lv_iconst (v := (nI 2)) hC.1 hC.2.1 dX6_nextToken_148 (by decide) ?_
          refine m_pi hC hK hw 11 (by decide) rfl rfl q1127 rfl rfl rfl rfl dX6_nextToken_149 (fun H locs hw => ?_)
          replace hw := hw.eq (rds_11 _ _ _ _ _ _ _ _ _ _)
          refine lv_goto (tgt := 229) hC.1 hC.2.1 dX6_nextToken_152 (by decide) ?_
          exact m_vret hC hlk hr hw (by rw [nt_d eD c127, if_neg (by omega)]) dX6_nextToken_229
        · refine lv_iconst (v := (nI 0)) hC.1 hC.2.1 dX6_nextToken_144 (by decide) ?_
          refine lv_goto (tgt := 149) hC.1 hC.2.1 dX6_nextToken_145 (by decide) ?_
          refine m_pi hC hK hw 11 (by decide) rfl rfl q1127 rfl rfl rfl rfl dX6_nextToken_149 (fun H locs hw => ?_)
          replace hw := hw.eq (rds_11 _ _ _ _ _ _ _ _ _ _)
          refine lv_goto (tgt := 229) hC.1 hC.2.1 dX6_nextToken_152 (by decide) ?_
          exact m_vret hC hlk hr hw (by rw [nt_d eD c127, if_pos (by omega)]) dX6_nextToken_229
    · refine lv_aload_n hC.1 hC.2.1 dX6_nextToken_44 rfl (lv_at hl 0 rfl) ?_
      refine m_ga hC hK hw 7 (by decide) rfl q1123 rfl dX6_nextToken_45 ?_
      refine lv_aload_n hC.1 hC.2.1 dX6_nextToken_48 rfl (lv_at hl 0 rfl) ?_
      refine m_gi hC hK hw 10 (by decide) rfl q1126 rfl (v := (nI z.1)) (rfl) dX6_nextToken_49 ?_
      refine m_ld hC hK hw 8 (by decide) (by decide) (by decide) (by simp only [mLen]; omega) (by omega) (v := (G 8 z.1)) (rfl) dX6_nextToken_52 ?_
      refine lv_i2l hC.1 hC.2.1 dX6_nextToken_53 rfl ?_
      refine lv_ldc2 hC.1 hC.2.1 hC.2.2.2.1 (hC.2.2.2.2 _ q1257) dX6_nextToken_54 ?_
      refine lv_ldc2 hC.1 hC.2.1 hC.2.2.2.1 (hC.2.2.2.2 _ q1258) dX6_nextToken_57 ?_
      refine pS_call (n := 3) hC hl.1 (tX6_inI l (G 8 z.1) (nI 48) (nI 57)) (lw_S q1210 q1211 q66 q1212) rfl rfl (by decide +kernel) ⟨by decide, by decide⟩ rfl rfl (Nat.le_of_ble_eq_true rfl) dX6_nextToken_60 ⟨Nat.zero_le _, Nat.zero_le _⟩ ?_
      refine k_beq (tgt := 119) hC dX6_nextToken_63 (by decide) (fun c63 => ?_) (fun c63 => ?_)
      · have eD := hD.symm.trans (dgV_e (v := z.2) (dgt_e2 c63))
        refine lv_aload_n hC.1 hC.2.1 dX6_nextToken_119 rfl (lv_at hl 0 rfl) ?_
        refine m_gi hC hK hw 10 (by decide) rfl q1126 rfl (v := (nI z.1)) (rfl) dX6_nextToken_120 ?_
        refine lv_aload_n hC.1 hC.2.1 dX6_nextToken_123 rfl (lv_at hl 0 rfl) ?_
        refine m_gi hC hK hw 13 (by decide) rfl q1129 rfl (v := (nI b)) (rfl) dX6_nextToken_124 ?_
        refine k_le (tgt := 155) hC (by omega) (by omega) dX6_nextToken_127 (by decide) (fun c127 => ?_) (fun c127 => ?_)
        · have eB : z.1 = b := by omega
          refine lv_aload_n hC.1 hC.2.1 dX6_nextToken_155 rfl (lv_at hl 0 rfl) ?_
          refine m_gi hC hK hw 11 (by decide) rfl q1127 rfl (v := (nI 3)) (rfl) dX6_nextToken_156 ?_
          refine k_zne (tgt := 229) hC (by decide) dX6_nextToken_159 (by decide) (fun c159 => ?_) (fun h => absurd h (by decide))
          exact m_vret hC hlk hr hw (by rw [nt_e eD c127 c17, ← eB]) dX6_nextToken_229
        · refine lv_aload_n hC.1 hC.2.1 dX6_nextToken_130 rfl (lv_at hl 0 rfl) ?_
          refine lv_aload_n hC.1 hC.2.1 dX6_nextToken_131 rfl (lv_at hl 0 rfl) ?_
          refine m_gi hC hK hw 10 (by decide) rfl q1126 rfl (v := (nI z.1)) (rfl) dX6_nextToken_132 ?_
          refine lv_aload_n hC.1 hC.2.1 dX6_nextToken_135 rfl (lv_at hl 0 rfl) ?_
          refine m_gi hC hK hw 13 (by decide) rfl q1129 rfl (v := (nI b)) (rfl) dX6_nextToken_136 ?_
          refine k_sub hC (by omega) dX6_nextToken_139 ?_
          refine lv_iconst (v := (nI 2)) hC.1 hC.2.1 dX6_nextToken_140 (by decide) ?_
          refine k_le (tgt := 148) hC (by omega) (by omega) dX6_nextToken_141 (by decide) (fun c141 => ?_) (fun c141 => ?_)
          · refine lv_iconst (v := (nI 2)) hC.1 hC.2.1 dX6_nextToken_148 (by decide) ?_
            refine m_pi hC hK hw 11 (by decide) rfl rfl q1127 rfl rfl rfl rfl dX6_nextToken_149 (fun H locs hw => ?_)
            replace hw := hw.eq (rds_11 _ _ _ _ _ _ _ _ _ _)
            refine lv_goto (tgt := 229) hC.1 hC.2.1 dX6_nextToken_152 (by decide) ?_
            exact m_vret hC hlk hr hw (by rw [nt_d eD c127, if_neg (by omega)]) dX6_nextToken_229
          · refine lv_iconst (v := (nI 0)) hC.1 hC.2.1 dX6_nextToken_144 (by decide) ?_
            refine lv_goto (tgt := 149) hC.1 hC.2.1 dX6_nextToken_145 (by decide) ?_
            refine m_pi hC hK hw 11 (by decide) rfl rfl q1127 rfl rfl rfl rfl dX6_nextToken_149 (fun H locs hw => ?_)
            replace hw := hw.eq (rds_11 _ _ _ _ _ _ _ _ _ _)
            refine lv_goto (tgt := 229) hC.1 hC.2.1 dX6_nextToken_152 (by decide) ?_
            exact m_vret hC hlk hr hw (by rw [nt_d eD c127, if_pos (by omega)]) dX6_nextToken_229
      · refine lv_aload_n hC.1 hC.2.1 dX6_nextToken_66 rfl (lv_at hl 0 rfl) ?_
        refine lv_aload_n hC.1 hC.2.1 dX6_nextToken_67 rfl (lv_at hl 0 rfl) ?_
        refine m_gi hC hK hw 12 (by decide) rfl q1128 rfl (v := z.2) (rfl) dX6_nextToken_68 ?_
        refine lv_bipush (v := (nI 99)) hC.1 hC.2.1 dX6_nextToken_71 (by decide) ?_
        refine lv_icmp_le (tgt := 83) hC.1 hC.2.1 dX6_nextToken_73 (by decide) (fun c73 => ?_) (fun c73 => ?_)
        · refine lv_bipush (v := (nI 10)) hC.1 hC.2.1 dX6_nextToken_83 (by decide) ?_
          refine lv_aload_n hC.1 hC.2.1 dX6_nextToken_85 rfl (lv_at hl 0 rfl) ?_
          refine m_gi hC hK hw 12 (by decide) rfl q1128 rfl (v := z.2) (rfl) dX6_nextToken_86 ?_
          refine lv_imul hC.1 hC.2.1 dX6_nextToken_89 ?_
          refine lv_aload_n hC.1 hC.2.1 dX6_nextToken_90 rfl (lv_at hl 0 rfl) ?_
          refine m_ga hC hK hw 7 (by decide) rfl q1123 rfl dX6_nextToken_91 ?_
          refine lv_aload_n hC.1 hC.2.1 dX6_nextToken_94 rfl (lv_at hl 0 rfl) ?_
          refine m_gi hC hK hw 10 (by decide) rfl q1126 rfl (v := (nI z.1)) (rfl) dX6_nextToken_95 ?_
          refine m_ld hC hK hw 8 (by decide) (by decide) (by decide) (by simp only [mLen]; omega) (by omega) (v := (G 8 z.1)) (rfl) dX6_nextToken_98 ?_
          refine lv_iadd hC.1 hC.2.1 dX6_nextToken_99 ?_
          refine lv_bipush (v := (nI 48)) hC.1 hC.2.1 dX6_nextToken_100 (by decide) ?_
          refine lv_isub hC.1 hC.2.1 dX6_nextToken_102 ?_
          refine m_pi hC hK hw 12 (by decide) rfl rfl q1128 rfl rfl rfl rfl dX6_nextToken_103 (fun H locs hw => ?_)
          replace hw := hw.eq (rds_12 _ _ _ _ _ _ _ _ _ _)
          refine lv_aload_n hC.1 hC.2.1 dX6_nextToken_106 rfl (lv_at hl 0 rfl) ?_
          refine lv_dup hC.1 hC.2.1 dX6_nextToken_107 rfl ?_
          refine m_gi hC hK hw 10 (by decide) rfl q1126 rfl (v := (nI z.1)) (rfl) dX6_nextToken_108 ?_
          refine lv_iconst (v := (nI 1)) hC.1 hC.2.1 dX6_nextToken_111 (by decide) ?_
          refine k_add hC dX6_nextToken_112 ?_
          refine m_pi hC hK hw 10 (by decide) rfl rfl q1126 rfl rfl rfl rfl dX6_nextToken_113 (fun H locs hw => ?_)
          replace hw := hw.eq (rds_10 _ _ _ _ _ _ _ _ _ _)
          refine lv_goto (tgt := 33) hC.1 hC.2.1 dX6_nextToken_116 (by decide) ?_
          have eS : vst z.2 (G 8 z.1) = nI 10 * z.2 + G 8 z.1 - nI 48 := if_pos c73
          have hD2 := dgV_s (v := z.2) c41 c63
          rw [eS, hD] at hD2
          exact ih33 ls (z.1 + 1, nI 10 * z.2 + G 8 z.1 - nI 48) H locs ⟨hl.sub' [0] (by rfl), hw.eq (by dsimp only), by show b ≤ z.1 + 1; omega, by show z.1 + 1 ≤ n; omega, hD2.symm⟩ (by show n - (z.1 + 1) < n - z.1; omega)
        · refine lv_aload_n hC.1 hC.2.1 dX6_nextToken_76 rfl (lv_at hl 0 rfl) ?_
          refine m_gi hC hK hw 12 (by decide) rfl q1128 rfl (v := z.2) (rfl) dX6_nextToken_77 ?_
          refine lv_goto (tgt := 103) hC.1 hC.2.1 dX6_nextToken_80 (by decide) ?_
          refine m_pi hC hK hw 12 (by decide) rfl rfl q1128 rfl rfl rfl rfl dX6_nextToken_103 (fun H locs hw => ?_)
          replace hw := hw.eq (rds_12 _ _ _ _ _ _ _ _ _ _)
          refine lv_aload_n hC.1 hC.2.1 dX6_nextToken_106 rfl (lv_at hl 0 rfl) ?_
          refine lv_dup hC.1 hC.2.1 dX6_nextToken_107 rfl ?_
          refine m_gi hC hK hw 10 (by decide) rfl q1126 rfl (v := (nI z.1)) (rfl) dX6_nextToken_108 ?_
          refine lv_iconst (v := (nI 1)) hC.1 hC.2.1 dX6_nextToken_111 (by decide) ?_
          refine k_add hC dX6_nextToken_112 ?_
          refine m_pi hC hK hw 10 (by decide) rfl rfl q1126 rfl rfl rfl rfl dX6_nextToken_113 (fun H locs hw => ?_)
          replace hw := hw.eq (rds_10 _ _ _ _ _ _ _ _ _ _)
          refine lv_goto (tgt := 33) hC.1 hC.2.1 dX6_nextToken_116 (by decide) ?_
          have eS : vst z.2 (G 8 z.1) = z.2 := if_neg c73
          have hD2 := dgV_s (v := z.2) c41 c63
          rw [eS, hD] at hD2
          exact ih33 ls (z.1 + 1, z.2) H locs ⟨hl.sub' [0] (by rfl), hw.eq (by dsimp only), by show b ≤ z.1 + 1; omega, by show z.1 + 1 ≤ n; omega, hD2.symm⟩ (by show n - (z.1 + 1) < n - z.1; omega)

set_option maxHeartbeats 4000000 in
theorem tX6_faults (l : Launch) (G : mG) (f : Int32) (pl tk va bg wr wk rx : Int32) (rd : vV) : mI l yX6_faults cX6_faults 2 .boolean ({ frames := 0, cells := 0, slots := 0, locals := 0 } : Room) [.int f] (rds G pl tk va bg wr wk rx rd) (fun r G' => r = nI 0 ∧ G' = rds G pl tk va bg f wk rx rd) := by
  refine mI.of (by decide) rfl (fun _ => Nat.le_of_ble_eq_true rfl) ?_
  intro D dA ad p e s m below meth cd ls hC hlk hr hK hl hw
  have hl : lv_has ls 2 [(0, .ref (ad 0)), (1, .int f)] := hl
  refine lv_aload_n hC.1 hC.2.1 dX6_faults_0 rfl (lv_at hl 0 rfl) ?_
  refine lv_iload_n hC.1 hC.2.1 dX6_faults_1 rfl (lv_at hl 1 rfl) ?_
  refine m_pi hC hK hw 14 (by decide) rfl rfl q1130 rfl rfl rfl rfl dX6_faults_2 (fun H locs hw => ?_)
  replace hw := hw.eq (rds_14 _ _ _ _ _ _ _ _ _ _)
  refine lv_iconst (v := (nI 0)) hC.1 hC.2.1 dX6_faults_5 (by decide) ?_
  exact m_iret hC hlk hr hw rfl (⟨rfl, rfl⟩) dX6_faults_6

set_option maxHeartbeats 4000000 in
theorem tX6_isLetter (l : Launch) (G : mG) (c : Int32) (pl tk va bg wr wk rx : Int32) (rd : vV) : mI l yX6_isLetter cX6_isLetter 2 .boolean ({ frames := 0, cells := 0, slots := 0, locals := 0 } : Room) [.int c] (rds G pl tk va bg wr wk rx rd) (fun r G' => r = bI (decide (tk = nI 1) && decide (va = c)) ∧ G' = rds G pl tk va bg wr wk rx rd) := by
  refine mI.of (by decide) rfl (fun _ => Nat.le_of_ble_eq_true rfl) ?_
  intro D dA ad p e s m below meth cd ls hC hlk hr hK hl hw
  have hl : lv_has ls 2 [(0, .ref (ad 0)), (1, .int c)] := hl
  refine lv_aload_n hC.1 hC.2.1 dX6_isLetter_0 rfl (lv_at hl 0 rfl) ?_
  refine m_gi hC hK hw 11 (by decide) rfl q1127 rfl (v := tk) (rfl) dX6_isLetter_1 ?_
  refine lv_iconst (v := (nI 1)) hC.1 hC.2.1 dX6_isLetter_4 (by decide) ?_
  refine lv_icmp_ne (tgt := 20) hC.1 hC.2.1 dX6_isLetter_5 (by decide) (fun c5 => ?_) (fun c5 => ?_)
  · refine lv_iconst (v := (nI 0)) hC.1 hC.2.1 dX6_isLetter_20 (by decide) ?_
    exact m_iret hC hlk hr hw rfl (⟨bI_of_f (by simp only [c5, decide_false, Bool.false_and]), rfl⟩) dX6_isLetter_21
  · refine lv_aload_n hC.1 hC.2.1 dX6_isLetter_8 rfl (lv_at hl 0 rfl) ?_
    refine m_gi hC hK hw 12 (by decide) rfl q1128 rfl (v := va) (rfl) dX6_isLetter_9 ?_
    refine lv_iload_n hC.1 hC.2.1 dX6_isLetter_12 rfl (lv_at hl 1 rfl) ?_
    refine lv_icmp_ne (tgt := 20) hC.1 hC.2.1 dX6_isLetter_13 (by decide) (fun c13 => ?_) (fun c13 => ?_)
    · refine lv_iconst (v := (nI 0)) hC.1 hC.2.1 dX6_isLetter_20 (by decide) ?_
      exact m_iret hC hlk hr hw rfl (⟨bI_of_f (by simp only [c13, decide_false, Bool.and_false]), rfl⟩) dX6_isLetter_21
    · refine lv_iconst (v := (nI 1)) hC.1 hC.2.1 dX6_isLetter_16 (by decide) ?_
      refine lv_goto (tgt := 21) hC.1 hC.2.1 dX6_isLetter_17 (by decide) ?_
      exact m_iret hC hlk hr hw rfl (⟨bI_of_t (by simp only [c5, c13, decide_true, Bool.and_true]), rfl⟩) dX6_isLetter_21

set_option maxHeartbeats 4000000 in
theorem tX6_takes (l : Launch) (G : mG) (c : Int32) (b n wk : Nat) (wr rx : Int32) (rd : vV) (hb : b ≤ n) (hn : n ≤ 120) (en : G 0 8 = nI n) : mI l yX6_takes cX6_takes 2 .boolean ({ frames := 2, cells := 0, slots := 0, locals := 45 } : Room) [.int c] (rds G (nI ((ntT (G 8) n b).1)) ((ntT (G 8) n b).2.1) ((ntT (G 8) n b).2.2) (nI b) wr (nI wk) rx rd) (fun r G' => rPost G n rx (pTake (G 8) n c b wk rd) r G') := by
  refine mI.of (by decide) rfl (fun _ => Nat.le_of_ble_eq_true rfl) ?_
  intro D dA ad p e s m below meth cd ls hC hlk hr hK hl hw
  have hl : lv_has ls 2 [(0, .ref (ad 0)), (1, .int c)] := hl
  refine lv_aload_n hC.1 hC.2.1 dX6_takes_0 rfl (lv_at hl 0 rfl) ?_
  refine lv_iload_n hC.1 hC.2.1 dX6_takes_1 rfl (lv_at hl 1 rfl) ?_
  refine m_calli (n := 1) hC hl.1 hK hw (tX6_isLetter l G c (nI ((ntT (G 8) n b).1)) ((ntT (G 8) n b).2.1) ((ntT (G 8) n b).2.2) (nI b) wr (nI wk) rx rd) (lw_V q1269 q1271 qs34 q66 q1272) rfl rfl (by decide +kernel) ⟨by decide, by decide⟩ rfl rfl (Nat.le_of_ble_eq_true rfl) dX6_takes_2 ⟨Nat.zero_le _, Nat.zero_le _⟩ ?_
  rintro r2 G2 H locs ⟨rfl, hG2⟩ hw
  replace hw := hw.eq hG2
  clear hG2
  refine k_bne (tgt := 14) hC dX6_takes_5 (by decide) (fun c5 => ?_) (fun c5 => ?_)
  · refine lv_aload_n hC.1 hC.2.1 dX6_takes_14 rfl (lv_at hl 0 rfl) ?_
    refine m_callv (n := 0) hC hl.1 hK hw (tX6_nextToken l G ((ntT (G 8) n b).1) n ((ntT (G 8) n b).2.1) ((ntT (G 8) n b).2.2) (nI b) wr (nI wk) rx rd (ntT_le (hb)) hn en) (lw_V q1253 q1255 qs31 q66 q1256) rfl rfl (by decide +kernel) ⟨by decide, by decide⟩ rfl rfl (Nat.le_of_ble_eq_true rfl) dX6_takes_15 ⟨Nat.zero_le _, Nat.zero_le _⟩ ?_
    rintro G2 H locs hG2 hw
    replace hw := hw.eq hG2
    clear hG2
    refine lv_iconst (v := (nI 1)) hC.1 hC.2.1 dX6_takes_18 (by decide) ?_
    exact m_iret hC hlk hr hw rfl (Or.inl ⟨_, _, _, _, if_pos c5, ntT_le hb, rfl, rfl⟩) dX6_takes_19
  · refine lv_aload_n hC.1 hC.2.1 dX6_takes_8 rfl (lv_at hl 0 rfl) ?_
    refine lv_iconst (v := (nI 1)) hC.1 hC.2.1 dX6_takes_9 (by decide) ?_
    refine m_calli (n := 1) hC hl.1 hK hw (tX6_faults l G (nI 1) (nI ((ntT (G 8) n b).1)) ((ntT (G 8) n b).2.1) ((ntT (G 8) n b).2.2) (nI b) wr (nI wk) rx rd) (lw_V q1273 q1275 qs35 q66 q1276) rfl rfl (by decide +kernel) ⟨by decide, by decide⟩ rfl rfl (Nat.le_of_ble_eq_true rfl) dX6_takes_10 ⟨Nat.zero_le _, Nat.zero_le _⟩ ?_
    rintro r2 G2 H locs ⟨rfl, hG2⟩ hw
    replace hw := hw.eq hG2
    clear hG2
    exact m_iret hC hlk hr hw rfl (Or.inr ⟨_, _, _, _, if_neg (b_nt c5), hb, rfl, rfl⟩) dX6_takes_13

set_option maxHeartbeats 4000000 in
theorem tX6_takesNumber (l : Launch) (G : mG) (lo : Int32) (hi : Int32) (at_ : Nat) (sg : Int32) (b n wk : Nat) (wr rx : Int32) (rd : vV) (hat : at_ < 57) (hb : b ≤ n) (hn : n ≤ 120) (en : G 0 8 = nI n) : mI l yX6_takesNumber cX6_takesNumber 5 .boolean ({ frames := 3, cells := 0, slots := 0, locals := 66 } : Room) [.int lo, .int hi, .int (nI at_), .int sg] (rds G (nI ((ntT (G 8) n b).1)) ((ntT (G 8) n b).2.1) ((ntT (G 8) n b).2.2) (nI b) wr (nI wk) rx rd) (fun r G' => rPost G n rx (pNum (G 8) n lo hi at_ sg b wk rd) r G') := by
  refine mI.of (by decide) rfl (fun _ => Nat.le_of_ble_eq_true rfl) ?_
  intro D dA ad p e s m below meth cd ls hC hlk hr hK hl hw
  have hl : lv_has ls 5 [(0, .ref (ad 0)), (1, .int lo), (2, .int hi), (3, .int (nI at_)), (4, .int sg)] := hl
  refine lv_aload_n hC.1 hC.2.1 dX6_takesNumber_0 rfl (lv_at hl 0 rfl) ?_
  refine m_gi hC hK hw 11 (by decide) rfl q1127 rfl (v := ((ntT (G 8) n b).2.1)) (rfl) dX6_takesNumber_1 ?_
  refine lv_iconst (v := (nI 2)) hC.1 hC.2.1 dX6_takesNumber_4 (by decide) ?_
  refine lv_icmp_ne (tgt := 23) hC.1 hC.2.1 dX6_takesNumber_5 (by decide) (fun c5 => ?_) (fun c5 => ?_)
  · refine lv_aload_n hC.1 hC.2.1 dX6_takesNumber_23 rfl (lv_at hl 0 rfl) ?_
    refine lv_aload_n hC.1 hC.2.1 dX6_takesNumber_24 rfl (lv_at hl 0 rfl) ?_
    refine m_gi hC hK hw 11 (by decide) rfl q1127 rfl (v := ((ntT (G 8) n b).2.1)) (rfl) dX6_takesNumber_25 ?_
    refine lv_iconst (v := (nI 2)) hC.1 hC.2.1 dX6_takesNumber_28 (by decide) ?_
    refine lv_icmp_ne (tgt := 36) hC.1 hC.2.1 dX6_takesNumber_29 (by decide) (fun c29 => ?_) (fun c29 => ?_)
    · refine lv_iconst (v := (nI 1)) hC.1 hC.2.1 dX6_takesNumber_36 (by decide) ?_
      refine m_calli (n := 1) hC hl.1 hK hw (tX6_faults l G (nI 1) (nI ((ntT (G 8) n b).1)) ((ntT (G 8) n b).2.1) ((ntT (G 8) n b).2.2) (nI b) wr (nI wk) rx rd) (lw_V q1273 q1275 qs35 q66 q1276) rfl rfl (by decide +kernel) ⟨by decide, by decide⟩ rfl rfl (Nat.le_of_ble_eq_true rfl) dX6_takesNumber_37 ⟨Nat.zero_le _, Nat.zero_le _⟩ ?_
      rintro r2 G2 H locs ⟨rfl, hG2⟩ hw
      replace hw := hw.eq hG2
      clear hG2
      exact m_iret hC hlk hr hw rfl (Or.inr ⟨_, _, _, _, if_neg c5, hb, rfl, rfl⟩) dX6_takesNumber_40
    · exact absurd c29 c5
  · refine lv_aload_n hC.1 hC.2.1 dX6_takesNumber_8 rfl (lv_at hl 0 rfl) ?_
    refine m_gi hC hK hw 12 (by decide) rfl q1128 rfl (v := ((ntT (G 8) n b).2.2)) (rfl) dX6_takesNumber_9 ?_
    refine lv_i2l hC.1 hC.2.1 dX6_takesNumber_12 rfl ?_
    refine lv_iload_n hC.1 hC.2.1 dX6_takesNumber_13 rfl (lv_at hl 1 rfl) ?_
    refine lv_i2l hC.1 hC.2.1 dX6_takesNumber_14 rfl ?_
    refine lv_iload_n hC.1 hC.2.1 dX6_takesNumber_15 rfl (lv_at hl 2 rfl) ?_
    refine lv_i2l hC.1 hC.2.1 dX6_takesNumber_16 rfl ?_
    refine pS_call (n := 3) hC hl.1 (tX6_inI l ((ntT (G 8) n b).2.2) lo hi) (lw_S q1210 q1211 q66 q1212) rfl rfl (by decide +kernel) ⟨by decide, by decide⟩ rfl rfl (Nat.le_of_ble_eq_true rfl) dX6_takesNumber_17 ⟨Nat.zero_le _, Nat.zero_le _⟩ ?_
    refine k_bne (tgt := 41) hC dX6_takesNumber_20 (by decide) (fun c20 => ?_) (fun c20 => ?_)
    · refine lv_aload_n hC.1 hC.2.1 dX6_takesNumber_41 rfl (lv_at hl 0 rfl) ?_
      refine m_ga hC hK hw 15 (by decide) rfl q1131 rfl dX6_takesNumber_42 ?_
      refine lv_iload_n hC.1 hC.2.1 dX6_takesNumber_45 rfl (lv_at hl 3 rfl) ?_
      refine lv_aload_n hC.1 hC.2.1 dX6_takesNumber_46 rfl (lv_at hl 0 rfl) ?_
      refine m_gi hC hK hw 12 (by decide) rfl q1128 rfl (v := ((ntT (G 8) n b).2.2)) (rfl) dX6_takesNumber_47 ?_
      refine m_st hC hK hw 16 (by decide) (by decide) (by decide) (by simp only [mLen]; omega) (by omega) dX6_takesNumber_50 (fun H locs hw => ?_)
      replace hw := hw.eq (rds_rd _ _ _ _ _ _ _ _ _ _ _)
      refine lv_aload_n hC.1 hC.2.1 dX6_takesNumber_51 rfl (lv_at hl 0 rfl) ?_
      refine m_callv (n := 0) hC hl.1 hK hw (tX6_nextToken l G ((ntT (G 8) n b).1) n ((ntT (G 8) n b).2.1) ((ntT (G 8) n b).2.2) (nI b) wr (nI wk) rx (upd rd at_ ((ntT (G 8) n b).2.2)) (ntT_le (hb)) hn en) (lw_V q1253 q1255 qs31 q66 q1256) rfl rfl (by decide +kernel) ⟨by decide, by decide⟩ rfl rfl (Nat.le_of_ble_eq_true rfl) dX6_takesNumber_52 ⟨Nat.zero_le _, Nat.zero_le _⟩ ?_
      rintro G2 H locs hG2 hw
      replace hw := hw.eq hG2
      clear hG2
      refine lv_aload_n hC.1 hC.2.1 dX6_takesNumber_55 rfl (lv_at hl 0 rfl) ?_
      refine lv_iload hC.1 hC.2.1 dX6_takesNumber_56 (lv_at hl 4 rfl) ?_
      refine m_calli (n := 1) hC hl.1 hK hw (tX6_takes l G sg ((ntT (G 8) n b).1) n wk wr rx (upd rd at_ ((ntT (G 8) n b).2.2)) (ntT_le (hb)) hn en) (lw_V q1265 q1267 qs33 q66 q1268) rfl rfl (by decide +kernel) ⟨by decide, by decide⟩ rfl rfl (Nat.le_of_ble_eq_true rfl) dX6_takesNumber_58 ⟨Nat.zero_le _, Nat.zero_le _⟩ ?_
      rintro r2 G2 H locs (⟨b58, wk58, rd58, wr58, hE58, hb58, rfl, hG2⟩ | ⟨wr58, b58, wk58, rd58, hE58, hb58, rfl, hG2⟩) hw
      · replace hw := hw.eq hG2
        clear hG2
        exact m_iret hC hlk hr hw rfl (Or.inl ⟨_, _, _, _, ((if_pos c5).trans (if_pos c20)).trans hE58, hb58, rfl, rfl⟩) dX6_takesNumber_61
      · replace hw := hw.eq hG2
        clear hG2
        exact m_iret hC hlk hr hw rfl (Or.inr ⟨_, _, _, _, ((if_pos c5).trans (if_pos c20)).trans hE58, hb58, rfl, rfl⟩) dX6_takesNumber_61
    · refine lv_aload_n hC.1 hC.2.1 dX6_takesNumber_23 rfl (lv_at hl 0 rfl) ?_
      refine lv_aload_n hC.1 hC.2.1 dX6_takesNumber_24 rfl (lv_at hl 0 rfl) ?_
      refine m_gi hC hK hw 11 (by decide) rfl q1127 rfl (v := ((ntT (G 8) n b).2.1)) (rfl) dX6_takesNumber_25 ?_
      refine lv_iconst (v := (nI 2)) hC.1 hC.2.1 dX6_takesNumber_28 (by decide) ?_
      refine lv_icmp_ne (tgt := 36) hC.1 hC.2.1 dX6_takesNumber_29 (by decide) (fun c29 => ?_) (fun c29 => ?_)
      · exact absurd c5 c29
      · refine lv_iconst (v := (nI 2)) hC.1 hC.2.1 dX6_takesNumber_32 (by decide) ?_
        refine lv_goto (tgt := 37) hC.1 hC.2.1 dX6_takesNumber_33 (by decide) ?_
        refine m_calli (n := 1) hC hl.1 hK hw (tX6_faults l G (nI 2) (nI ((ntT (G 8) n b).1)) ((ntT (G 8) n b).2.1) ((ntT (G 8) n b).2.2) (nI b) wr (nI wk) rx rd) (lw_V q1273 q1275 qs35 q66 q1276) rfl rfl (by decide +kernel) ⟨by decide, by decide⟩ rfl rfl (Nat.le_of_ble_eq_true rfl) dX6_takesNumber_37 ⟨Nat.zero_le _, Nat.zero_le _⟩ ?_
        rintro r2 G2 H locs ⟨rfl, hG2⟩ hw
        replace hw := hw.eq hG2
        clear hG2
        exact m_iret hC hlk hr hw rfl (Or.inr ⟨_, _, _, _, (if_pos c5).trans (if_neg (b_nt c20)), hb, rfl, rfl⟩) dX6_takesNumber_40

set_option maxHeartbeats 4000000 in
theorem tX6_readFour (l : Launch) (G : mG) (c : Int32) (at_ : Nat) (b n wk : Nat) (wr rx : Int32) (rd : vV) (hat : at_ < 50) (hb : b ≤ n) (hn : n ≤ 120) (en : G 0 8 = nI n) : mI l yX6_readFour cX6_readFour 5 .boolean ({ frames := 4, cells := 0, slots := 0, locals := 90 } : Room) [.int c, .int (nI at_)] (rds G (nI ((ntT (G 8) n b).1)) ((ntT (G 8) n b).2.1) ((ntT (G 8) n b).2.2) (nI b) wr (nI wk) rx rd) (fun r G' => rPost G n rx (pFour (G 8) n c at_ b wk rd) r G') := by
  refine mI.of (by decide) rfl (fun _ => Nat.le_of_ble_eq_true rfl) ?_
  intro D dA ad p e s m below meth cd ls hC hlk hr hK hl hw
  have hl : lv_has ls 5 [(0, .ref (ad 0)), (1, .int c), (2, .int (nI at_))] := hl
  refine lv_aload_n hC.1 hC.2.1 dX6_readFour_0 rfl (lv_at hl 0 rfl) ?_
  refine lv_iload_n hC.1 hC.2.1 dX6_readFour_1 rfl (lv_at hl 1 rfl) ?_
  refine m_calli (n := 1) hC hl.1 hK hw (tX6_takes l G c b n wk wr rx rd (hb) hn en) (lw_V q1265 q1267 qs33 q66 q1268) rfl rfl (by decide +kernel) ⟨by decide, by decide⟩ rfl rfl (Nat.le_of_ble_eq_true rfl) dX6_readFour_2 ⟨Nat.zero_le _, Nat.zero_le _⟩ ?_
  rintro r2 G2 H locs (⟨b2, wk2, rd2, wr2, hE2, hb2, rfl, hG2⟩ | ⟨wr2, b2, wk2, rd2, hE2, hb2, rfl, hG2⟩) hw
  · replace hw := hw.eq hG2
    clear hG2
    refine lv_istore_n (lv' := [(3, .int (nI 1)), (0, .ref (ad 0)), (1, .int c), (2, .int (nI at_))]) hC.1 hC.2.1 dX6_readFour_5 rfl hl (by decide) rfl (fun ls hl => ?_)
    refine lv_iconst (v := (nI 0)) hC.1 hC.2.1 dX6_readFour_6 (by decide) ?_
    refine lv_istore (lv' := [(4, .int (nI 0)), (3, .int (nI 1)), (0, .ref (ad 0)), (1, .int c), (2, .int (nI at_))]) hC.1 hC.2.1 dX6_readFour_7 hl (by decide) rfl (fun ls hl => ?_)
    refine W.loop (fun ls z H locs => lv_has ls 5 [(0, .ref (ad 0)), (1, .int c), (2, .int (nI at_)), (3, .int (nI 1)), (4, .int (nI z.1))] ∧ (mw D dA (nA mDom ad s.heap.size) s.heap ad (rds G (nI ((ntT (G 8) n z.2.1).1)) ((ntT (G 8) n z.2.1).2.1) ((ntT (G 8) n z.2.1).2.2) (nI z.2.1) z.2.2.2.2 (nI z.2.2.1) rx z.2.2.2.1) H locs) ∧ (z.1 ≤ 4) ∧ (z.2.1 ≤ n) ∧ (pFour (G 8) n c at_ b wk rd = pF4 (G 8) n at_ (4 - z.1) z.1 z.2.1 z.2.2.1 z.2.2.2.1)) 9 (fun _ => []) (fun z => 4 - z.1) ?_ ((0, b2, wk2, rd2, wr2) : Nat × Nat × Nat × vV × Int32) ⟨hl.sub' [2, 3, 4, 1, 0] (by rfl), hw.eq (by dsimp only), Nat.zero_le 4, hb2, pFour_ok hE2⟩
    rintro ls z H locs ⟨hl, hw, hz1, hz2, hF⟩ ih9
    refine lv_iload hC.1 hC.2.1 dX6_readFour_9 (lv_at hl 4 rfl) ?_
    refine lv_iconst (v := (nI 4)) hC.1 hC.2.1 dX6_readFour_11 (by decide) ?_
    refine k_ge (tgt := 50) hC (by omega) (by omega) dX6_readFour_12 (by decide) (fun c12 => ?_) (fun c12 => ?_)
    · refine lv_iload_n hC.1 hC.2.1 dX6_readFour_50 rfl (lv_at hl 3 rfl) ?_
      exact m_iret hC hlk hr hw rfl (Or.inl ⟨_, _, _, _, hF.trans (pF4_4 c12), hz2, rfl, rfl⟩) dX6_readFour_51
    · have cc12 := c12
      refine lv_iload_n hC.1 hC.2.1 dX6_readFour_15 rfl (lv_at hl 3 rfl) ?_
      refine k_zeq (tgt := 50) hC (by decide) dX6_readFour_16 (by decide) (fun h => absurd h (by decide)) (fun c16 => ?_)
      refine lv_aload_n hC.1 hC.2.1 dX6_readFour_19 rfl (lv_at hl 0 rfl) ?_
      refine lv_iconst (v := (nI 0)) hC.1 hC.2.1 dX6_readFour_20 (by decide) ?_
      refine lv_bipush (v := (nI 31)) hC.1 hC.2.1 dX6_readFour_21 (by decide) ?_
      refine lv_iload_n hC.1 hC.2.1 dX6_readFour_23 rfl (lv_at hl 2 rfl) ?_
      refine lv_iload hC.1 hC.2.1 dX6_readFour_24 (lv_at hl 4 rfl) ?_
      refine k_add hC dX6_readFour_26 ?_
      refine lv_iload hC.1 hC.2.1 dX6_readFour_27 (lv_at hl 4 rfl) ?_
      refine lv_iconst (v := (nI 3)) hC.1 hC.2.1 dX6_readFour_29 (by decide) ?_
      refine k_ne (tgt := 38) hC (by omega) (by omega) dX6_readFour_30 (by decide) (fun c30 => ?_) (fun c30 => ?_)
      · refine lv_bipush (v := (nI 44)) hC.1 hC.2.1 dX6_readFour_38 (by decide) ?_
        refine m_calli (n := 4) hC hl.1 hK hw (tX6_takesNumber l G (nI 0) (nI 31) (at_ + z.1) (nI 44) z.2.1 n z.2.2.1 z.2.2.2.2 rx z.2.2.2.1 (by omega) (hz2) hn en) (lw_V q1277 q1279 qs36 q66 q1280) rfl rfl (by decide +kernel) ⟨by decide, by decide⟩ rfl rfl (Nat.le_of_ble_eq_true rfl) dX6_readFour_40 ⟨Nat.zero_le _, Nat.zero_le _⟩ ?_
        rintro r2 G2 H locs (⟨b40, wk40, rd40, wr40, hE40, hb40, rfl, hG2⟩ | ⟨wr40, b40, wk40, rd40, hE40, hb40, rfl, hG2⟩) hw
        · replace hw := hw.eq hG2
          clear hG2
          refine lv_istore_n (lv' := [(3, .int (nI 1)), (0, .ref (ad 0)), (1, .int c), (2, .int (nI at_)), (4, .int (nI z.1))]) hC.1 hC.2.1 dX6_readFour_43 rfl hl (by decide) rfl (fun ls hl => ?_)
          refine k_iinc (k := 4) (d := 1) (lv' := [(4, .int (nI (z.1 + 1))), (3, .int (nI 1)), (0, .ref (ad 0)), (1, .int c), (2, .int (nI at_))]) hC dX6_readFour_44 hl rfl (by decide) (by decide) rfl (fun ls hl => ?_)
          refine lv_goto (tgt := 9) hC.1 hC.2.1 dX6_readFour_47 (by decide) ?_
          have hF2 := hF.trans (pF4_ok c12 (if_neg c30) hE40)
          exact ih9 ls (z.1 + 1, b40, wk40, rd40, wr40) H locs ⟨hl.sub' [2, 3, 4, 1, 0] (by rfl), hw.eq (by dsimp only), by show z.1 + 1 ≤ 4; omega, hb40, hF2⟩ (by show 4 - (z.1 + 1) < 4 - z.1; omega)
        · replace hw := hw.eq hG2
          clear hG2
          refine lv_istore_n (lv' := [(3, .int (nI 0)), (0, .ref (ad 0)), (1, .int c), (2, .int (nI at_)), (4, .int (nI z.1))]) hC.1 hC.2.1 dX6_readFour_43 rfl hl (by decide) rfl (fun ls hl => ?_)
          refine k_iinc (k := 4) (d := 1) (lv' := [(4, .int (nI (z.1 + 1))), (3, .int (nI 0)), (0, .ref (ad 0)), (1, .int c), (2, .int (nI at_))]) hC dX6_readFour_44 hl rfl (by decide) (by decide) rfl (fun ls hl => ?_)
          refine lv_goto (tgt := 9) hC.1 hC.2.1 dX6_readFour_47 (by decide) ?_
          refine lv_iload hC.1 hC.2.1 dX6_readFour_9 (lv_at hl 0 rfl) ?_
          refine lv_iconst (v := (nI 4)) hC.1 hC.2.1 dX6_readFour_11 (by decide) ?_
          refine k_ge (tgt := 50) hC (by omega) (by omega) dX6_readFour_12 (by decide) (fun c12 => ?_) (fun c12 => ?_)
          · refine lv_iload_n hC.1 hC.2.1 dX6_readFour_50 rfl (lv_at hl 1 rfl) ?_
            exact m_iret hC hlk hr hw rfl (Or.inr ⟨_, _, _, _, hF.trans (pF4_er cc12 (if_neg c30) hE40), hb40, rfl, rfl⟩) dX6_readFour_51
          · refine lv_iload_n hC.1 hC.2.1 dX6_readFour_15 rfl (lv_at hl 1 rfl) ?_
            refine k_zeq (tgt := 50) hC (by decide) dX6_readFour_16 (by decide) (fun c16 => ?_) (fun h => absurd h (by decide))
            refine lv_iload_n hC.1 hC.2.1 dX6_readFour_50 rfl (lv_at hl 1 rfl) ?_
            exact m_iret hC hlk hr hw rfl (Or.inr ⟨_, _, _, _, hF.trans (pF4_er cc12 (if_neg c30) hE40), hb40, rfl, rfl⟩) dX6_readFour_51
      · refine lv_bipush (v := (nI 59)) hC.1 hC.2.1 dX6_readFour_33 (by decide) ?_
        refine lv_goto (tgt := 40) hC.1 hC.2.1 dX6_readFour_35 (by decide) ?_
        refine m_calli (n := 4) hC hl.1 hK hw (tX6_takesNumber l G (nI 0) (nI 31) (at_ + z.1) (nI 59) z.2.1 n z.2.2.1 z.2.2.2.2 rx z.2.2.2.1 (by omega) (hz2) hn en) (lw_V q1277 q1279 qs36 q66 q1280) rfl rfl (by decide +kernel) ⟨by decide, by decide⟩ rfl rfl (Nat.le_of_ble_eq_true rfl) dX6_readFour_40 ⟨Nat.zero_le _, Nat.zero_le _⟩ ?_
        rintro r2 G2 H locs (⟨b40, wk40, rd40, wr40, hE40, hb40, rfl, hG2⟩ | ⟨wr40, b40, wk40, rd40, hE40, hb40, rfl, hG2⟩) hw
        · replace hw := hw.eq hG2
          clear hG2
          refine lv_istore_n (lv' := [(3, .int (nI 1)), (0, .ref (ad 0)), (1, .int c), (2, .int (nI at_)), (4, .int (nI z.1))]) hC.1 hC.2.1 dX6_readFour_43 rfl hl (by decide) rfl (fun ls hl => ?_)
          refine k_iinc (k := 4) (d := 1) (lv' := [(4, .int (nI (z.1 + 1))), (3, .int (nI 1)), (0, .ref (ad 0)), (1, .int c), (2, .int (nI at_))]) hC dX6_readFour_44 hl rfl (by decide) (by decide) rfl (fun ls hl => ?_)
          refine lv_goto (tgt := 9) hC.1 hC.2.1 dX6_readFour_47 (by decide) ?_
          have hF2 := hF.trans (pF4_ok c12 (if_pos c30) hE40)
          exact ih9 ls (z.1 + 1, b40, wk40, rd40, wr40) H locs ⟨hl.sub' [2, 3, 4, 1, 0] (by rfl), hw.eq (by dsimp only), by show z.1 + 1 ≤ 4; omega, hb40, hF2⟩ (by show 4 - (z.1 + 1) < 4 - z.1; omega)
        · replace hw := hw.eq hG2
          clear hG2
          refine lv_istore_n (lv' := [(3, .int (nI 0)), (0, .ref (ad 0)), (1, .int c), (2, .int (nI at_)), (4, .int (nI z.1))]) hC.1 hC.2.1 dX6_readFour_43 rfl hl (by decide) rfl (fun ls hl => ?_)
          refine k_iinc (k := 4) (d := 1) (lv' := [(4, .int (nI (z.1 + 1))), (3, .int (nI 0)), (0, .ref (ad 0)), (1, .int c), (2, .int (nI at_))]) hC dX6_readFour_44 hl rfl (by decide) (by decide) rfl (fun ls hl => ?_)
          refine lv_goto (tgt := 9) hC.1 hC.2.1 dX6_readFour_47 (by decide) ?_
          refine lv_iload hC.1 hC.2.1 dX6_readFour_9 (lv_at hl 0 rfl) ?_
          refine lv_iconst (v := (nI 4)) hC.1 hC.2.1 dX6_readFour_11 (by decide) ?_
          refine k_ge (tgt := 50) hC (by omega) (by omega) dX6_readFour_12 (by decide) (fun c12 => ?_) (fun c12 => ?_)
          · refine lv_iload_n hC.1 hC.2.1 dX6_readFour_50 rfl (lv_at hl 1 rfl) ?_
            exact m_iret hC hlk hr hw rfl (Or.inr ⟨_, _, _, _, hF.trans (pF4_er cc12 (if_pos c30) hE40), hb40, rfl, rfl⟩) dX6_readFour_51
          · refine lv_iload_n hC.1 hC.2.1 dX6_readFour_15 rfl (lv_at hl 1 rfl) ?_
            refine k_zeq (tgt := 50) hC (by decide) dX6_readFour_16 (by decide) (fun c16 => ?_) (fun h => absurd h (by decide))
            refine lv_iload_n hC.1 hC.2.1 dX6_readFour_50 rfl (lv_at hl 1 rfl) ?_
            exact m_iret hC hlk hr hw rfl (Or.inr ⟨_, _, _, _, hF.trans (pF4_er cc12 (if_pos c30) hE40), hb40, rfl, rfl⟩) dX6_readFour_51
  · replace hw := hw.eq hG2
    clear hG2
    refine lv_istore_n (lv' := [(3, .int (nI 0)), (0, .ref (ad 0)), (1, .int c), (2, .int (nI at_))]) hC.1 hC.2.1 dX6_readFour_5 rfl hl (by decide) rfl (fun ls hl => ?_)
    refine lv_iconst (v := (nI 0)) hC.1 hC.2.1 dX6_readFour_6 (by decide) ?_
    refine lv_istore (lv' := [(4, .int (nI 0)), (3, .int (nI 0)), (0, .ref (ad 0)), (1, .int c), (2, .int (nI at_))]) hC.1 hC.2.1 dX6_readFour_7 hl (by decide) rfl (fun ls hl => ?_)
    refine lv_iload hC.1 hC.2.1 dX6_readFour_9 (lv_at hl 0 rfl) ?_
    refine lv_iconst (v := (nI 4)) hC.1 hC.2.1 dX6_readFour_11 (by decide) ?_
    refine k_ge (tgt := 50) hC (by omega) (by omega) dX6_readFour_12 (by decide) (fun c12 => ?_) (fun c12 => ?_)
    · refine lv_iload_n hC.1 hC.2.1 dX6_readFour_50 rfl (lv_at hl 1 rfl) ?_
      exact m_iret hC hlk hr hw rfl (Or.inr ⟨_, _, _, _, pFour_er hE2, hb2, rfl, rfl⟩) dX6_readFour_51
    · have cc12 := c12
      refine lv_iload_n hC.1 hC.2.1 dX6_readFour_15 rfl (lv_at hl 1 rfl) ?_
      refine k_zeq (tgt := 50) hC (by decide) dX6_readFour_16 (by decide) (fun c16 => ?_) (fun h => absurd h (by decide))
      refine lv_iload_n hC.1 hC.2.1 dX6_readFour_50 rfl (lv_at hl 1 rfl) ?_
      exact m_iret hC hlk hr hw rfl (Or.inr ⟨_, _, _, _, pFour_er hE2, hb2, rfl, rfl⟩) dX6_readFour_51

set_option maxHeartbeats 4000000 in
theorem tX6_readWork (l : Launch) (G : mG) (kind : Int32) (b n wk : Nat) (wr rx : Int32) (rd : vV) (hwk : wk ≤ 6) (hb : b ≤ n) (hn : n ≤ 120) (en : G 0 8 = nI n) : mI l yX6_readWork cX6_readWork 3 .boolean ({ frames := 4, cells := 0, slots := 0, locals := 90 } : Room) [.int kind] (rds G (nI ((ntT (G 8) n b).1)) ((ntT (G 8) n b).2.1) ((ntT (G 8) n b).2.2) (nI b) wr (nI wk) rx rd) (fun r G' => rPostX G n (pWork (G 8) n kind b wk rd) r G') := by
  refine mI.of (by decide) rfl (fun _ => Nat.le_of_ble_eq_true rfl) ?_
  intro D dA ad p e s m below meth cd ls hC hlk hr hK hl hw
  have hl : lv_has ls 3 [(0, .ref (ad 0)), (1, .int kind)] := hl
  refine lv_aload_n hC.1 hC.2.1 dX6_readWork_0 rfl (lv_at hl 0 rfl) ?_
  refine m_gi hC hK hw 16 (by decide) rfl q1132 rfl (v := (nI wk)) (rfl) dX6_readWork_1 ?_
  refine lv_bipush (v := (nI 6)) hC.1 hC.2.1 dX6_readWork_4 (by decide) ?_
  refine k_ne (tgt := 15) hC (by omega) (by omega) dX6_readWork_6 (by decide) (fun c6 => ?_) (fun c6 => ?_)
  · refine lv_aload_n hC.1 hC.2.1 dX6_readWork_15 rfl (lv_at hl 0 rfl) ?_
    refine m_callv (n := 0) hC hl.1 hK hw (tX6_nextToken l G ((ntT (G 8) n b).1) n ((ntT (G 8) n b).2.1) ((ntT (G 8) n b).2.2) (nI b) wr (nI wk) rx rd (ntT_le (hb)) hn en) (lw_V q1253 q1255 qs31 q66 q1256) rfl rfl (by decide +kernel) ⟨by decide, by decide⟩ rfl rfl (Nat.le_of_ble_eq_true rfl) dX6_readWork_16 ⟨Nat.zero_le _, Nat.zero_le _⟩ ?_
    rintro G2 H locs hG2 hw
    replace hw := hw.eq hG2
    clear hG2
    refine lv_aload_n hC.1 hC.2.1 dX6_readWork_19 rfl (lv_at hl 0 rfl) ?_
    refine m_gi hC hK hw 11 (by decide) rfl q1127 rfl (v := ((ntT (G 8) n ((ntT (G 8) n b).1)).2.1)) (rfl) dX6_readWork_20 ?_
    refine lv_iconst (v := (nI 2)) hC.1 hC.2.1 dX6_readWork_23 (by decide) ?_
    refine lv_icmp_ne (tgt := 35) hC.1 hC.2.1 dX6_readWork_24 (by decide) (fun c24 => ?_) (fun c24 => ?_)
    · refine lv_aload_n hC.1 hC.2.1 dX6_readWork_35 rfl (lv_at hl 0 rfl) ?_
      refine lv_aload_n hC.1 hC.2.1 dX6_readWork_36 rfl (lv_at hl 0 rfl) ?_
      refine m_gi hC hK hw 11 (by decide) rfl q1127 rfl (v := ((ntT (G 8) n ((ntT (G 8) n b).1)).2.1)) (rfl) dX6_readWork_37 ?_
      refine lv_iconst (v := (nI 2)) hC.1 hC.2.1 dX6_readWork_40 (by decide) ?_
      refine lv_icmp_ne (tgt := 48) hC.1 hC.2.1 dX6_readWork_41 (by decide) (fun c41 => ?_) (fun c41 => ?_)
      · refine lv_iconst (v := (nI 1)) hC.1 hC.2.1 dX6_readWork_48 (by decide) ?_
        refine m_calli (n := 1) hC hl.1 hK hw (tX6_faults l G (nI 1) (nI ((ntT (G 8) n ((ntT (G 8) n b).1)).1)) ((ntT (G 8) n ((ntT (G 8) n b).1)).2.1) ((ntT (G 8) n ((ntT (G 8) n b).1)).2.2) (nI ((ntT (G 8) n b).1)) wr (nI wk) rx rd) (lw_V q1273 q1275 qs35 q66 q1276) rfl rfl (by decide +kernel) ⟨by decide, by decide⟩ rfl rfl (Nat.le_of_ble_eq_true rfl) dX6_readWork_49 ⟨Nat.zero_le _, Nat.zero_le _⟩ ?_
        rintro r2 G2 H locs ⟨rfl, hG2⟩ hw
        replace hw := hw.eq hG2
        clear hG2
        exact m_iret hC hlk hr hw rfl (⟨_, Or.inr ⟨_, _, _, _, (if_neg c6).trans (if_neg c24), ntT_le hb, rfl, rfl⟩⟩) dX6_readWork_52
      · exact absurd c41 c24
    · refine lv_aload_n hC.1 hC.2.1 dX6_readWork_27 rfl (lv_at hl 0 rfl) ?_
      refine m_gi hC hK hw 12 (by decide) rfl q1128 rfl (v := ((ntT (G 8) n ((ntT (G 8) n b).1)).2.2)) (rfl) dX6_readWork_28 ?_
      refine lv_iconst (v := (nI 3)) hC.1 hC.2.1 dX6_readWork_31 (by decide) ?_
      refine lv_icmp_le (tgt := 53) hC.1 hC.2.1 dX6_readWork_32 (by decide) (fun c32 => ?_) (fun c32 => ?_)
      · obtain ⟨x, hx, ex⟩ := num_le3 c24 c32
        refine lv_aload_n hC.1 hC.2.1 dX6_readWork_53 rfl (lv_at hl 0 rfl) ?_
        refine lv_aload_n hC.1 hC.2.1 dX6_readWork_54 rfl (lv_at hl 0 rfl) ?_
        refine m_gi hC hK hw 12 (by decide) rfl q1128 rfl (v := (nI x)) (ex) dX6_readWork_55 ?_
        refine m_pi hC hK hw 17 (by decide) rfl rfl q1133 rfl rfl rfl rfl dX6_readWork_58 (fun H locs hw => ?_)
        replace hw := hw.eq (rds_17 _ _ _ _ _ _ _ _ _ _)
        refine lv_aload_n hC.1 hC.2.1 dX6_readWork_61 rfl (lv_at hl 0 rfl) ?_
        refine m_callv (n := 0) hC hl.1 hK hw (tX6_nextToken l G ((ntT (G 8) n ((ntT (G 8) n b).1)).1) n ((ntT (G 8) n ((ntT (G 8) n b).1)).2.1) ((ntT (G 8) n ((ntT (G 8) n b).1)).2.2) (nI ((ntT (G 8) n b).1)) wr (nI wk) (nI x) rd (ntT_le (ntT_le (hb))) hn en) (lw_V q1253 q1255 qs31 q66 q1256) rfl rfl (by decide +kernel) ⟨by decide, by decide⟩ rfl rfl (Nat.le_of_ble_eq_true rfl) dX6_readWork_62 ⟨Nat.zero_le _, Nat.zero_le _⟩ ?_
        rintro G2 H locs hG2 hw
        replace hw := hw.eq hG2
        clear hG2
        refine lv_aload_n hC.1 hC.2.1 dX6_readWork_65 rfl (lv_at hl 0 rfl) ?_
        refine lv_bipush (v := (nI 44)) hC.1 hC.2.1 dX6_readWork_66 (by decide) ?_
        refine m_calli (n := 1) hC hl.1 hK hw (tX6_takes l G (nI 44) ((ntT (G 8) n ((ntT (G 8) n b).1)).1) n wk wr (nI x) rd (ntT_le (ntT_le (hb))) hn en) (lw_V q1265 q1267 qs33 q66 q1268) rfl rfl (by decide +kernel) ⟨by decide, by decide⟩ rfl rfl (Nat.le_of_ble_eq_true rfl) dX6_readWork_68 ⟨Nat.zero_le _, Nat.zero_le _⟩ ?_
        rintro r2 G2 H locs (⟨b68, wk68, rd68, wr68, hE68, hb68, rfl, hG2⟩ | ⟨wr68, b68, wk68, rd68, hE68, hb68, rfl, hG2⟩) hw
        · replace hw := hw.eq hG2
          clear hG2
          refine k_zne (tgt := 76) hC (by decide) dX6_readWork_71 (by decide) (fun c71 => ?_) (fun h => absurd h (by decide))
          refine lv_aload_n hC.1 hC.2.1 dX6_readWork_76 rfl (lv_at hl 0 rfl) ?_
          refine m_gi hC hK hw 11 (by decide) rfl q1127 rfl (v := ((ntT (G 8) n b68).2.1)) (rfl) dX6_readWork_77 ?_
          refine lv_iconst (v := (nI 2)) hC.1 hC.2.1 dX6_readWork_80 (by decide) ?_
          refine lv_icmp_ne (tgt := 114) hC.1 hC.2.1 dX6_readWork_81 (by decide) (fun c81 => ?_) (fun c81 => ?_)
          · refine lv_aload_n hC.1 hC.2.1 dX6_readWork_114 rfl (lv_at hl 0 rfl) ?_
            refine lv_aload_n hC.1 hC.2.1 dX6_readWork_115 rfl (lv_at hl 0 rfl) ?_
            refine m_gi hC hK hw 11 (by decide) rfl q1127 rfl (v := ((ntT (G 8) n b68).2.1)) (rfl) dX6_readWork_116 ?_
            refine lv_iconst (v := (nI 2)) hC.1 hC.2.1 dX6_readWork_119 (by decide) ?_
            refine lv_icmp_ne (tgt := 127) hC.1 hC.2.1 dX6_readWork_120 (by decide) (fun c120 => ?_) (fun c120 => ?_)
            · refine lv_iconst (v := (nI 1)) hC.1 hC.2.1 dX6_readWork_127 (by decide) ?_
              refine m_calli (n := 1) hC hl.1 hK hw (tX6_faults l G (nI 1) (nI ((ntT (G 8) n b68).1)) ((ntT (G 8) n b68).2.1) ((ntT (G 8) n b68).2.2) (nI b68) wr68 (nI wk68) (nI x) rd68) (lw_V q1273 q1275 qs35 q66 q1276) rfl rfl (by decide +kernel) ⟨by decide, by decide⟩ rfl rfl (Nat.le_of_ble_eq_true rfl) dX6_readWork_128 ⟨Nat.zero_le _, Nat.zero_le _⟩ ?_
              rintro r2 G2 H locs ⟨rfl, hG2⟩ hw
              replace hw := hw.eq hG2
              clear hG2
              exact m_iret hC hlk hr hw rfl (⟨_, Or.inr ⟨_, _, _, _, ((if_neg c6).trans (pWork1_ok c24 c32 hx ex hE68)).trans (if_neg c81), hb68, rfl, rfl⟩⟩) dX6_readWork_131
            · exact absurd c120 c81
          · refine lv_aload_n hC.1 hC.2.1 dX6_readWork_84 rfl (lv_at hl 0 rfl) ?_
            refine m_gi hC hK hw 12 (by decide) rfl q1128 rfl (v := ((ntT (G 8) n b68).2.2)) (rfl) dX6_readWork_85 ?_
            refine lv_iconst (v := (nI 3)) hC.1 hC.2.1 dX6_readWork_88 (by decide) ?_
            refine lv_icmp_gt (tgt := 114) hC.1 hC.2.1 dX6_readWork_89 (by decide) (fun c89 => ?_) (fun c89 => ?_)
            · refine lv_aload_n hC.1 hC.2.1 dX6_readWork_114 rfl (lv_at hl 0 rfl) ?_
              refine lv_aload_n hC.1 hC.2.1 dX6_readWork_115 rfl (lv_at hl 0 rfl) ?_
              refine m_gi hC hK hw 11 (by decide) rfl q1127 rfl (v := ((ntT (G 8) n b68).2.1)) (rfl) dX6_readWork_116 ?_
              refine lv_iconst (v := (nI 2)) hC.1 hC.2.1 dX6_readWork_119 (by decide) ?_
              refine lv_icmp_ne (tgt := 127) hC.1 hC.2.1 dX6_readWork_120 (by decide) (fun c120 => ?_) (fun c120 => ?_)
              · exact absurd c81 c120
              · refine lv_iconst (v := (nI 2)) hC.1 hC.2.1 dX6_readWork_123 (by decide) ?_
                refine lv_goto (tgt := 128) hC.1 hC.2.1 dX6_readWork_124 (by decide) ?_
                refine m_calli (n := 1) hC hl.1 hK hw (tX6_faults l G (nI 2) (nI ((ntT (G 8) n b68).1)) ((ntT (G 8) n b68).2.1) ((ntT (G 8) n b68).2.2) (nI b68) wr68 (nI wk68) (nI x) rd68) (lw_V q1273 q1275 qs35 q66 q1276) rfl rfl (by decide +kernel) ⟨by decide, by decide⟩ rfl rfl (Nat.le_of_ble_eq_true rfl) dX6_readWork_128 ⟨Nat.zero_le _, Nat.zero_le _⟩ ?_
                rintro r2 G2 H locs ⟨rfl, hG2⟩ hw
                replace hw := hw.eq hG2
                clear hG2
                exact m_iret hC hlk hr hw rfl (⟨_, Or.inr ⟨_, _, _, _, ((if_neg c6).trans (pWork1_ok c24 c32 hx ex hE68)).trans ((if_pos c81).trans (if_neg (Int32.not_le.mpr c89))), hb68, rfl, rfl⟩⟩) dX6_readWork_131
            · obtain ⟨y, hy, ey⟩ := num_le3 c81 (Int32.not_lt.mp c89)
              refine lv_aload_n hC.1 hC.2.1 dX6_readWork_92 rfl (lv_at hl 0 rfl) ?_
              refine m_ga hC hK hw 15 (by decide) rfl q1131 rfl dX6_readWork_93 ?_
              refine lv_bipush (v := (nI 9)) hC.1 hC.2.1 dX6_readWork_96 (by decide) ?_
              refine lv_iconst (v := (nI 4)) hC.1 hC.2.1 dX6_readWork_98 (by decide) ?_
              refine lv_aload_n hC.1 hC.2.1 dX6_readWork_99 rfl (lv_at hl 0 rfl) ?_
              refine m_gi hC hK hw 17 (by decide) rfl q1133 rfl (v := (nI x)) (rfl) dX6_readWork_100 ?_
              refine k_mul hC dX6_readWork_103 ?_
              refine k_add hC dX6_readWork_104 ?_
              refine lv_aload_n hC.1 hC.2.1 dX6_readWork_105 rfl (lv_at hl 0 rfl) ?_
              refine m_gi hC hK hw 12 (by decide) rfl q1128 rfl (v := (nI y)) (ey) dX6_readWork_106 ?_
              refine k_add hC dX6_readWork_109 ?_
              refine m_ld hC hK hw 16 (by decide) (by decide) (by decide) (by simp only [mLen]; omega) (by omega) (v := (rd68 ((9 + (4 * x)) + y))) (rfl) dX6_readWork_110 ?_
              refine lv_if_le (tgt := 132) hC.1 hC.2.1 dX6_readWork_111 (by decide) (fun c111 => ?_) (fun c111 => ?_)
              · refine lv_iconst (v := (nI 4)) hC.1 hC.2.1 dX6_readWork_132 (by decide) ?_
                refine lv_aload_n hC.1 hC.2.1 dX6_readWork_133 rfl (lv_at hl 0 rfl) ?_
                refine m_gi hC hK hw 17 (by decide) rfl q1133 rfl (v := (nI x)) (rfl) dX6_readWork_134 ?_
                refine k_mul hC dX6_readWork_137 ?_
                refine lv_aload_n hC.1 hC.2.1 dX6_readWork_138 rfl (lv_at hl 0 rfl) ?_
                refine m_gi hC hK hw 12 (by decide) rfl q1128 rfl (v := (nI y)) (ey) dX6_readWork_139 ?_
                refine k_add hC dX6_readWork_142 ?_
                refine lv_istore_n (lv' := [(2, .int (nI ((4 * x) + y))), (0, .ref (ad 0)), (1, .int kind)]) hC.1 hC.2.1 dX6_readWork_143 rfl hl (by decide) rfl (fun ls hl => ?_)
                refine lv_aload_n hC.1 hC.2.1 dX6_readWork_144 rfl (lv_at hl 1 rfl) ?_
                refine m_callv (n := 0) hC hl.1 hK hw (tX6_nextToken l G ((ntT (G 8) n b68).1) n ((ntT (G 8) n b68).2.1) ((ntT (G 8) n b68).2.2) (nI b68) wr68 (nI wk68) (nI x) rd68 (ntT_le (hb68)) hn en) (lw_V q1253 q1255 qs31 q66 q1256) rfl rfl (by decide +kernel) ⟨by decide, by decide⟩ rfl rfl (Nat.le_of_ble_eq_true rfl) dX6_readWork_145 ⟨Nat.zero_le _, Nat.zero_le _⟩ ?_
                rintro G2 H locs hG2 hw
                replace hw := hw.eq hG2
                clear hG2
                refine lv_aload_n hC.1 hC.2.1 dX6_readWork_148 rfl (lv_at hl 1 rfl) ?_
                refine m_ga hC hK hw 15 (by decide) rfl q1131 rfl dX6_readWork_149 ?_
                refine lv_bipush (v := (nI 9)) hC.1 hC.2.1 dX6_readWork_152 (by decide) ?_
                refine lv_iload_n hC.1 hC.2.1 dX6_readWork_154 rfl (lv_at hl 0 rfl) ?_
                refine k_add hC dX6_readWork_155 ?_
                refine lv_iload_n hC.1 hC.2.1 dX6_readWork_156 rfl (lv_at hl 2 rfl) ?_
                refine m_st hC hK hw 16 (by decide) (by decide) (by decide) (by simp only [mLen]; omega) (by omega) dX6_readWork_157 (fun H locs hw => ?_)
                replace hw := hw.eq (rds_rd _ _ _ _ _ _ _ _ _ _ _)
                refine lv_aload_n hC.1 hC.2.1 dX6_readWork_158 rfl (lv_at hl 1 rfl) ?_
                refine lv_dup hC.1 hC.2.1 dX6_readWork_159 rfl ?_
                refine m_gi hC hK hw 16 (by decide) rfl q1132 rfl (v := (nI wk68)) (rfl) dX6_readWork_160 ?_
                refine lv_iconst (v := (nI 1)) hC.1 hC.2.1 dX6_readWork_163 (by decide) ?_
                refine k_add hC dX6_readWork_164 ?_
                refine m_pi hC hK hw 16 (by decide) rfl rfl q1132 rfl rfl rfl rfl dX6_readWork_165 (fun H locs hw => ?_)
                replace hw := hw.eq (rds_w _ _ _ _ _ _ _ _ _ _)
                refine lv_aload_n hC.1 hC.2.1 dX6_readWork_168 rfl (lv_at hl 1 rfl) ?_
                refine lv_bipush (v := (nI 44)) hC.1 hC.2.1 dX6_readWork_169 (by decide) ?_
                refine m_calli (n := 1) hC hl.1 hK hw (tX6_takes l G (nI 44) ((ntT (G 8) n b68).1) n (wk68 + 1) wr68 (nI x) (upd rd68 (9 + ((4 * x) + y)) kind) (ntT_le (hb68)) hn en) (lw_V q1265 q1267 qs33 q66 q1268) rfl rfl (by decide +kernel) ⟨by decide, by decide⟩ rfl rfl (Nat.le_of_ble_eq_true rfl) dX6_readWork_171 ⟨Nat.zero_le _, Nat.zero_le _⟩ ?_
                rintro r2 G2 H locs (⟨b171, wk171, rd171, wr171, hE171, hb171, rfl, hG2⟩ | ⟨wr171, b171, wk171, rd171, hE171, hb171, rfl, hG2⟩) hw
                · replace hw := hw.eq hG2
                  clear hG2
                  refine k_zeq (tgt := 197) hC (by decide) dX6_readWork_174 (by decide) (fun h => absurd h (by decide)) (fun c174 => ?_)
                  refine lv_aload_n hC.1 hC.2.1 dX6_readWork_177 rfl (lv_at hl 1 rfl) ?_
                  refine lv_iconst (v := (nI 0)) hC.1 hC.2.1 dX6_readWork_178 (by decide) ?_
                  refine lv_bipush (v := (nI 99)) hC.1 hC.2.1 dX6_readWork_179 (by decide) ?_
                  refine lv_bipush (v := (nI 25)) hC.1 hC.2.1 dX6_readWork_181 (by decide) ?_
                  refine lv_iload_n hC.1 hC.2.1 dX6_readWork_183 rfl (lv_at hl 0 rfl) ?_
                  refine k_add hC dX6_readWork_184 ?_
                  refine lv_bipush (v := (nI 59)) hC.1 hC.2.1 dX6_readWork_185 (by decide) ?_
                  refine m_calli (n := 4) hC hl.1 hK hw (tX6_takesNumber l G (nI 0) (nI 99) (25 + ((4 * x) + y)) (nI 59) b171 n wk171 wr171 (nI x) rd171 (by omega) (hb171) hn en) (lw_V q1277 q1279 qs36 q66 q1280) rfl rfl (by decide +kernel) ⟨by decide, by decide⟩ rfl rfl (Nat.le_of_ble_eq_true rfl) dX6_readWork_187 ⟨Nat.zero_le _, Nat.zero_le _⟩ ?_
                  rintro r2 G2 H locs (⟨b187, wk187, rd187, wr187, hE187, hb187, rfl, hG2⟩ | ⟨wr187, b187, wk187, rd187, hE187, hb187, rfl, hG2⟩) hw
                  · replace hw := hw.eq hG2
                    clear hG2
                    refine k_zeq (tgt := 197) hC (by decide) dX6_readWork_190 (by decide) (fun h => absurd h (by decide)) (fun c190 => ?_)
                    refine lv_iconst (v := (nI 1)) hC.1 hC.2.1 dX6_readWork_193 (by decide) ?_
                    refine lv_goto (tgt := 198) hC.1 hC.2.1 dX6_readWork_194 (by decide) ?_
                    exact m_iret hC hlk hr hw rfl (⟨_, Or.inl ⟨_, _, _, _, (((if_neg c6).trans (pWork1_ok c24 c32 hx ex hE68)).trans (pWork2_ok c81 (Int32.not_lt.mp c89) hy ey c111 hE171)).trans hE187, hb187, rfl, rfl⟩⟩) dX6_readWork_198
                  · replace hw := hw.eq hG2
                    clear hG2
                    refine k_zeq (tgt := 197) hC (by decide) dX6_readWork_190 (by decide) (fun c190 => ?_) (fun h => absurd h (by decide))
                    refine lv_iconst (v := (nI 0)) hC.1 hC.2.1 dX6_readWork_197 (by decide) ?_
                    exact m_iret hC hlk hr hw rfl (⟨_, Or.inr ⟨_, _, _, _, (((if_neg c6).trans (pWork1_ok c24 c32 hx ex hE68)).trans (pWork2_ok c81 (Int32.not_lt.mp c89) hy ey c111 hE171)).trans hE187, hb187, rfl, rfl⟩⟩) dX6_readWork_198
                · replace hw := hw.eq hG2
                  clear hG2
                  refine k_zeq (tgt := 197) hC (by decide) dX6_readWork_174 (by decide) (fun c174 => ?_) (fun h => absurd h (by decide))
                  refine lv_iconst (v := (nI 0)) hC.1 hC.2.1 dX6_readWork_197 (by decide) ?_
                  exact m_iret hC hlk hr hw rfl (⟨_, Or.inr ⟨_, _, _, _, ((if_neg c6).trans (pWork1_ok c24 c32 hx ex hE68)).trans (pWork2_er c81 (Int32.not_lt.mp c89) hy ey c111 hE171), hb171, rfl, rfl⟩⟩) dX6_readWork_198
              · refine lv_aload_n hC.1 hC.2.1 dX6_readWork_114 rfl (lv_at hl 0 rfl) ?_
                refine lv_aload_n hC.1 hC.2.1 dX6_readWork_115 rfl (lv_at hl 0 rfl) ?_
                refine m_gi hC hK hw 11 (by decide) rfl q1127 rfl (v := ((ntT (G 8) n b68).2.1)) (rfl) dX6_readWork_116 ?_
                refine lv_iconst (v := (nI 2)) hC.1 hC.2.1 dX6_readWork_119 (by decide) ?_
                refine lv_icmp_ne (tgt := 127) hC.1 hC.2.1 dX6_readWork_120 (by decide) (fun c120 => ?_) (fun c120 => ?_)
                · exact absurd c81 c120
                · refine lv_iconst (v := (nI 2)) hC.1 hC.2.1 dX6_readWork_123 (by decide) ?_
                  refine lv_goto (tgt := 128) hC.1 hC.2.1 dX6_readWork_124 (by decide) ?_
                  refine m_calli (n := 1) hC hl.1 hK hw (tX6_faults l G (nI 2) (nI ((ntT (G 8) n b68).1)) ((ntT (G 8) n b68).2.1) ((ntT (G 8) n b68).2.2) (nI b68) wr68 (nI wk68) (nI x) rd68) (lw_V q1273 q1275 qs35 q66 q1276) rfl rfl (by decide +kernel) ⟨by decide, by decide⟩ rfl rfl (Nat.le_of_ble_eq_true rfl) dX6_readWork_128 ⟨Nat.zero_le _, Nat.zero_le _⟩ ?_
                  rintro r2 G2 H locs ⟨rfl, hG2⟩ hw
                  replace hw := hw.eq hG2
                  clear hG2
                  exact m_iret hC hlk hr hw rfl (⟨_, Or.inr ⟨_, _, _, _, ((if_neg c6).trans (pWork1_ok c24 c32 hx ex hE68)).trans (pWork2_f c81 (Int32.not_lt.mp c89) hy ey c111), hb68, rfl, rfl⟩⟩) dX6_readWork_131
        · replace hw := hw.eq hG2
          clear hG2
          refine k_zne (tgt := 76) hC (by decide) dX6_readWork_71 (by decide) (fun h => absurd h (by decide)) (fun c71 => ?_)
          refine lv_iconst (v := (nI 0)) hC.1 hC.2.1 dX6_readWork_74 (by decide) ?_
          exact m_iret hC hlk hr hw rfl (⟨_, Or.inr ⟨_, _, _, _, (if_neg c6).trans (pWork1_er c24 c32 hE68), hb68, rfl, rfl⟩⟩) dX6_readWork_75
      · refine lv_aload_n hC.1 hC.2.1 dX6_readWork_35 rfl (lv_at hl 0 rfl) ?_
        refine lv_aload_n hC.1 hC.2.1 dX6_readWork_36 rfl (lv_at hl 0 rfl) ?_
        refine m_gi hC hK hw 11 (by decide) rfl q1127 rfl (v := ((ntT (G 8) n ((ntT (G 8) n b).1)).2.1)) (rfl) dX6_readWork_37 ?_
        refine lv_iconst (v := (nI 2)) hC.1 hC.2.1 dX6_readWork_40 (by decide) ?_
        refine lv_icmp_ne (tgt := 48) hC.1 hC.2.1 dX6_readWork_41 (by decide) (fun c41 => ?_) (fun c41 => ?_)
        · exact absurd c24 c41
        · refine lv_iconst (v := (nI 2)) hC.1 hC.2.1 dX6_readWork_44 (by decide) ?_
          refine lv_goto (tgt := 49) hC.1 hC.2.1 dX6_readWork_45 (by decide) ?_
          refine m_calli (n := 1) hC hl.1 hK hw (tX6_faults l G (nI 2) (nI ((ntT (G 8) n ((ntT (G 8) n b).1)).1)) ((ntT (G 8) n ((ntT (G 8) n b).1)).2.1) ((ntT (G 8) n ((ntT (G 8) n b).1)).2.2) (nI ((ntT (G 8) n b).1)) wr (nI wk) rx rd) (lw_V q1273 q1275 qs35 q66 q1276) rfl rfl (by decide +kernel) ⟨by decide, by decide⟩ rfl rfl (Nat.le_of_ble_eq_true rfl) dX6_readWork_49 ⟨Nat.zero_le _, Nat.zero_le _⟩ ?_
          rintro r2 G2 H locs ⟨rfl, hG2⟩ hw
          replace hw := hw.eq hG2
          clear hG2
          exact m_iret hC hlk hr hw rfl (⟨_, Or.inr ⟨_, _, _, _, (if_neg c6).trans ((if_pos c24).trans (if_neg c32)), ntT_le hb, rfl, rfl⟩⟩) dX6_readWork_52
  · refine lv_aload_n hC.1 hC.2.1 dX6_readWork_9 rfl (lv_at hl 0 rfl) ?_
    refine lv_iconst (v := (nI 3)) hC.1 hC.2.1 dX6_readWork_10 (by decide) ?_
    refine m_calli (n := 1) hC hl.1 hK hw (tX6_faults l G (nI 3) (nI ((ntT (G 8) n b).1)) ((ntT (G 8) n b).2.1) ((ntT (G 8) n b).2.2) (nI b) wr (nI wk) rx rd) (lw_V q1273 q1275 qs35 q66 q1276) rfl rfl (by decide +kernel) ⟨by decide, by decide⟩ rfl rfl (Nat.le_of_ble_eq_true rfl) dX6_readWork_11 ⟨Nat.zero_le _, Nat.zero_le _⟩ ?_
    rintro r2 G2 H locs ⟨rfl, hG2⟩ hw
    replace hw := hw.eq hG2
    clear hG2
    exact m_iret hC hlk hr hw rfl (⟨_, Or.inr ⟨_, _, _, _, if_pos c6, hb, rfl, rfl⟩⟩) dX6_readWork_14

set_option maxHeartbeats 4000000 in
theorem tX6_readPass (l : Launch) (G : mG) (n : Nat) (hn : n ≤ 120) (en : G 0 8 = nI n) : mI l yX6_readPass cX6_readPass 3 .boolean ({ frames := 5, cells := 0, slots := 0, locals := 114 } : Room) [] G (fun r G' => rPostX G n (pRead (G 8) n) r G') := by
  refine mI.of (by decide) rfl (fun _ => Nat.le_of_ble_eq_true rfl) ?_
  intro D dA ad p e s m below meth cd ls hC hlk hr hK hl hw
  have hl : lv_has ls 3 [(0, .ref (ad 0))] := hl
  replace hw := hw.eq (rds_in G)
  refine lv_aload_n hC.1 hC.2.1 dX6_readPass_0 rfl (lv_at hl 0 rfl) ?_
  refine lv_iconst (v := (nI 0)) hC.1 hC.2.1 dX6_readPass_1 (by decide) ?_
  refine m_pi hC hK hw 10 (by decide) rfl rfl q1126 rfl rfl rfl rfl dX6_readPass_2 (fun H locs hw => ?_)
  replace hw := hw.eq (rds_10 _ _ _ _ _ _ _ _ _ _)
  refine lv_aload_n hC.1 hC.2.1 dX6_readPass_5 rfl (lv_at hl 0 rfl) ?_
  refine lv_iconst (v := (nI 0)) hC.1 hC.2.1 dX6_readPass_6 (by decide) ?_
  refine m_pi hC hK hw 16 (by decide) rfl rfl q1132 rfl rfl rfl rfl dX6_readPass_7 (fun H locs hw => ?_)
  replace hw := hw.eq (rds_w _ _ _ _ _ _ _ _ _ _)
  refine lv_iconst (v := (nI 0)) hC.1 hC.2.1 dX6_readPass_10 (by decide) ?_
  refine lv_istore_n (lv' := [(1, .int (nI 0)), (0, .ref (ad 0))]) hC.1 hC.2.1 dX6_readPass_11 rfl hl (by decide) rfl (fun ls hl => ?_)
  refine W.loop (fun ls i H locs => lv_has ls 3 [(0, .ref (ad 0)), (1, .int (nI i))] ∧ (mw D dA (nA mDom ad s.heap.size) s.heap ad (rds G (nI 0) (G 0 11) (G 0 12) (G 0 13) (G 0 14) (nI 0) (G 0 17) (fun j => if j < i then nI 0 else G 16 j)) H locs) ∧ (i ≤ 57)) 12 (fun _ => []) (fun i => 57 - i) ?_ 0 ⟨hl.sub' [1, 0] (by rfl), hw.eq (by rw [show (fun j => if j < 0 then nI 0 else G 16 j) = G 16 from funext (fun j => if_neg (Nat.not_lt_zero j))]), by omega⟩
  rintro ls i H locs ⟨hl, hw, hi⟩ ih12
  refine lv_iload_n hC.1 hC.2.1 dX6_readPass_12 rfl (lv_at hl 1 rfl) ?_
  refine lv_bipush (v := (nI 57)) hC.1 hC.2.1 dX6_readPass_13 (by decide) ?_
  refine k_ge (tgt := 31) hC (by omega) (by omega) dX6_readPass_15 (by decide) (fun c15 => ?_) (fun c15 => ?_)
  · replace hw : mw D dA (nA mDom ad s.heap.size) s.heap ad (rds G (nI 0) (G 0 11) (G 0 12) (G 0 13) (G 0 14) (nI 0) (G 0 17) z0) H locs := hw.to (fun k _ _ => rfl) (fun n j hn hj => by by_cases h : n = 16; (subst h; show (if j < i then _ else _) = _; rw [if_pos (by have hj2 : j < 57 := hj; omega)]; rfl); rw [rds_o _ _ _ _ _ _ _ _ _ hn h, rds_o _ _ _ _ _ _ _ _ _ hn h])
    refine lv_aload_n hC.1 hC.2.1 dX6_readPass_31 rfl (lv_at hl 0 rfl) ?_
    refine m_callv (n := 0) hC hl.1 hK hw (tX6_nextToken l G 0 n (G 0 11) (G 0 12) (G 0 13) (G 0 14) (nI 0) (G 0 17) z0 (Nat.zero_le n) hn en) (lw_V q1253 q1255 qs31 q66 q1256) rfl rfl (by decide +kernel) ⟨by decide, by decide⟩ rfl rfl (Nat.le_of_ble_eq_true rfl) dX6_readPass_32 ⟨Nat.zero_le _, Nat.zero_le _⟩ ?_
    rintro G2 H locs hG2 hw
    replace hw := hw.eq hG2
    clear hG2
    refine lv_aload_n hC.1 hC.2.1 dX6_readPass_35 rfl (lv_at hl 0 rfl) ?_
    refine lv_bipush (v := (nI 97)) hC.1 hC.2.1 dX6_readPass_36 (by decide) ?_
    refine lv_iconst (v := (nI 1)) hC.1 hC.2.1 dX6_readPass_38 (by decide) ?_
    refine m_calli (n := 2) hC hl.1 hK hw (tX6_readFour l G (nI 97) 1 0 n 0 (G 0 14) (G 0 17) z0 (by omega) (Nat.zero_le n) hn en) (lw_V q1261 q1263 qs32 q66 q1264) rfl rfl (by decide +kernel) ⟨by decide, by decide⟩ rfl rfl (Nat.le_of_ble_eq_true rfl) dX6_readPass_39 ⟨Nat.zero_le _, Nat.zero_le _⟩ ?_
    rintro r2 G2 H locs (⟨b39, wk39, rd39, wr39, hE39, hb39, rfl, hG2⟩ | ⟨wr39, b39, wk39, rd39, hE39, hb39, rfl, hG2⟩) hw
    · replace hw := hw.eq hG2
      clear hG2
      refine k_zeq (tgt := 55) hC (by decide) dX6_readPass_42 (by decide) (fun h => absurd h (by decide)) (fun c42 => ?_)
      refine lv_aload_n hC.1 hC.2.1 dX6_readPass_45 rfl (lv_at hl 0 rfl) ?_
      refine lv_bipush (v := (nI 98)) hC.1 hC.2.1 dX6_readPass_46 (by decide) ?_
      refine lv_iconst (v := (nI 5)) hC.1 hC.2.1 dX6_readPass_48 (by decide) ?_
      refine m_calli (n := 2) hC hl.1 hK hw (tX6_readFour l G (nI 98) 5 b39 n wk39 wr39 (G 0 17) rd39 (by omega) (hb39) hn en) (lw_V q1261 q1263 qs32 q66 q1264) rfl rfl (by decide +kernel) ⟨by decide, by decide⟩ rfl rfl (Nat.le_of_ble_eq_true rfl) dX6_readPass_49 ⟨Nat.zero_le _, Nat.zero_le _⟩ ?_
      rintro r2 G2 H locs (⟨b49, wk49, rd49, wr49, hE49, hb49, rfl, hG2⟩ | ⟨wr49, b49, wk49, rd49, hE49, hb49, rfl, hG2⟩) hw
      · replace hw := hw.eq hG2
        clear hG2
        refine k_zne (tgt := 57) hC (by decide) dX6_readPass_52 (by decide) (fun c52 => ?_) (fun h => absurd h (by decide))
        refine lv_iconst (v := (nI 1)) hC.1 hC.2.1 dX6_readPass_57 (by decide) ?_
        refine lv_istore_n (lv' := [(1, .int (nI 1)), (0, .ref (ad 0))]) hC.1 hC.2.1 dX6_readPass_58 rfl hl (by decide) rfl (fun ls hl => ?_)
        refine W.loop (fun ls z H locs => lv_has ls 3 [(0, .ref (ad 0)), (1, .int (nI 1))] ∧ (mw D dA (nA mDom ad s.heap.size) s.heap ad (rds G (nI ((ntT (G 8) n z.1).1)) ((ntT (G 8) n z.1).2.1) ((ntT (G 8) n z.1).2.2) (nI z.1) z.2.2.2.1 (nI z.2.1) z.2.2.2.2 z.2.2.1) H locs) ∧ (z.1 ≤ n) ∧ (z.2.1 ≤ 6) ∧ (pRead (G 8) n = pAll (G 8) n (7 - z.2.1) z.1 z.2.1 z.2.2.1)) 59 (fun _ => []) (fun z => 7 - z.2.1) ?_ ((b49, wk49, rd49, wr49, G 0 17) : Nat × Nat × vV × Int32 × Int32) ⟨hl.sub' [1, 0] (by rfl), hw.eq (by dsimp only), hb49, (pRead_c hE39 hE49).1, (pRead_c hE39 hE49).2⟩
        rintro ls z H locs ⟨hl, hw, hz1, hz2, hP⟩ ih59
        refine lv_iload_n hC.1 hC.2.1 dX6_readPass_59 rfl (lv_at hl 1 rfl) ?_
        refine k_zeq (tgt := 159) hC (by decide) dX6_readPass_60 (by decide) (fun h => absurd h (by decide)) (fun c60 => ?_)
        refine lv_aload_n hC.1 hC.2.1 dX6_readPass_63 rfl (lv_at hl 0 rfl) ?_
        refine m_gi hC hK hw 11 (by decide) rfl q1127 rfl (v := ((ntT (G 8) n z.1).2.1)) (rfl) dX6_readPass_64 ?_
        refine lv_iconst (v := (nI 3)) hC.1 hC.2.1 dX6_readPass_67 (by decide) ?_
        refine lv_icmp_eq (tgt := 159) hC.1 hC.2.1 dX6_readPass_68 (by decide) (fun c68 => ?_) (fun c68 => ?_)
        · refine lv_iload_n hC.1 hC.2.1 dX6_readPass_159 rfl (lv_at hl 1 rfl) ?_
          exact m_iret hC hlk hr hw rfl (⟨_, Or.inl ⟨_, _, _, _, hP.trans (pAll_3 hz2 c68), hz1, rfl, rfl⟩⟩) dX6_readPass_160
        · refine lv_aload_n hC.1 hC.2.1 dX6_readPass_71 rfl (lv_at hl 0 rfl) ?_
          refine lv_bipush (v := (nI 119)) hC.1 hC.2.1 dX6_readPass_72 (by decide) ?_
          refine m_calli (n := 1) hC hl.1 hK hw (tX6_isLetter l G (nI 119) (nI ((ntT (G 8) n z.1).1)) ((ntT (G 8) n z.1).2.1) ((ntT (G 8) n z.1).2.2) (nI z.1) z.2.2.2.1 (nI z.2.1) z.2.2.2.2 z.2.2.1) (lw_V q1269 q1271 qs34 q66 q1272) rfl rfl (by decide +kernel) ⟨by decide, by decide⟩ rfl rfl (Nat.le_of_ble_eq_true rfl) dX6_readPass_74 ⟨Nat.zero_le _, Nat.zero_le _⟩ ?_
          rintro r2 G2 H locs ⟨rfl, hG2⟩ hw
          replace hw := hw.eq hG2
          clear hG2
          refine k_beq (tgt := 84) hC dX6_readPass_77 (by decide) (fun c77 => ?_) (fun c77 => ?_)
          · refine lv_aload_n hC.1 hC.2.1 dX6_readPass_84 rfl (lv_at hl 0 rfl) ?_
            refine lv_bipush (v := (nI 110)) hC.1 hC.2.1 dX6_readPass_85 (by decide) ?_
            refine m_calli (n := 1) hC hl.1 hK hw (tX6_isLetter l G (nI 110) (nI ((ntT (G 8) n z.1).1)) ((ntT (G 8) n z.1).2.1) ((ntT (G 8) n z.1).2.2) (nI z.1) z.2.2.2.1 (nI z.2.1) z.2.2.2.2 z.2.2.1) (lw_V q1269 q1271 qs34 q66 q1272) rfl rfl (by decide +kernel) ⟨by decide, by decide⟩ rfl rfl (Nat.le_of_ble_eq_true rfl) dX6_readPass_87 ⟨Nat.zero_le _, Nat.zero_le _⟩ ?_
            rintro r2 G2 H locs ⟨rfl, hG2⟩ hw
            replace hw := hw.eq hG2
            clear hG2
            refine k_beq (tgt := 97) hC dX6_readPass_90 (by decide) (fun c90 => ?_) (fun c90 => ?_)
            · refine lv_aload_n hC.1 hC.2.1 dX6_readPass_97 rfl (lv_at hl 0 rfl) ?_
              refine lv_bipush (v := (nI 115)) hC.1 hC.2.1 dX6_readPass_98 (by decide) ?_
              refine m_calli (n := 1) hC hl.1 hK hw (tX6_isLetter l G (nI 115) (nI ((ntT (G 8) n z.1).1)) ((ntT (G 8) n z.1).2.1) ((ntT (G 8) n z.1).2.2) (nI z.1) z.2.2.2.1 (nI z.2.1) z.2.2.2.2 z.2.2.1) (lw_V q1269 q1271 qs34 q66 q1272) rfl rfl (by decide +kernel) ⟨by decide, by decide⟩ rfl rfl (Nat.le_of_ble_eq_true rfl) dX6_readPass_100 ⟨Nat.zero_le _, Nat.zero_le _⟩ ?_
              rintro r2 G2 H locs ⟨rfl, hG2⟩ hw
              replace hw := hw.eq hG2
              clear hG2
              refine k_beq (tgt := 110) hC dX6_readPass_103 (by decide) (fun c103 => ?_) (fun c103 => ?_)
              · refine lv_aload_n hC.1 hC.2.1 dX6_readPass_110 rfl (lv_at hl 0 rfl) ?_
                refine lv_bipush (v := (nI 104)) hC.1 hC.2.1 dX6_readPass_111 (by decide) ?_
                refine m_calli (n := 1) hC hl.1 hK hw (tX6_isLetter l G (nI 104) (nI ((ntT (G 8) n z.1).1)) ((ntT (G 8) n z.1).2.1) ((ntT (G 8) n z.1).2.2) (nI z.1) z.2.2.2.1 (nI z.2.1) z.2.2.2.2 z.2.2.1) (lw_V q1269 q1271 qs34 q66 q1272) rfl rfl (by decide +kernel) ⟨by decide, by decide⟩ rfl rfl (Nat.le_of_ble_eq_true rfl) dX6_readPass_113 ⟨Nat.zero_le _, Nat.zero_le _⟩ ?_
                rintro r2 G2 H locs ⟨rfl, hG2⟩ hw
                replace hw := hw.eq hG2
                clear hG2
                refine k_beq (tgt := 123) hC dX6_readPass_116 (by decide) (fun c116 => ?_) (fun c116 => ?_)
                · refine lv_aload_n hC.1 hC.2.1 dX6_readPass_123 rfl (lv_at hl 0 rfl) ?_
                  refine lv_bipush (v := (nI 118)) hC.1 hC.2.1 dX6_readPass_124 (by decide) ?_
                  refine m_calli (n := 1) hC hl.1 hK hw (tX6_isLetter l G (nI 118) (nI ((ntT (G 8) n z.1).1)) ((ntT (G 8) n z.1).2.1) ((ntT (G 8) n z.1).2.2) (nI z.1) z.2.2.2.1 (nI z.2.1) z.2.2.2.2 z.2.2.1) (lw_V q1269 q1271 qs34 q66 q1272) rfl rfl (by decide +kernel) ⟨by decide, by decide⟩ rfl rfl (Nat.le_of_ble_eq_true rfl) dX6_readPass_126 ⟨Nat.zero_le _, Nat.zero_le _⟩ ?_
                  rintro r2 G2 H locs ⟨rfl, hG2⟩ hw
                  replace hw := hw.eq hG2
                  clear hG2
                  refine k_beq (tgt := 136) hC dX6_readPass_129 (by decide) (fun c129 => ?_) (fun c129 => ?_)
                  · refine lv_iconst (v := (nI 0)) hC.1 hC.2.1 dX6_readPass_136 (by decide) ?_
                    have hk : kOf (G 8) n z.1 = 0 := by unfold kOf isL; rw [if_neg (b_nt c77), if_neg (b_nt c90), if_neg (b_nt c103), if_neg (b_nt c116), if_neg (b_nt c129)]
                    refine lv_istore_n (lv' := [(2, .int (nI 0)), (0, .ref (ad 0)), (1, .int (nI 1))]) hC.1 hC.2.1 dX6_readPass_137 rfl hl (by decide) rfl (fun ls hl => ?_)
                    refine lv_iload_n hC.1 hC.2.1 dX6_readPass_138 rfl (lv_at hl 0 rfl) ?_
                    refine lv_if_le (tgt := 150) hC.1 hC.2.1 dX6_readPass_139 (by decide) (fun c139 => ?_) (fun h => absurd h (by decide))
                    refine lv_aload_n hC.1 hC.2.1 dX6_readPass_150 rfl (lv_at hl 1 rfl) ?_
                    refine lv_iconst (v := (nI 1)) hC.1 hC.2.1 dX6_readPass_151 (by decide) ?_
                    refine m_calli (n := 1) hC hl.1 hK hw (tX6_faults l G (nI 1) (nI ((ntT (G 8) n z.1).1)) ((ntT (G 8) n z.1).2.1) ((ntT (G 8) n z.1).2.2) (nI z.1) z.2.2.2.1 (nI z.2.1) z.2.2.2.2 z.2.2.1) (lw_V q1273 q1275 qs35 q66 q1276) rfl rfl (by decide +kernel) ⟨by decide, by decide⟩ rfl rfl (Nat.le_of_ble_eq_true rfl) dX6_readPass_152 ⟨Nat.zero_le _, Nat.zero_le _⟩ ?_
                    rintro r2 G2 H locs ⟨rfl, hG2⟩ hw
                    replace hw := hw.eq hG2
                    clear hG2
                    refine lv_istore_n (lv' := [(1, .int (nI 0)), (2, .int (nI 0)), (0, .ref (ad 0))]) hC.1 hC.2.1 dX6_readPass_155 rfl hl (by decide) rfl (fun ls hl => ?_)
                    refine lv_goto (tgt := 59) hC.1 hC.2.1 dX6_readPass_156 (by decide) ?_
                    refine lv_iload_n hC.1 hC.2.1 dX6_readPass_59 rfl (lv_at hl 0 rfl) ?_
                    refine k_zeq (tgt := 159) hC (by decide) dX6_readPass_60 (by decide) (fun c60 => ?_) (fun h => absurd h (by decide))
                    refine lv_iload_n hC.1 hC.2.1 dX6_readPass_159 rfl (lv_at hl 0 rfl) ?_
                    exact m_iret hC hlk hr hw rfl (⟨_, Or.inr ⟨_, _, _, _, hP.trans (pAll_0 hz2 c68 hk), hz1, rfl, rfl⟩⟩) dX6_readPass_160
                  · refine lv_iconst (v := (nI 5)) hC.1 hC.2.1 dX6_readPass_132 (by decide) ?_
                    refine lv_goto (tgt := 137) hC.1 hC.2.1 dX6_readPass_133 (by decide) ?_
                    have hk : kOf (G 8) n z.1 = 5 := by unfold kOf isL; rw [if_neg (b_nt c77), if_neg (b_nt c90), if_neg (b_nt c103), if_neg (b_nt c116), if_pos c129]
                    refine lv_istore_n (lv' := [(2, .int (nI 5)), (0, .ref (ad 0)), (1, .int (nI 1))]) hC.1 hC.2.1 dX6_readPass_137 rfl hl (by decide) rfl (fun ls hl => ?_)
                    refine lv_iload_n hC.1 hC.2.1 dX6_readPass_138 rfl (lv_at hl 0 rfl) ?_
                    refine lv_if_le (tgt := 150) hC.1 hC.2.1 dX6_readPass_139 (by decide) (fun h => absurd h (by decide)) (fun c139 => ?_)
                    refine lv_aload_n hC.1 hC.2.1 dX6_readPass_142 rfl (lv_at hl 1 rfl) ?_
                    refine lv_iload_n hC.1 hC.2.1 dX6_readPass_143 rfl (lv_at hl 0 rfl) ?_
                    refine m_calli (n := 1) hC hl.1 hK hw (tX6_readWork l G (nI 5) z.1 n z.2.1 z.2.2.2.1 z.2.2.2.2 z.2.2.1 (hz2) (hz1) hn en) (lw_V q1281 q1283 qs37 q66 q1284) rfl rfl (by decide +kernel) ⟨by decide, by decide⟩ rfl rfl (Nat.le_of_ble_eq_true rfl) dX6_readPass_144 ⟨Nat.zero_le _, Nat.zero_le _⟩ ?_
                    rintro r2 G2 H locs ⟨rx144, (⟨b144, wk144, rd144, wr144, hE144, hb144, rfl, hG2⟩ | ⟨wr144, b144, wk144, rd144, hE144, hb144, rfl, hG2⟩)⟩ hw
                    · replace hw := hw.eq hG2
                      clear hG2
                      refine lv_goto (tgt := 155) hC.1 hC.2.1 dX6_readPass_147 (by decide) ?_
                      refine lv_istore_n (lv' := [(1, .int (nI 1)), (2, .int (nI 5)), (0, .ref (ad 0))]) hC.1 hC.2.1 dX6_readPass_155 rfl hl (by decide) rfl (fun ls hl => ?_)
                      refine lv_goto (tgt := 59) hC.1 hC.2.1 dX6_readPass_156 (by decide) ?_
                      have hA := pAll_ok hz2 c68 hk (by decide) hE144
                      have hA2 := hA.2.1
                      exact ih59 ls (b144, wk144, rd144, wr144, rx144) H locs ⟨hl.sub' [2, 0] (by rfl), hw.eq (by dsimp only), hb144, hA.1, hP.trans hA.2.2⟩ (by show 7 - wk144 < 7 - z.2.1; omega)
                    · replace hw := hw.eq hG2
                      clear hG2
                      refine lv_goto (tgt := 155) hC.1 hC.2.1 dX6_readPass_147 (by decide) ?_
                      refine lv_istore_n (lv' := [(1, .int (nI 0)), (2, .int (nI 5)), (0, .ref (ad 0))]) hC.1 hC.2.1 dX6_readPass_155 rfl hl (by decide) rfl (fun ls hl => ?_)
                      refine lv_goto (tgt := 59) hC.1 hC.2.1 dX6_readPass_156 (by decide) ?_
                      refine lv_iload_n hC.1 hC.2.1 dX6_readPass_59 rfl (lv_at hl 0 rfl) ?_
                      refine k_zeq (tgt := 159) hC (by decide) dX6_readPass_60 (by decide) (fun c60 => ?_) (fun h => absurd h (by decide))
                      refine lv_iload_n hC.1 hC.2.1 dX6_readPass_159 rfl (lv_at hl 0 rfl) ?_
                      exact m_iret hC hlk hr hw rfl (⟨_, Or.inr ⟨_, _, _, _, hP.trans (pAll_er hz2 c68 hk (by decide) hE144), hb144, rfl, rfl⟩⟩) dX6_readPass_160
                · refine lv_iconst (v := (nI 4)) hC.1 hC.2.1 dX6_readPass_119 (by decide) ?_
                  refine lv_goto (tgt := 137) hC.1 hC.2.1 dX6_readPass_120 (by decide) ?_
                  have hk : kOf (G 8) n z.1 = 4 := by unfold kOf isL; rw [if_neg (b_nt c77), if_neg (b_nt c90), if_neg (b_nt c103), if_pos c116]
                  refine lv_istore_n (lv' := [(2, .int (nI 4)), (0, .ref (ad 0)), (1, .int (nI 1))]) hC.1 hC.2.1 dX6_readPass_137 rfl hl (by decide) rfl (fun ls hl => ?_)
                  refine lv_iload_n hC.1 hC.2.1 dX6_readPass_138 rfl (lv_at hl 0 rfl) ?_
                  refine lv_if_le (tgt := 150) hC.1 hC.2.1 dX6_readPass_139 (by decide) (fun h => absurd h (by decide)) (fun c139 => ?_)
                  refine lv_aload_n hC.1 hC.2.1 dX6_readPass_142 rfl (lv_at hl 1 rfl) ?_
                  refine lv_iload_n hC.1 hC.2.1 dX6_readPass_143 rfl (lv_at hl 0 rfl) ?_
                  refine m_calli (n := 1) hC hl.1 hK hw (tX6_readWork l G (nI 4) z.1 n z.2.1 z.2.2.2.1 z.2.2.2.2 z.2.2.1 (hz2) (hz1) hn en) (lw_V q1281 q1283 qs37 q66 q1284) rfl rfl (by decide +kernel) ⟨by decide, by decide⟩ rfl rfl (Nat.le_of_ble_eq_true rfl) dX6_readPass_144 ⟨Nat.zero_le _, Nat.zero_le _⟩ ?_
                  rintro r2 G2 H locs ⟨rx144, (⟨b144, wk144, rd144, wr144, hE144, hb144, rfl, hG2⟩ | ⟨wr144, b144, wk144, rd144, hE144, hb144, rfl, hG2⟩)⟩ hw
                  · replace hw := hw.eq hG2
                    clear hG2
                    refine lv_goto (tgt := 155) hC.1 hC.2.1 dX6_readPass_147 (by decide) ?_
                    refine lv_istore_n (lv' := [(1, .int (nI 1)), (2, .int (nI 4)), (0, .ref (ad 0))]) hC.1 hC.2.1 dX6_readPass_155 rfl hl (by decide) rfl (fun ls hl => ?_)
                    refine lv_goto (tgt := 59) hC.1 hC.2.1 dX6_readPass_156 (by decide) ?_
                    have hA := pAll_ok hz2 c68 hk (by decide) hE144
                    have hA2 := hA.2.1
                    exact ih59 ls (b144, wk144, rd144, wr144, rx144) H locs ⟨hl.sub' [2, 0] (by rfl), hw.eq (by dsimp only), hb144, hA.1, hP.trans hA.2.2⟩ (by show 7 - wk144 < 7 - z.2.1; omega)
                  · replace hw := hw.eq hG2
                    clear hG2
                    refine lv_goto (tgt := 155) hC.1 hC.2.1 dX6_readPass_147 (by decide) ?_
                    refine lv_istore_n (lv' := [(1, .int (nI 0)), (2, .int (nI 4)), (0, .ref (ad 0))]) hC.1 hC.2.1 dX6_readPass_155 rfl hl (by decide) rfl (fun ls hl => ?_)
                    refine lv_goto (tgt := 59) hC.1 hC.2.1 dX6_readPass_156 (by decide) ?_
                    refine lv_iload_n hC.1 hC.2.1 dX6_readPass_59 rfl (lv_at hl 0 rfl) ?_
                    refine k_zeq (tgt := 159) hC (by decide) dX6_readPass_60 (by decide) (fun c60 => ?_) (fun h => absurd h (by decide))
                    refine lv_iload_n hC.1 hC.2.1 dX6_readPass_159 rfl (lv_at hl 0 rfl) ?_
                    exact m_iret hC hlk hr hw rfl (⟨_, Or.inr ⟨_, _, _, _, hP.trans (pAll_er hz2 c68 hk (by decide) hE144), hb144, rfl, rfl⟩⟩) dX6_readPass_160
              · refine lv_iconst (v := (nI 3)) hC.1 hC.2.1 dX6_readPass_106 (by decide) ?_
                refine lv_goto (tgt := 137) hC.1 hC.2.1 dX6_readPass_107 (by decide) ?_
                have hk : kOf (G 8) n z.1 = 3 := by unfold kOf isL; rw [if_neg (b_nt c77), if_neg (b_nt c90), if_pos c103]
                refine lv_istore_n (lv' := [(2, .int (nI 3)), (0, .ref (ad 0)), (1, .int (nI 1))]) hC.1 hC.2.1 dX6_readPass_137 rfl hl (by decide) rfl (fun ls hl => ?_)
                refine lv_iload_n hC.1 hC.2.1 dX6_readPass_138 rfl (lv_at hl 0 rfl) ?_
                refine lv_if_le (tgt := 150) hC.1 hC.2.1 dX6_readPass_139 (by decide) (fun h => absurd h (by decide)) (fun c139 => ?_)
                refine lv_aload_n hC.1 hC.2.1 dX6_readPass_142 rfl (lv_at hl 1 rfl) ?_
                refine lv_iload_n hC.1 hC.2.1 dX6_readPass_143 rfl (lv_at hl 0 rfl) ?_
                refine m_calli (n := 1) hC hl.1 hK hw (tX6_readWork l G (nI 3) z.1 n z.2.1 z.2.2.2.1 z.2.2.2.2 z.2.2.1 (hz2) (hz1) hn en) (lw_V q1281 q1283 qs37 q66 q1284) rfl rfl (by decide +kernel) ⟨by decide, by decide⟩ rfl rfl (Nat.le_of_ble_eq_true rfl) dX6_readPass_144 ⟨Nat.zero_le _, Nat.zero_le _⟩ ?_
                rintro r2 G2 H locs ⟨rx144, (⟨b144, wk144, rd144, wr144, hE144, hb144, rfl, hG2⟩ | ⟨wr144, b144, wk144, rd144, hE144, hb144, rfl, hG2⟩)⟩ hw
                · replace hw := hw.eq hG2
                  clear hG2
                  refine lv_goto (tgt := 155) hC.1 hC.2.1 dX6_readPass_147 (by decide) ?_
                  refine lv_istore_n (lv' := [(1, .int (nI 1)), (2, .int (nI 3)), (0, .ref (ad 0))]) hC.1 hC.2.1 dX6_readPass_155 rfl hl (by decide) rfl (fun ls hl => ?_)
                  refine lv_goto (tgt := 59) hC.1 hC.2.1 dX6_readPass_156 (by decide) ?_
                  have hA := pAll_ok hz2 c68 hk (by decide) hE144
                  have hA2 := hA.2.1
                  exact ih59 ls (b144, wk144, rd144, wr144, rx144) H locs ⟨hl.sub' [2, 0] (by rfl), hw.eq (by dsimp only), hb144, hA.1, hP.trans hA.2.2⟩ (by show 7 - wk144 < 7 - z.2.1; omega)
                · replace hw := hw.eq hG2
                  clear hG2
                  refine lv_goto (tgt := 155) hC.1 hC.2.1 dX6_readPass_147 (by decide) ?_
                  refine lv_istore_n (lv' := [(1, .int (nI 0)), (2, .int (nI 3)), (0, .ref (ad 0))]) hC.1 hC.2.1 dX6_readPass_155 rfl hl (by decide) rfl (fun ls hl => ?_)
                  refine lv_goto (tgt := 59) hC.1 hC.2.1 dX6_readPass_156 (by decide) ?_
                  refine lv_iload_n hC.1 hC.2.1 dX6_readPass_59 rfl (lv_at hl 0 rfl) ?_
                  refine k_zeq (tgt := 159) hC (by decide) dX6_readPass_60 (by decide) (fun c60 => ?_) (fun h => absurd h (by decide))
                  refine lv_iload_n hC.1 hC.2.1 dX6_readPass_159 rfl (lv_at hl 0 rfl) ?_
                  exact m_iret hC hlk hr hw rfl (⟨_, Or.inr ⟨_, _, _, _, hP.trans (pAll_er hz2 c68 hk (by decide) hE144), hb144, rfl, rfl⟩⟩) dX6_readPass_160
            · refine lv_iconst (v := (nI 2)) hC.1 hC.2.1 dX6_readPass_93 (by decide) ?_
              refine lv_goto (tgt := 137) hC.1 hC.2.1 dX6_readPass_94 (by decide) ?_
              have hk : kOf (G 8) n z.1 = 2 := by unfold kOf isL; rw [if_neg (b_nt c77), if_pos c90]
              refine lv_istore_n (lv' := [(2, .int (nI 2)), (0, .ref (ad 0)), (1, .int (nI 1))]) hC.1 hC.2.1 dX6_readPass_137 rfl hl (by decide) rfl (fun ls hl => ?_)
              refine lv_iload_n hC.1 hC.2.1 dX6_readPass_138 rfl (lv_at hl 0 rfl) ?_
              refine lv_if_le (tgt := 150) hC.1 hC.2.1 dX6_readPass_139 (by decide) (fun h => absurd h (by decide)) (fun c139 => ?_)
              refine lv_aload_n hC.1 hC.2.1 dX6_readPass_142 rfl (lv_at hl 1 rfl) ?_
              refine lv_iload_n hC.1 hC.2.1 dX6_readPass_143 rfl (lv_at hl 0 rfl) ?_
              refine m_calli (n := 1) hC hl.1 hK hw (tX6_readWork l G (nI 2) z.1 n z.2.1 z.2.2.2.1 z.2.2.2.2 z.2.2.1 (hz2) (hz1) hn en) (lw_V q1281 q1283 qs37 q66 q1284) rfl rfl (by decide +kernel) ⟨by decide, by decide⟩ rfl rfl (Nat.le_of_ble_eq_true rfl) dX6_readPass_144 ⟨Nat.zero_le _, Nat.zero_le _⟩ ?_
              rintro r2 G2 H locs ⟨rx144, (⟨b144, wk144, rd144, wr144, hE144, hb144, rfl, hG2⟩ | ⟨wr144, b144, wk144, rd144, hE144, hb144, rfl, hG2⟩)⟩ hw
              · replace hw := hw.eq hG2
                clear hG2
                refine lv_goto (tgt := 155) hC.1 hC.2.1 dX6_readPass_147 (by decide) ?_
                refine lv_istore_n (lv' := [(1, .int (nI 1)), (2, .int (nI 2)), (0, .ref (ad 0))]) hC.1 hC.2.1 dX6_readPass_155 rfl hl (by decide) rfl (fun ls hl => ?_)
                refine lv_goto (tgt := 59) hC.1 hC.2.1 dX6_readPass_156 (by decide) ?_
                have hA := pAll_ok hz2 c68 hk (by decide) hE144
                have hA2 := hA.2.1
                exact ih59 ls (b144, wk144, rd144, wr144, rx144) H locs ⟨hl.sub' [2, 0] (by rfl), hw.eq (by dsimp only), hb144, hA.1, hP.trans hA.2.2⟩ (by show 7 - wk144 < 7 - z.2.1; omega)
              · replace hw := hw.eq hG2
                clear hG2
                refine lv_goto (tgt := 155) hC.1 hC.2.1 dX6_readPass_147 (by decide) ?_
                refine lv_istore_n (lv' := [(1, .int (nI 0)), (2, .int (nI 2)), (0, .ref (ad 0))]) hC.1 hC.2.1 dX6_readPass_155 rfl hl (by decide) rfl (fun ls hl => ?_)
                refine lv_goto (tgt := 59) hC.1 hC.2.1 dX6_readPass_156 (by decide) ?_
                refine lv_iload_n hC.1 hC.2.1 dX6_readPass_59 rfl (lv_at hl 0 rfl) ?_
                refine k_zeq (tgt := 159) hC (by decide) dX6_readPass_60 (by decide) (fun c60 => ?_) (fun h => absurd h (by decide))
                refine lv_iload_n hC.1 hC.2.1 dX6_readPass_159 rfl (lv_at hl 0 rfl) ?_
                exact m_iret hC hlk hr hw rfl (⟨_, Or.inr ⟨_, _, _, _, hP.trans (pAll_er hz2 c68 hk (by decide) hE144), hb144, rfl, rfl⟩⟩) dX6_readPass_160
          · refine lv_iconst (v := (nI 1)) hC.1 hC.2.1 dX6_readPass_80 (by decide) ?_
            refine lv_goto (tgt := 137) hC.1 hC.2.1 dX6_readPass_81 (by decide) ?_
            have hk : kOf (G 8) n z.1 = 1 := by unfold kOf isL; rw [if_pos c77]
            refine lv_istore_n (lv' := [(2, .int (nI 1)), (0, .ref (ad 0)), (1, .int (nI 1))]) hC.1 hC.2.1 dX6_readPass_137 rfl hl (by decide) rfl (fun ls hl => ?_)
            refine lv_iload_n hC.1 hC.2.1 dX6_readPass_138 rfl (lv_at hl 0 rfl) ?_
            refine lv_if_le (tgt := 150) hC.1 hC.2.1 dX6_readPass_139 (by decide) (fun h => absurd h (by decide)) (fun c139 => ?_)
            refine lv_aload_n hC.1 hC.2.1 dX6_readPass_142 rfl (lv_at hl 1 rfl) ?_
            refine lv_iload_n hC.1 hC.2.1 dX6_readPass_143 rfl (lv_at hl 0 rfl) ?_
            refine m_calli (n := 1) hC hl.1 hK hw (tX6_readWork l G (nI 1) z.1 n z.2.1 z.2.2.2.1 z.2.2.2.2 z.2.2.1 (hz2) (hz1) hn en) (lw_V q1281 q1283 qs37 q66 q1284) rfl rfl (by decide +kernel) ⟨by decide, by decide⟩ rfl rfl (Nat.le_of_ble_eq_true rfl) dX6_readPass_144 ⟨Nat.zero_le _, Nat.zero_le _⟩ ?_
            rintro r2 G2 H locs ⟨rx144, (⟨b144, wk144, rd144, wr144, hE144, hb144, rfl, hG2⟩ | ⟨wr144, b144, wk144, rd144, hE144, hb144, rfl, hG2⟩)⟩ hw
            · replace hw := hw.eq hG2
              clear hG2
              refine lv_goto (tgt := 155) hC.1 hC.2.1 dX6_readPass_147 (by decide) ?_
              refine lv_istore_n (lv' := [(1, .int (nI 1)), (2, .int (nI 1)), (0, .ref (ad 0))]) hC.1 hC.2.1 dX6_readPass_155 rfl hl (by decide) rfl (fun ls hl => ?_)
              refine lv_goto (tgt := 59) hC.1 hC.2.1 dX6_readPass_156 (by decide) ?_
              have hA := pAll_ok hz2 c68 hk (by decide) hE144
              have hA2 := hA.2.1
              exact ih59 ls (b144, wk144, rd144, wr144, rx144) H locs ⟨hl.sub' [2, 0] (by rfl), hw.eq (by dsimp only), hb144, hA.1, hP.trans hA.2.2⟩ (by show 7 - wk144 < 7 - z.2.1; omega)
            · replace hw := hw.eq hG2
              clear hG2
              refine lv_goto (tgt := 155) hC.1 hC.2.1 dX6_readPass_147 (by decide) ?_
              refine lv_istore_n (lv' := [(1, .int (nI 0)), (2, .int (nI 1)), (0, .ref (ad 0))]) hC.1 hC.2.1 dX6_readPass_155 rfl hl (by decide) rfl (fun ls hl => ?_)
              refine lv_goto (tgt := 59) hC.1 hC.2.1 dX6_readPass_156 (by decide) ?_
              refine lv_iload_n hC.1 hC.2.1 dX6_readPass_59 rfl (lv_at hl 0 rfl) ?_
              refine k_zeq (tgt := 159) hC (by decide) dX6_readPass_60 (by decide) (fun c60 => ?_) (fun h => absurd h (by decide))
              refine lv_iload_n hC.1 hC.2.1 dX6_readPass_159 rfl (lv_at hl 0 rfl) ?_
              exact m_iret hC hlk hr hw rfl (⟨_, Or.inr ⟨_, _, _, _, hP.trans (pAll_er hz2 c68 hk (by decide) hE144), hb144, rfl, rfl⟩⟩) dX6_readPass_160
      · replace hw := hw.eq hG2
        clear hG2
        refine k_zne (tgt := 57) hC (by decide) dX6_readPass_52 (by decide) (fun h => absurd h (by decide)) (fun c52 => ?_)
        refine lv_iconst (v := (nI 0)) hC.1 hC.2.1 dX6_readPass_55 (by decide) ?_
        exact m_iret hC hlk hr hw rfl (⟨_, Or.inr ⟨_, _, _, _, pRead_b hE39 hE49, hb49, rfl, rfl⟩⟩) dX6_readPass_56
    · replace hw := hw.eq hG2
      clear hG2
      refine k_zeq (tgt := 55) hC (by decide) dX6_readPass_42 (by decide) (fun c42 => ?_) (fun h => absurd h (by decide))
      refine lv_iconst (v := (nI 0)) hC.1 hC.2.1 dX6_readPass_55 (by decide) ?_
      exact m_iret hC hlk hr hw rfl (⟨_, Or.inr ⟨_, _, _, _, pRead_a hE39, hb39, rfl, rfl⟩⟩) dX6_readPass_56
  · refine lv_aload_n hC.1 hC.2.1 dX6_readPass_18 rfl (lv_at hl 0 rfl) ?_
    refine m_ga hC hK hw 15 (by decide) rfl q1131 rfl dX6_readPass_19 ?_
    refine lv_iload_n hC.1 hC.2.1 dX6_readPass_22 rfl (lv_at hl 1 rfl) ?_
    refine lv_iconst (v := (nI 0)) hC.1 hC.2.1 dX6_readPass_23 (by decide) ?_
    refine m_st hC hK hw 16 (by decide) (by decide) (by decide) (by simp only [mLen]; omega) (by omega) dX6_readPass_24 (fun H locs hw => ?_)
    replace hw := hw.eq (rds_rd _ _ _ _ _ _ _ _ _ _ _)
    refine k_iinc (k := 1) (d := 1) (lv' := [(1, .int (nI (i + 1))), (0, .ref (ad 0))]) hC dX6_readPass_25 hl rfl (by decide) (by decide) rfl (fun ls hl => ?_)
    refine lv_goto (tgt := 12) hC.1 hC.2.1 dX6_readPass_28 (by decide) ?_
    exact ih12 ls (i + 1) H locs ⟨hl.sub' [1, 0] (by rfl), hw.eq (congrArg (rds G _ _ _ _ _ _ _) (cp_step (fun _ => nI 0) (G 16) i)), by omega⟩ (by omega)

set_option maxHeartbeats 4000000 in
theorem tX6_pass (l : Launch) (G : mG) (n : Nat) (hn : n ≤ 120) (en : G 0 8 = nI n) : mI l yX6_pass cX6_pass 3 .int ({ frames := 6, cells := 0, slots := 0, locals := 136 } : Room) [] G (fun r G' => r = (mX6_pass G).1 ∧ ∃ pl tk va bg wr wk rx rd, G' = rds (mX6_pass G).2 pl tk va bg wr wk rx rd) := by
  refine mI.of (by decide) rfl (fun _ => Nat.le_of_ble_eq_true rfl) ?_
  intro D dA ad p e s m below meth cd ls hC hlk hr hK hl hw
  have hl : lv_has ls 3 [(0, .ref (ad 0))] := hl
  refine lv_aload_n hC.1 hC.2.1 dX6_pass_0 rfl (lv_at hl 0 rfl) ?_
  refine m_calli (n := 0) hC hl.1 hK hw (tX6_readPass l G n hn en) (lw_V q1249 q1251 qs30 q66 q1252) rfl rfl (by decide +kernel) ⟨by decide, by decide⟩ rfl rfl (Nat.le_of_ble_eq_true rfl) dX6_pass_1 ⟨Nat.zero_le _, Nat.zero_le _⟩ ?_
  rintro r2 G2 H locs ⟨rx1, (⟨b1, wk1, rd1, wr1, hE1, hb1, rfl, hG2⟩ | ⟨wr1, b1, wk1, rd1, hE1, hb1, rfl, hG2⟩)⟩ hw
  · have eK := hG2.symm
    clear hG2
    refine lv_istore_n (lv' := [(1, .int (nI 1)), (0, .ref (ad 0))]) hC.1 hC.2.1 dX6_pass_4 rfl hl (by decide) rfl (fun ls hl => ?_)
    refine lv_aload_n hC.1 hC.2.1 dX6_pass_5 rfl (lv_at hl 1 rfl) ?_
    refine lv_iconst (v := (nI 0)) hC.1 hC.2.1 dX6_pass_6 (by decide) ?_
    refine m_pi hC hK hw 8 (by decide) rfl rfl q1124 rfl rfl rfl rfl dX6_pass_7 (fun H locs hw => ?_)
    refine lv_iload_n hC.1 hC.2.1 dX6_pass_10 rfl (lv_at hl 0 rfl) ?_
    refine k_zne (tgt := 30) hC (by decide) dX6_pass_11 (by decide) (fun c11 => ?_) (fun h => absurd h (by decide))
    refine lv_iconst (v := (nI 0)) hC.1 hC.2.1 dX6_pass_30 (by decide) ?_
    refine lv_istore_n (lv' := [(2, .int (nI 0)), (1, .int (nI 1)), (0, .ref (ad 0))]) hC.1 hC.2.1 dX6_pass_31 rfl hl (by decide) rfl (fun ls hl => ?_)
    refine W.loop (fun ls i H locs => lv_has ls 3 [(0, .ref (ad 0)), (1, .int (nI 1)), (2, .int (nI i))] ∧ mw D dA (nA mDom ad s.heap.size) s.heap ad (va_up (g2 G2 0 8 (nI 0)) 6 (fun j => if j < i then rd1 j else G2 6 j)) H locs ∧ (i ≤ 57)) 32 (fun _ => []) (fun i => 57 - i) ?_ 0 ⟨hl.sub' [2, 1, 0] (by rfl), hw.eq (cp_0 _ 6 _), by omega⟩
    rintro ls i H locs ⟨hl, hw, hi⟩ ih32
    refine lv_iload_n hC.1 hC.2.1 dX6_pass_32 rfl (lv_at hl 2 rfl) ?_
    refine lv_bipush (v := (nI 57)) hC.1 hC.2.1 dX6_pass_33 (by decide) ?_
    refine k_ge (tgt := 56) hC (by omega) (by omega) dX6_pass_35 (by decide) (fun c35 => ?_) (fun c35 => ?_)
    · have hw : mw D dA (nA mDom ad s.heap.size) s.heap ad (va_up (g2 G2 0 8 (nI 0)) 6 rd1) H locs := hw.to (fun k _ _ => rfl) (fun n j hn hj => by by_cases h : n = 6; (subst h; show (if j < i then _ else _) = _; rw [if_pos (by have hj2 : j < 57 := hj; omega)]; rfl); rw [va_up_ne _ _ h, va_up_ne _ _ h])
      refine lv_aload_n hC.1 hC.2.1 dX6_pass_56 rfl (lv_at hl 0 rfl) ?_
      refine lv_iconst (v := (nI 1)) hC.1 hC.2.1 dX6_pass_57 (by decide) ?_
      refine m_pi hC hK hw 4 (by decide) rfl rfl q1120 rfl rfl (by decide) (by decide) dX6_pass_58 (fun H locs hw => ?_)
      refine lv_aload_n hC.1 hC.2.1 dX6_pass_61 rfl (lv_at hl 0 rfl) ?_
      refine lv_iconst (v := (nI 0)) hC.1 hC.2.1 dX6_pass_62 (by decide) ?_
      refine m_pi hC hK hw 22 (by decide) rfl rfl q1138 rfl rfl rfl rfl dX6_pass_63 (fun H locs hw => ?_)
      refine lv_aload_n hC.1 hC.2.1 dX6_pass_66 rfl (lv_at hl 0 rfl) ?_
      refine m_gi hC hK hw 16 (by decide) rfl q1132 rfl (v := (nI wk1)) (by show G2 0 16 = _; rw [← eK]; rfl) dX6_pass_67 ?_
      exact m_iret hC hlk hr hw rfl (⟨by rw [mpass_ok hn en hE1], by rw [mpass_ok hn en hE1, ← eK, rds_g0 _ _ _ _ _ _ _ _ _ 8 _ (by decide), rds_up6, rds_g0 _ _ _ _ _ _ _ _ _ 4 _ (by decide), rds_g0 _ _ _ _ _ _ _ _ _ 22 _ (by decide)]; exact ⟨_, _, _, _, _, _, _, _, rfl⟩⟩) dX6_pass_70
    · refine lv_aload_n hC.1 hC.2.1 dX6_pass_38 rfl (lv_at hl 0 rfl) ?_
      refine m_ga hC hK hw 5 (by decide) rfl q1121 rfl dX6_pass_39 ?_
      refine lv_iload_n hC.1 hC.2.1 dX6_pass_42 rfl (lv_at hl 2 rfl) ?_
      refine lv_aload_n hC.1 hC.2.1 dX6_pass_43 rfl (lv_at hl 0 rfl) ?_
      refine m_ga hC hK hw 15 (by decide) rfl q1131 rfl dX6_pass_44 ?_
      refine lv_iload_n hC.1 hC.2.1 dX6_pass_47 rfl (lv_at hl 2 rfl) ?_
      refine m_ld hC hK hw 16 (by decide) (by decide) (by decide) (by simp only [mLen]; omega) (by omega) (v := (rd1 i)) (by show G2 16 i = _; rw [← eK]; rfl) dX6_pass_48 ?_
      refine m_st hC hK hw 6 (by decide) (by decide) (by decide) (by simp only [mLen]; omega) (by omega) dX6_pass_49 (fun H locs hw => ?_)
      refine k_iinc (k := 2) (d := 1) (lv' := [(2, .int (nI (i + 1))), (0, .ref (ad 0)), (1, .int (nI 1))]) hC dX6_pass_50 hl rfl (by decide) (by decide) rfl (fun ls hl => ?_)
      refine lv_goto (tgt := 32) hC.1 hC.2.1 dX6_pass_53 (by decide) ?_
      exact ih32 ls (i + 1) H locs ⟨hl.sub' [1, 2, 0] (by rfl), hw.eq (by rw [g2_up]; exact congrArg (va_up _ 6) (cp_step rd1 (G2 6) i)), by omega⟩ (by omega)
  · have eK := hG2.symm
    clear hG2
    refine lv_istore_n (lv' := [(1, .int (nI 0)), (0, .ref (ad 0))]) hC.1 hC.2.1 dX6_pass_4 rfl hl (by decide) rfl (fun ls hl => ?_)
    refine lv_aload_n hC.1 hC.2.1 dX6_pass_5 rfl (lv_at hl 1 rfl) ?_
    refine lv_iconst (v := (nI 0)) hC.1 hC.2.1 dX6_pass_6 (by decide) ?_
    refine m_pi hC hK hw 8 (by decide) rfl rfl q1124 rfl rfl rfl rfl dX6_pass_7 (fun H locs hw => ?_)
    refine lv_iload_n hC.1 hC.2.1 dX6_pass_10 rfl (lv_at hl 0 rfl) ?_
    refine k_zne (tgt := 30) hC (by decide) dX6_pass_11 (by decide) (fun h => absurd h (by decide)) (fun c11 => ?_)
    refine lv_aload_n hC.1 hC.2.1 dX6_pass_14 rfl (lv_at hl 1 rfl) ?_
    refine lv_aload_n hC.1 hC.2.1 dX6_pass_15 rfl (lv_at hl 1 rfl) ?_
    refine m_gi hC hK hw 14 (by decide) rfl q1130 rfl (v := wr1) (by show G2 0 14 = _; rw [← eK]; rfl) dX6_pass_16 ?_
    refine m_pi hC hK hw 9 (by decide) rfl rfl q1125 rfl rfl rfl rfl dX6_pass_19 (fun H locs hw => ?_)
    refine lv_ldc hC.1 hC.2.1 hC.2.2.2.1 (hC.2.2.2.2 _ q1285) dX6_pass_22 ?_
    refine lv_aload_n hC.1 hC.2.1 dX6_pass_24 rfl (lv_at hl 1 rfl) ?_
    refine m_gi hC hK hw 13 (by decide) rfl q1129 rfl (v := (nI b1)) (by show G2 0 13 = _; rw [← eK]; rfl) dX6_pass_25 ?_
    refine lv_isub hC.1 hC.2.1 dX6_pass_28 ?_
    exact m_iret hC hlk hr hw rfl (⟨by rw [mpass_er hn en hE1], by rw [mpass_er hn en hE1, ← eK, rds_g0 _ _ _ _ _ _ _ _ _ 8 _ (by decide), rds_g0 _ _ _ _ _ _ _ _ _ 9 _ (by decide)]; exact ⟨_, _, _, _, _, _, _, _, rfl⟩⟩) dX6_pass_29
