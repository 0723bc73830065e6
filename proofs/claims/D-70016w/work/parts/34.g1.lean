/-! WindCarver$Pass: contracts (by gen/g1.py) -/
def wkN (f : Nat → Option Nat) : Nat → Nat
  | 0 => 0
  | n + 1 => wkN f n + (if (f n).isSome = true then 1 else 0)
theorem wkN_le (f : Nat → Option Nat) : ∀ n, wkN f n ≤ n
  | 0 => Nat.le_refl 0
  | n + 1 => by
    have := wkN_le f n
    show wkN f n + (if _ then 1 else 0) ≤ n + 1
    split <;> omega

set_option maxHeartbeats 4000000 in
theorem tX2_many (l : Launch) (dom : List Nat) (ad : Nat → Nat) (K : gK) (I : mG) (R : gR) (u : Nat) (h0 : isPass dom K R u) : gI l yX2_many cX2_many 3 .int ({ frames := 1, cells := 0, slots := 0, locals := 21 } : Room) [.ref (ad u)] dom ad K I R (fun r S => r = (nI (wkN (R (u + 3)) 16)) ∧ S = (I, R)) := by
  refine gI.of (by decide) (Nat.le_of_ble_eq_true rfl) ?_
  intro D dA p e s m below meth cd ls hC hlk hr hK hX hl hw
  have hl : lv_has ls 3 [(0, .ref (ad u))] := hl
  refine lv_iconst (v := (nI 0)) hC.1 hC.2.1 dX2_many_0 (by decide) ?_
  refine lv_istore_n (lv' := [(1, .int (nI 0)), (0, .ref (ad u))]) hC.1 hC.2.1 dX2_many_1 rfl hl (by decide) rfl (fun ls hl => ?_)
  refine lv_iconst (v := (nI 0)) hC.1 hC.2.1 dX2_many_2 (by decide) ?_
  refine lv_istore_n (lv' := [(2, .int (nI 0)), (1, .int (nI 0)), (0, .ref (ad u))]) hC.1 hC.2.1 dX2_many_3 rfl hl (by decide) rfl (fun ls hl => ?_)
  refine W.loop (fun ls i H locs => lv_has ls 3 [(0, .ref (ad u)), (1, .int (nI (wkN (R (u + 3)) i))), (2, .int (nI i))] ∧ gw D dA (nA dom ad s.heap.size) s.heap dom ad K I R H locs ∧ (i ≤ 16)) 4 (fun _ => []) (fun i => 16 - i) ?_ 0 ⟨hl.sub' [2, 1, 0] (by rfl), hw, by omega⟩
  rintro ls i H locs ⟨hl, hw, hi⟩ ih4
  refine lv_iload_n hC.1 hC.2.1 dX2_many_4 rfl (lv_at hl 2 rfl) ?_
  refine lv_bipush (v := (nI 16)) hC.1 hC.2.1 dX2_many_5 (by decide) ?_
  refine k_ge (tgt := 32) hC (by omega) (by omega) dX2_many_7 (by decide) (fun c7 => ?_) (fun c7 => ?_)
  · have eN : i = 16 := by omega
    subst eN
    refine lv_iload_n hC.1 hC.2.1 dX2_many_32 rfl (lv_at hl 1 rfl) ?_
    exact g_iret hC hlk hr hw rfl (⟨rfl, rfl⟩) dX2_many_33
  · refine lv_iload_n hC.1 hC.2.1 dX2_many_10 rfl (lv_at hl 1 rfl) ?_
    refine lv_aload_n hC.1 hC.2.1 dX2_many_11 rfl (lv_at hl 0 rfl) ?_
    refine lv_iload_n hC.1 hC.2.1 dX2_many_12 rfl (lv_at hl 2 rfl) ?_
    refine g_calli (n := 1) (C := RX2) (T := TX2) hC hl.1 hK hX hw (h0).1.1 (h0).2.1.1 (by decide) rfl (tX2_has l dom ad K I R u i (h0) (by omega)) (lw_V q643 q644 q645 q62 q646) rfl rfl (by decide +kernel) ⟨by decide, by decide⟩ rfl rfl (Nat.le_of_ble_eq_true rfl) dX2_many_13 ⟨Nat.zero_le _, Nat.zero_le _⟩ ?_
    rintro r2 I2 R2 H locs ⟨hr2, hS2⟩ hw
    rw [hr2]
    replace hw := hw.eq (Prod.mk.inj hS2).1 (Prod.mk.inj hS2).2
    clear hS2
    refine k_beq (tgt := 23) hC dX2_many_16 (by decide) (fun c16 => ?_) (fun c16 => ?_)
    · refine lv_iconst (v := (nI 0)) hC.1 hC.2.1 dX2_many_23 (by decide) ?_
      refine k_add hC dX2_many_24 ?_
      refine lv_istore_n (lv' := [(1, .int (nI ((wkN (R (u + 3)) i) + 0))), (0, .ref (ad u)), (2, .int (nI i))]) hC.1 hC.2.1 dX2_many_25 rfl hl (by decide) rfl (fun ls hl => ?_)
      refine k_iinc (k := 2) (d := 1) (lv' := [(2, .int (nI (i + 1))), (1, .int (nI ((wkN (R (u + 3)) i) + 0))), (0, .ref (ad u))]) hC dX2_many_26 hl rfl (by decide) (by decide) rfl (fun ls hl => ?_)
      refine lv_goto (tgt := 4) hC.1 hC.2.1 dX2_many_29 (by decide) ?_
      exact ih4 ls (i + 1) H locs ⟨hl.sub' [2, 1, 0] (by simp [lv_pick, wkN, c16]), hw, by omega⟩ (by omega)
    · refine lv_iconst (v := (nI 1)) hC.1 hC.2.1 dX2_many_19 (by decide) ?_
      refine lv_goto (tgt := 24) hC.1 hC.2.1 dX2_many_20 (by decide) ?_
      refine k_add hC dX2_many_24 ?_
      refine lv_istore_n (lv' := [(1, .int (nI ((wkN (R (u + 3)) i) + 1))), (0, .ref (ad u)), (2, .int (nI i))]) hC.1 hC.2.1 dX2_many_25 rfl hl (by decide) rfl (fun ls hl => ?_)
      refine k_iinc (k := 2) (d := 1) (lv' := [(2, .int (nI (i + 1))), (1, .int (nI ((wkN (R (u + 3)) i) + 1))), (0, .ref (ad u))]) hC dX2_many_26 hl rfl (by decide) (by decide) rfl (fun ls hl => ?_)
      refine lv_goto (tgt := 4) hC.1 hC.2.1 dX2_many_29 (by decide) ?_
      exact ih4 ls (i + 1) H locs ⟨hl.sub' [2, 1, 0] (by simp [lv_pick, wkN, c16]), hw, by omega⟩ (by omega)

theorem nat_lt {y : Int32} {n : Nat} (hn : n < 2 ^ 31) (h0 : ¬ y < 0) (h : y < nI n) : ∃ k, k < n ∧ y = nI k := by
  obtain ⟨k, hk, rfl⟩ := nI_of h0
  exact ⟨k, (nI_ltI hk hn).mp h, rfl⟩
def comeI (I : mG) (u x : Nat) (y v : Int32) : mG := if y < 0 then g2 I u 8 (I u 8 + v) else if y < nI 4 then (if x = 4 then g2 I (u + 5) (ix y) (I (u + 5) (ix y) + v) else g2 I (u + 4) (4 * x + ix y) (I (u + 4) (4 * x + ix y) + v)) else g2 I u 8 (I u 8 + v)

set_option maxHeartbeats 4000000 in
theorem tX2_come (l : Launch) (dom : List Nat) (ad : Nat → Nat) (K : gK) (I : mG) (R : gR) (u : Nat) (x : Nat) (y : Int32) (v : Int32) (h0 : isPass dom K R u) (h1 : x ≤ 4) : gV l yX2_come cX2_come 4 ({ frames := 0, cells := 0, slots := 0, locals := 0 } : Room) [.ref (ad u), .int (nI x), .int y, .int v] dom ad K I R (fun S => S = (comeI I u x y v, R)) := by
  refine gV.of (by decide) (Nat.le_of_ble_eq_true rfl) ?_
  intro D dA p e s m below meth cd ls hC hlk hr hK hX hl hw
  have hl : lv_has ls 4 [(0, .ref (ad u)), (1, .int (nI x)), (2, .int y), (3, .int v)] := hl
  refine lv_iload_n hC.1 hC.2.1 dX2_come_0 rfl (lv_at hl 2 rfl) ?_
  refine lv_if_lt (tgt := 9) hC.1 hC.2.1 dX2_come_1 (by decide) (fun c1 => ?_) (fun c1 => ?_)
  · refine lv_aload_n hC.1 hC.2.1 dX2_come_9 rfl (lv_at hl 0 rfl) ?_
    refine lv_dup hC.1 hC.2.1 dX2_come_10 rfl ?_
    refine p_gi hC hK hw h0 8 (by decide) rfl q143 rfl (v := (I u 8)) (rfl) dX2_come_11 ?_
    refine lv_iload_n hC.1 hC.2.1 dX2_come_14 rfl (lv_at hl 3 rfl) ?_
    refine lv_iadd hC.1 hC.2.1 dX2_come_15 ?_
    refine p_pi hC hK hw h0 8 (by decide) rfl q143 rfl rfl rfl rfl rfl dX2_come_16 (fun H locs hw => ?_)
    refine lv_goto (tgt := 54) hC.1 hC.2.1 dX2_come_19 (by decide) ?_
    exact g_vret hC hlk hr hw (by unfold comeI; rw [if_pos c1]) dX2_come_54
  · refine lv_iload_n hC.1 hC.2.1 dX2_come_4 rfl (lv_at hl 2 rfl) ?_
    refine lv_iconst (v := (nI 4)) hC.1 hC.2.1 dX2_come_5 (by decide) ?_
    refine lv_icmp_lt (tgt := 22) hC.1 hC.2.1 dX2_come_6 (by decide) (fun c6 => ?_) (fun c6 => ?_)
    · obtain ⟨k, hk, rfl⟩ := nat_lt (by decide) c1 c6
      refine lv_iload_n hC.1 hC.2.1 dX2_come_22 rfl (lv_at hl 1 rfl) ?_
      refine lv_iconst (v := (nI 4)) hC.1 hC.2.1 dX2_come_23 (by decide) ?_
      refine k_ne (tgt := 40) hC (by omega) (by omega) dX2_come_24 (by decide) (fun c24 => ?_) (fun c24 => ?_)
      · refine lv_aload_n hC.1 hC.2.1 dX2_come_40 rfl (lv_at hl 0 rfl) ?_
        refine p_ga hC hK hw h0 6 4 h0.2.2.2.2.2.1 (by decide) rfl q138 rfl dX2_come_41 ?_
        refine lv_iconst (v := (nI 4)) hC.1 hC.2.1 dX2_come_44 (by decide) ?_
        refine lv_iload_n hC.1 hC.2.1 dX2_come_45 rfl (lv_at hl 1 rfl) ?_
        refine k_mul hC dX2_come_46 ?_
        refine lv_iload_n hC.1 hC.2.1 dX2_come_47 rfl (lv_at hl 2 rfl) ?_
        refine k_add hC dX2_come_48 ?_
        refine lv_dup2_11 hC.1 hC.2.1 dX2_come_49 rfl rfl ?_
        refine g_ldi hC hK hw h0.1.2.2.2.2.1 h0.2.1.2.2.2.2.1 (by omega) (by omega) (v := (I (u + 4) ((4 * x) + k))) (rfl) dX2_come_50 ?_
        refine lv_iload_n hC.1 hC.2.1 dX2_come_51 rfl (lv_at hl 3 rfl) ?_
        refine lv_iadd hC.1 hC.2.1 dX2_come_52 ?_
        refine g_sti hC hK hw h0.1.2.2.2.2.1 h0.2.1.2.2.2.2.1 (by omega) (by omega) dX2_come_53 (fun H locs hw => ?_)
        exact g_vret hC hlk hr hw (by unfold comeI; rw [if_neg c1, if_pos c6, ix_nI (by omega), if_neg c24]) dX2_come_54
      · refine lv_aload_n hC.1 hC.2.1 dX2_come_27 rfl (lv_at hl 0 rfl) ?_
        refine p_ga hC hK hw h0 7 5 h0.2.2.2.2.2.2 (by decide) rfl q141 rfl dX2_come_28 ?_
        refine lv_iload_n hC.1 hC.2.1 dX2_come_31 rfl (lv_at hl 2 rfl) ?_
        refine lv_dup2_11 hC.1 hC.2.1 dX2_come_32 rfl rfl ?_
        refine g_ldi hC hK hw h0.1.2.2.2.2.2 h0.2.1.2.2.2.2.2 (by omega) (by omega) (v := (I (u + 5) k)) (rfl) dX2_come_33 ?_
        refine lv_iload_n hC.1 hC.2.1 dX2_come_34 rfl (lv_at hl 3 rfl) ?_
        refine lv_iadd hC.1 hC.2.1 dX2_come_35 ?_
        refine g_sti hC hK hw h0.1.2.2.2.2.2 h0.2.1.2.2.2.2.2 (by omega) (by omega) dX2_come_36 (fun H locs hw => ?_)
        refine lv_goto (tgt := 54) hC.1 hC.2.1 dX2_come_37 (by decide) ?_
        exact g_vret hC hlk hr hw (by unfold comeI; rw [if_neg c1, if_pos c6, ix_nI (by omega), if_pos c24]) dX2_come_54
    · refine lv_aload_n hC.1 hC.2.1 dX2_come_9 rfl (lv_at hl 0 rfl) ?_
      refine lv_dup hC.1 hC.2.1 dX2_come_10 rfl ?_
      refine p_gi hC hK hw h0 8 (by decide) rfl q143 rfl (v := (I u 8)) (rfl) dX2_come_11 ?_
      refine lv_iload_n hC.1 hC.2.1 dX2_come_14 rfl (lv_at hl 3 rfl) ?_
      refine lv_iadd hC.1 hC.2.1 dX2_come_15 ?_
      refine p_pi hC hK hw h0 8 (by decide) rfl q143 rfl rfl rfl rfl rfl dX2_come_16 (fun H locs hw => ?_)
      refine lv_goto (tgt := 54) hC.1 hC.2.1 dX2_come_19 (by decide) ?_
      exact g_vret hC hlk hr hw (by unfold comeI; rw [if_neg c1, if_neg c6]) dX2_come_54

def opC (x : Int32) (q : Nat) : Int32 := x &&& ((nI 1 <<< (nI q &&& 31)) ^^^ (-1 : Int32))

set_option maxHeartbeats 4000000 in
theorem tX2_clear (l : Launch) (dom : List Nat) (ad : Nat → Nat) (K : gK) (I : mG) (R : gR) (u : Nat) (q : Nat) (h0 : isPass dom K R u) (h1 : q < 16) : gV l yX2_clear cX2_clear 2 ({ frames := 0, cells := 0, slots := 0, locals := 0 } : Room) [.ref (ad u), .int (nI q)] dom ad K I R (fun S => S = (g2 I u 5 (opC (I u 5) q), r2 R (u + 3) q none)) := by
  refine gV.of (by decide) (Nat.le_of_ble_eq_true rfl) ?_
  intro D dA p e s m below meth cd ls hC hlk hr hK hX hl hw
  have hl : lv_has ls 2 [(0, .ref (ad u)), (1, .int (nI q))] := hl
  refine lv_aload_n hC.1 hC.2.1 dX2_clear_0 rfl (lv_at hl 0 rfl) ?_
  refine p_ga hC hK hw h0 4 3 h0.2.2.2.2.1 (by decide) rfl q133 rfl dX2_clear_1 ?_
  refine lv_iload_n hC.1 hC.2.1 dX2_clear_4 rfl (lv_at hl 1 rfl) ?_
  refine lv_null hC.1 hC.2.1 dX2_clear_5 ?_
  refine g_strN (t := 2) hC hK hw h0.1.2.2.2.1 h0.2.1.2.2.2.1 rfl (by omega) (by omega) dX2_clear_6 (fun H locs hw => ?_)
  refine lv_aload_n hC.1 hC.2.1 dX2_clear_7 rfl (lv_at hl 0 rfl) ?_
  refine lv_dup hC.1 hC.2.1 dX2_clear_8 rfl ?_
  refine p_gi hC hK hw (h0.r2 (by omega)) 5 (by decide) rfl q136 rfl (v := (I u 5)) (rfl) dX2_clear_9 ?_
  refine lv_iconst (v := (nI 1)) hC.1 hC.2.1 dX2_clear_12 (by decide) ?_
  refine lv_iload_n hC.1 hC.2.1 dX2_clear_13 rfl (lv_at hl 1 rfl) ?_
  refine lv_ishl hC.1 hC.2.1 dX2_clear_14 ?_
  refine lv_iconst (v := (-1)) hC.1 hC.2.1 dX2_clear_15 (by decide) ?_
  refine lv_ixor hC.1 hC.2.1 dX2_clear_16 ?_
  refine lv_iand hC.1 hC.2.1 dX2_clear_17 ?_
  refine p_pi hC hK hw (h0.r2 (by omega)) 5 (by decide) rfl q136 rfl rfl rfl rfl rfl dX2_clear_18 (fun H locs hw => ?_)
  exact g_vret hC hlk hr hw (rfl) dX2_clear_21
