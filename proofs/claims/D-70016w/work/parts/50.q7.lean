/-! ===== WindCarver: breaks (by gen/w50.py) ===== -/
theorem pS.ofF {l : Launch} {y : MethodName} {cc : ByteArray} {nl : Nat} {ty : FieldType} {rm : Room} {as : List Value} {r : Int32} (hy : plainFor y = true) (hn : (lg_sl as).length ≤ nl)
    (body : ∀ (p : Program) (e : Env) (s : State) (m : MethodId) (below : List Frame) (meth : Method) (c : Code) (ls : Array Slot), CallFix p m c cc nl s as.toArray lw_all y.cls → meth.locks = false → meth.sig.returnType = some ty → lv_has ls nl (lv_args 0 as) →
      W p l e rm s m as.toArray below meth c s.heap [] 0 0 (MQ below (QcRead r) as.toArray s 0 0 (fun _ => False)) (F0 m 0 ls [])) : pS l y cc nl ty rm as r := by
  refine va_MetF (cc := cc) (maxL := nl) (ret := some ty) hy rfl ?_
  intro p e s m args below meth c s₁ B hml hv
  subst hv
  have hts := atoms_spec (ws := ws_ y cc nl (some ty)) B.pre
  have hts : ∀ w ∈ lw_all, w.before as.toArray s = true := fun w h => hts w (List.mem_cons_of_mem _ h)
  have hown : s.vm.findClass y.cls = some m.cls := findClass_of_methodNamed B.named
  have hl := lv_entry as (n := nl) hn
  rw [lg_entry_eq]
  exact body p e s m below meth c _ ⟨B.exec, B.bytes, hml, hown, hts⟩ B.notSynchronized B.returns hl

set_option maxHeartbeats 4000000 in
theorem tJ14_numberOfTrailingZeros (l : Launch) (x : Int32) (tz : Nat) (h0 : tz < 16) (h1 : (x ^^^ (-1 : Int32)) &&& (x - nI 1) = nI (2 ^ tz - 1)) : pS l yJ14_numberOfTrailingZeros cJ14_numberOfTrailingZeros 2 .int ({ frames := 0, cells := 0, slots := 0, locals := 0 } : Room) [.int x] (nI tz) := by
  refine pS.ofF (by decide +kernel) (Nat.le_of_ble_eq_true rfl) ?_
  intro p e s m below meth cd ls hC hlk hr hl
  have hl : lv_has ls 2 [(0, .int x)] := hl
  refine lv_iload_n hC.1 hC.2.1 dJ14_numberOfTrailingZeros_0 rfl (lv_at hl 0 rfl) ?_
  refine lv_iconst (v := (-1)) hC.1 hC.2.1 dJ14_numberOfTrailingZeros_1 (by decide) ?_
  refine lv_ixor hC.1 hC.2.1 dJ14_numberOfTrailingZeros_2 ?_
  refine lv_iload_n hC.1 hC.2.1 dJ14_numberOfTrailingZeros_3 rfl (lv_at hl 0 rfl) ?_
  refine lv_iconst (v := (nI 1)) hC.1 hC.2.1 dJ14_numberOfTrailingZeros_4 (by decide) ?_
  refine lv_isub hC.1 hC.2.1 dJ14_numberOfTrailingZeros_5 ?_
  refine lv_iand hC.1 hC.2.1 dJ14_numberOfTrailingZeros_6 ?_
  refine lv_istore_n (lv' := [(0, .int ((x ^^^ (-1 : Int32)) &&& (x - (nI 1))))]) hC.1 hC.2.1 dJ14_numberOfTrailingZeros_7 rfl hl (by decide) rfl (fun ls hl => ?_)
  rw [h1] at hl
  have hp : tz = 0 ∨ tz = 1 ∨ tz = 2 ∨ tz = 3 ∨ tz = 4 ∨ tz = 5 ∨ tz = 6 ∨ tz = 7 ∨ tz = 8 ∨ tz = 9 ∨ tz = 10 ∨ tz = 11 ∨ tz = 12 ∨ tz = 13 ∨ tz = 14 ∨ tz = 15 := by omega
  rcases hp with rfl | rfl | rfl | rfl | rfl | rfl | rfl | rfl | rfl | rfl | rfl | rfl | rfl | rfl | rfl | rfl
  · replace hl : lv_has ls 2 [(0, .int (nI 0))] := hl
    refine lv_iload_n hC.1 hC.2.1 dJ14_numberOfTrailingZeros_8 rfl (lv_at hl 0 rfl) ?_
    refine lv_if_gt (tgt := 17) hC.1 hC.2.1 dJ14_numberOfTrailingZeros_9 (by decide) (fun h => absurd h (by decide)) (fun c9 => ?_)
    refine lv_iload_n hC.1 hC.2.1 dJ14_numberOfTrailingZeros_12 rfl (lv_at hl 0 rfl) ?_
    refine lv_bipush (v := (nI 32)) hC.1 hC.2.1 dJ14_numberOfTrailingZeros_13 (by decide) ?_
    refine lv_iand hC.1 hC.2.1 dJ14_numberOfTrailingZeros_15 ?_
    exact pS_ret hC hlk hr (by decide) rfl dJ14_numberOfTrailingZeros_16
  · replace hl : lv_has ls 2 [(0, .int (nI 1))] := hl
    refine lv_iload_n hC.1 hC.2.1 dJ14_numberOfTrailingZeros_8 rfl (lv_at hl 0 rfl) ?_
    refine lv_if_gt (tgt := 17) hC.1 hC.2.1 dJ14_numberOfTrailingZeros_9 (by decide) (fun c9 => ?_) (fun h => absurd h (by decide))
    refine lv_iconst (v := (nI 1)) hC.1 hC.2.1 dJ14_numberOfTrailingZeros_17 (by decide) ?_
    refine lv_istore_n (lv' := [(1, .int (nI 1)), (0, .int (nI 1))]) hC.1 hC.2.1 dJ14_numberOfTrailingZeros_18 rfl hl (by decide) rfl (fun ls hl => ?_)
    refine lv_iload_n hC.1 hC.2.1 dJ14_numberOfTrailingZeros_19 rfl (lv_at hl 1 rfl) ?_
    refine lv_ldcw hC.1 hC.2.1 hC.2.2.2.1 (hC.2.2.2.2 _ q877) dJ14_numberOfTrailingZeros_20 ?_
    refine lv_icmp_le (tgt := 34) hC.1 hC.2.1 dJ14_numberOfTrailingZeros_23 (by decide) (fun c23 => ?_) (fun c23 => ?_)
    · refine lv_iload_n hC.1 hC.2.1 dJ14_numberOfTrailingZeros_34 rfl (lv_at hl 1 rfl) ?_
      refine lv_sipush (v := (nI 256)) hC.1 hC.2.1 dJ14_numberOfTrailingZeros_35 (by decide) ?_
      refine k_le (tgt := 49) hC (by decide) (by decide) dJ14_numberOfTrailingZeros_38 (by decide) (fun c38 => ?_) (fun c38 => ?_)
      · refine lv_iload_n hC.1 hC.2.1 dJ14_numberOfTrailingZeros_49 rfl (lv_at hl 1 rfl) ?_
        refine lv_bipush (v := (nI 16)) hC.1 hC.2.1 dJ14_numberOfTrailingZeros_50 (by decide) ?_
        refine k_le (tgt := 62) hC (by decide) (by decide) dJ14_numberOfTrailingZeros_52 (by decide) (fun c52 => ?_) (fun c52 => ?_)
        · refine lv_iload_n hC.1 hC.2.1 dJ14_numberOfTrailingZeros_62 rfl (lv_at hl 1 rfl) ?_
          refine lv_iconst (v := (nI 4)) hC.1 hC.2.1 dJ14_numberOfTrailingZeros_63 (by decide) ?_
          refine k_le (tgt := 74) hC (by decide) (by decide) dJ14_numberOfTrailingZeros_64 (by decide) (fun c64 => ?_) (fun c64 => ?_)
          · refine lv_iload_n hC.1 hC.2.1 dJ14_numberOfTrailingZeros_74 rfl (lv_at hl 0 rfl) ?_
            refine lv_iload_n hC.1 hC.2.1 dJ14_numberOfTrailingZeros_75 rfl (lv_at hl 1 rfl) ?_
            refine lv_iconst (v := (nI 1)) hC.1 hC.2.1 dJ14_numberOfTrailingZeros_76 (by decide) ?_
            refine lv_iushr (v := (nI 0)) hC.1 hC.2.1 dJ14_numberOfTrailingZeros_77 (by decide) ?_
            refine k_add hC dJ14_numberOfTrailingZeros_78 ?_
            exact pS_ret hC hlk hr (by decide) rfl dJ14_numberOfTrailingZeros_79
          · exact absurd c64 (by decide)
        · exact absurd c52 (by decide)
      · exact absurd c38 (by decide)
    · exact absurd c23 (by decide)
  · replace hl : lv_has ls 2 [(0, .int (nI 3))] := hl
    refine lv_iload_n hC.1 hC.2.1 dJ14_numberOfTrailingZeros_8 rfl (lv_at hl 0 rfl) ?_
    refine lv_if_gt (tgt := 17) hC.1 hC.2.1 dJ14_numberOfTrailingZeros_9 (by decide) (fun c9 => ?_) (fun h => absurd h (by decide))
    refine lv_iconst (v := (nI 1)) hC.1 hC.2.1 dJ14_numberOfTrailingZeros_17 (by decide) ?_
    refine lv_istore_n (lv' := [(1, .int (nI 1)), (0, .int (nI 3))]) hC.1 hC.2.1 dJ14_numberOfTrailingZeros_18 rfl hl (by decide) rfl (fun ls hl => ?_)
    refine lv_iload_n hC.1 hC.2.1 dJ14_numberOfTrailingZeros_19 rfl (lv_at hl 1 rfl) ?_
    refine lv_ldcw hC.1 hC.2.1 hC.2.2.2.1 (hC.2.2.2.2 _ q877) dJ14_numberOfTrailingZeros_20 ?_
    refine lv_icmp_le (tgt := 34) hC.1 hC.2.1 dJ14_numberOfTrailingZeros_23 (by decide) (fun c23 => ?_) (fun c23 => ?_)
    · refine lv_iload_n hC.1 hC.2.1 dJ14_numberOfTrailingZeros_34 rfl (lv_at hl 1 rfl) ?_
      refine lv_sipush (v := (nI 256)) hC.1 hC.2.1 dJ14_numberOfTrailingZeros_35 (by decide) ?_
      refine k_le (tgt := 49) hC (by decide) (by decide) dJ14_numberOfTrailingZeros_38 (by decide) (fun c38 => ?_) (fun c38 => ?_)
      · refine lv_iload_n hC.1 hC.2.1 dJ14_numberOfTrailingZeros_49 rfl (lv_at hl 1 rfl) ?_
        refine lv_bipush (v := (nI 16)) hC.1 hC.2.1 dJ14_numberOfTrailingZeros_50 (by decide) ?_
        refine k_le (tgt := 62) hC (by decide) (by decide) dJ14_numberOfTrailingZeros_52 (by decide) (fun c52 => ?_) (fun c52 => ?_)
        · refine lv_iload_n hC.1 hC.2.1 dJ14_numberOfTrailingZeros_62 rfl (lv_at hl 1 rfl) ?_
          refine lv_iconst (v := (nI 4)) hC.1 hC.2.1 dJ14_numberOfTrailingZeros_63 (by decide) ?_
          refine k_le (tgt := 74) hC (by decide) (by decide) dJ14_numberOfTrailingZeros_64 (by decide) (fun c64 => ?_) (fun c64 => ?_)
          · refine lv_iload_n hC.1 hC.2.1 dJ14_numberOfTrailingZeros_74 rfl (lv_at hl 0 rfl) ?_
            refine lv_iload_n hC.1 hC.2.1 dJ14_numberOfTrailingZeros_75 rfl (lv_at hl 1 rfl) ?_
            refine lv_iconst (v := (nI 1)) hC.1 hC.2.1 dJ14_numberOfTrailingZeros_76 (by decide) ?_
            refine lv_iushr (v := (nI 1)) hC.1 hC.2.1 dJ14_numberOfTrailingZeros_77 (by decide) ?_
            refine k_add hC dJ14_numberOfTrailingZeros_78 ?_
            exact pS_ret hC hlk hr (by decide) rfl dJ14_numberOfTrailingZeros_79
          · exact absurd c64 (by decide)
        · exact absurd c52 (by decide)
      · exact absurd c38 (by decide)
    · exact absurd c23 (by decide)
  · replace hl : lv_has ls 2 [(0, .int (nI 7))] := hl
    refine lv_iload_n hC.1 hC.2.1 dJ14_numberOfTrailingZeros_8 rfl (lv_at hl 0 rfl) ?_
    refine lv_if_gt (tgt := 17) hC.1 hC.2.1 dJ14_numberOfTrailingZeros_9 (by decide) (fun c9 => ?_) (fun h => absurd h (by decide))
    refine lv_iconst (v := (nI 1)) hC.1 hC.2.1 dJ14_numberOfTrailingZeros_17 (by decide) ?_
    refine lv_istore_n (lv' := [(1, .int (nI 1)), (0, .int (nI 7))]) hC.1 hC.2.1 dJ14_numberOfTrailingZeros_18 rfl hl (by decide) rfl (fun ls hl => ?_)
    refine lv_iload_n hC.1 hC.2.1 dJ14_numberOfTrailingZeros_19 rfl (lv_at hl 1 rfl) ?_
    refine lv_ldcw hC.1 hC.2.1 hC.2.2.2.1 (hC.2.2.2.2 _ q877) dJ14_numberOfTrailingZeros_20 ?_
    refine lv_icmp_le (tgt := 34) hC.1 hC.2.1 dJ14_numberOfTrailingZeros_23 (by decide) (fun c23 => ?_) (fun c23 => ?_)
    · refine lv_iload_n hC.1 hC.2.1 dJ14_numberOfTrailingZeros_34 rfl (lv_at hl 1 rfl) ?_
      refine lv_sipush (v := (nI 256)) hC.1 hC.2.1 dJ14_numberOfTrailingZeros_35 (by decide) ?_
      refine k_le (tgt := 49) hC (by decide) (by decide) dJ14_numberOfTrailingZeros_38 (by decide) (fun c38 => ?_) (fun c38 => ?_)
      · refine lv_iload_n hC.1 hC.2.1 dJ14_numberOfTrailingZeros_49 rfl (lv_at hl 1 rfl) ?_
        refine lv_bipush (v := (nI 16)) hC.1 hC.2.1 dJ14_numberOfTrailingZeros_50 (by decide) ?_
        refine k_le (tgt := 62) hC (by decide) (by decide) dJ14_numberOfTrailingZeros_52 (by decide) (fun c52 => ?_) (fun c52 => ?_)
        · refine lv_iload_n hC.1 hC.2.1 dJ14_numberOfTrailingZeros_62 rfl (lv_at hl 1 rfl) ?_
          refine lv_iconst (v := (nI 4)) hC.1 hC.2.1 dJ14_numberOfTrailingZeros_63 (by decide) ?_
          refine k_le (tgt := 74) hC (by decide) (by decide) dJ14_numberOfTrailingZeros_64 (by decide) (fun c64 => ?_) (fun c64 => ?_)
          · exact absurd c64 (by decide)
          · refine k_iinc (k := 0) (d := 2) (lv' := [(1, .int (nI (1 + 2))), (0, .int (nI 7))]) hC dJ14_numberOfTrailingZeros_67 hl rfl (by decide) (by decide) rfl (fun ls hl => ?_)
            refine lv_iload_n hC.1 hC.2.1 dJ14_numberOfTrailingZeros_70 rfl (lv_at hl 1 rfl) ?_
            refine lv_iconst (v := (nI 2)) hC.1 hC.2.1 dJ14_numberOfTrailingZeros_71 (by decide) ?_
            refine lv_iushr (v := (nI 1)) hC.1 hC.2.1 dJ14_numberOfTrailingZeros_72 (by decide) ?_
            refine lv_istore_n (lv' := [(0, .int (nI 1)), (1, .int (nI (1 + 2)))]) hC.1 hC.2.1 dJ14_numberOfTrailingZeros_73 rfl hl (by decide) rfl (fun ls hl => ?_)
            refine lv_iload_n hC.1 hC.2.1 dJ14_numberOfTrailingZeros_74 rfl (lv_at hl 1 rfl) ?_
            refine lv_iload_n hC.1 hC.2.1 dJ14_numberOfTrailingZeros_75 rfl (lv_at hl 0 rfl) ?_
            refine lv_iconst (v := (nI 1)) hC.1 hC.2.1 dJ14_numberOfTrailingZeros_76 (by decide) ?_
            refine lv_iushr (v := (nI 0)) hC.1 hC.2.1 dJ14_numberOfTrailingZeros_77 (by decide) ?_
            refine k_add hC dJ14_numberOfTrailingZeros_78 ?_
            exact pS_ret hC hlk hr (by decide) rfl dJ14_numberOfTrailingZeros_79
        · exact absurd c52 (by decide)
      · exact absurd c38 (by decide)
    · exact absurd c23 (by decide)
  · replace hl : lv_has ls 2 [(0, .int (nI 15))] := hl
    refine lv_iload_n hC.1 hC.2.1 dJ14_numberOfTrailingZeros_8 rfl (lv_at hl 0 rfl) ?_
    refine lv_if_gt (tgt := 17) hC.1 hC.2.1 dJ14_numberOfTrailingZeros_9 (by decide) (fun c9 => ?_) (fun h => absurd h (by decide))
    refine lv_iconst (v := (nI 1)) hC.1 hC.2.1 dJ14_numberOfTrailingZeros_17 (by decide) ?_
    refine lv_istore_n (lv' := [(1, .int (nI 1)), (0, .int (nI 15))]) hC.1 hC.2.1 dJ14_numberOfTrailingZeros_18 rfl hl (by decide) rfl (fun ls hl => ?_)
    refine lv_iload_n hC.1 hC.2.1 dJ14_numberOfTrailingZeros_19 rfl (lv_at hl 1 rfl) ?_
    refine lv_ldcw hC.1 hC.2.1 hC.2.2.2.1 (hC.2.2.2.2 _ q877) dJ14_numberOfTrailingZeros_20 ?_
    refine lv_icmp_le (tgt := 34) hC.1 hC.2.1 dJ14_numberOfTrailingZeros_23 (by decide) (fun c23 => ?_) (fun c23 => ?_)
    · refine lv_iload_n hC.1 hC.2.1 dJ14_numberOfTrailingZeros_34 rfl (lv_at hl 1 rfl) ?_
      refine lv_sipush (v := (nI 256)) hC.1 hC.2.1 dJ14_numberOfTrailingZeros_35 (by decide) ?_
      refine k_le (tgt := 49) hC (by decide) (by decide) dJ14_numberOfTrailingZeros_38 (by decide) (fun c38 => ?_) (fun c38 => ?_)
      · refine lv_iload_n hC.1 hC.2.1 dJ14_numberOfTrailingZeros_49 rfl (lv_at hl 1 rfl) ?_
        refine lv_bipush (v := (nI 16)) hC.1 hC.2.1 dJ14_numberOfTrailingZeros_50 (by decide) ?_
        refine k_le (tgt := 62) hC (by decide) (by decide) dJ14_numberOfTrailingZeros_52 (by decide) (fun c52 => ?_) (fun c52 => ?_)
        · refine lv_iload_n hC.1 hC.2.1 dJ14_numberOfTrailingZeros_62 rfl (lv_at hl 1 rfl) ?_
          refine lv_iconst (v := (nI 4)) hC.1 hC.2.1 dJ14_numberOfTrailingZeros_63 (by decide) ?_
          refine k_le (tgt := 74) hC (by decide) (by decide) dJ14_numberOfTrailingZeros_64 (by decide) (fun c64 => ?_) (fun c64 => ?_)
          · exact absurd c64 (by decide)
          · refine k_iinc (k := 0) (d := 2) (lv' := [(1, .int (nI (1 + 2))), (0, .int (nI 15))]) hC dJ14_numberOfTrailingZeros_67 hl rfl (by decide) (by decide) rfl (fun ls hl => ?_)
            refine lv_iload_n hC.1 hC.2.1 dJ14_numberOfTrailingZeros_70 rfl (lv_at hl 1 rfl) ?_
            refine lv_iconst (v := (nI 2)) hC.1 hC.2.1 dJ14_numberOfTrailingZeros_71 (by decide) ?_
            refine lv_iushr (v := (nI 3)) hC.1 hC.2.1 dJ14_numberOfTrailingZeros_72 (by decide) ?_
            refine lv_istore_n (lv' := [(0, .int (nI 3)), (1, .int (nI (1 + 2)))]) hC.1 hC.2.1 dJ14_numberOfTrailingZeros_73 rfl hl (by decide) rfl (fun ls hl => ?_)
            refine lv_iload_n hC.1 hC.2.1 dJ14_numberOfTrailingZeros_74 rfl (lv_at hl 1 rfl) ?_
            refine lv_iload_n hC.1 hC.2.1 dJ14_numberOfTrailingZeros_75 rfl (lv_at hl 0 rfl) ?_
            refine lv_iconst (v := (nI 1)) hC.1 hC.2.1 dJ14_numberOfTrailingZeros_76 (by decide) ?_
            refine lv_iushr (v := (nI 1)) hC.1 hC.2.1 dJ14_numberOfTrailingZeros_77 (by decide) ?_
            refine k_add hC dJ14_numberOfTrailingZeros_78 ?_
            exact pS_ret hC hlk hr (by decide) rfl dJ14_numberOfTrailingZeros_79
        · exact absurd c52 (by decide)
      · exact absurd c38 (by decide)
    · exact absurd c23 (by decide)
  · replace hl : lv_has ls 2 [(0, .int (nI 31))] := hl
    refine lv_iload_n hC.1 hC.2.1 dJ14_numberOfTrailingZeros_8 rfl (lv_at hl 0 rfl) ?_
    refine lv_if_gt (tgt := 17) hC.1 hC.2.1 dJ14_numberOfTrailingZeros_9 (by decide) (fun c9 => ?_) (fun h => absurd h (by decide))
    refine lv_iconst (v := (nI 1)) hC.1 hC.2.1 dJ14_numberOfTrailingZeros_17 (by decide) ?_
    refine lv_istore_n (lv' := [(1, .int (nI 1)), (0, .int (nI 31))]) hC.1 hC.2.1 dJ14_numberOfTrailingZeros_18 rfl hl (by decide) rfl (fun ls hl => ?_)
    refine lv_iload_n hC.1 hC.2.1 dJ14_numberOfTrailingZeros_19 rfl (lv_at hl 1 rfl) ?_
    refine lv_ldcw hC.1 hC.2.1 hC.2.2.2.1 (hC.2.2.2.2 _ q877) dJ14_numberOfTrailingZeros_20 ?_
    refine lv_icmp_le (tgt := 34) hC.1 hC.2.1 dJ14_numberOfTrailingZeros_23 (by decide) (fun c23 => ?_) (fun c23 => ?_)
    · refine lv_iload_n hC.1 hC.2.1 dJ14_numberOfTrailingZeros_34 rfl (lv_at hl 1 rfl) ?_
      refine lv_sipush (v := (nI 256)) hC.1 hC.2.1 dJ14_numberOfTrailingZeros_35 (by decide) ?_
      refine k_le (tgt := 49) hC (by decide) (by decide) dJ14_numberOfTrailingZeros_38 (by decide) (fun c38 => ?_) (fun c38 => ?_)
      · refine lv_iload_n hC.1 hC.2.1 dJ14_numberOfTrailingZeros_49 rfl (lv_at hl 1 rfl) ?_
        refine lv_bipush (v := (nI 16)) hC.1 hC.2.1 dJ14_numberOfTrailingZeros_50 (by decide) ?_
        refine k_le (tgt := 62) hC (by decide) (by decide) dJ14_numberOfTrailingZeros_52 (by decide) (fun c52 => ?_) (fun c52 => ?_)
        · exact absurd c52 (by decide)
        · refine k_iinc (k := 0) (d := 4) (lv' := [(1, .int (nI (1 + 4))), (0, .int (nI 31))]) hC dJ14_numberOfTrailingZeros_55 hl rfl (by decide) (by decide) rfl (fun ls hl => ?_)
          refine lv_iload_n hC.1 hC.2.1 dJ14_numberOfTrailingZeros_58 rfl (lv_at hl 1 rfl) ?_
          refine lv_iconst (v := (nI 4)) hC.1 hC.2.1 dJ14_numberOfTrailingZeros_59 (by decide) ?_
          refine lv_iushr (v := (nI 1)) hC.1 hC.2.1 dJ14_numberOfTrailingZeros_60 (by decide) ?_
          refine lv_istore_n (lv' := [(0, .int (nI 1)), (1, .int (nI (1 + 4)))]) hC.1 hC.2.1 dJ14_numberOfTrailingZeros_61 rfl hl (by decide) rfl (fun ls hl => ?_)
          refine lv_iload_n hC.1 hC.2.1 dJ14_numberOfTrailingZeros_62 rfl (lv_at hl 0 rfl) ?_
          refine lv_iconst (v := (nI 4)) hC.1 hC.2.1 dJ14_numberOfTrailingZeros_63 (by decide) ?_
          refine k_le (tgt := 74) hC (by decide) (by decide) dJ14_numberOfTrailingZeros_64 (by decide) (fun c64 => ?_) (fun c64 => ?_)
          · refine lv_iload_n hC.1 hC.2.1 dJ14_numberOfTrailingZeros_74 rfl (lv_at hl 1 rfl) ?_
            refine lv_iload_n hC.1 hC.2.1 dJ14_numberOfTrailingZeros_75 rfl (lv_at hl 0 rfl) ?_
            refine lv_iconst (v := (nI 1)) hC.1 hC.2.1 dJ14_numberOfTrailingZeros_76 (by decide) ?_
            refine lv_iushr (v := (nI 0)) hC.1 hC.2.1 dJ14_numberOfTrailingZeros_77 (by decide) ?_
            refine k_add hC dJ14_numberOfTrailingZeros_78 ?_
            exact pS_ret hC hlk hr (by decide) rfl dJ14_numberOfTrailingZeros_79
          · exact absurd c64 (by decide)
      · exact absurd c38 (by decide)
    · exact absurd c23 (by decide)
  · replace hl : lv_has ls 2 [(0, .int (nI 63))] := hl
    refine lv_iload_n hC.1 hC.2.1 dJ14_numberOfTrailingZeros_8 rfl (lv_at hl 0 rfl) ?_
    refine lv_if_gt (tgt := 17) hC.1 hC.2.1 dJ14_numberOfTrailingZeros_9 (by decide) (fun c9 => ?_) (fun h => absurd h (by decide))
    refine lv_iconst (v := (nI 1)) hC.1 hC.2.1 dJ14_numberOfTrailingZeros_17 (by decide) ?_
    refine lv_istore_n (lv' := [(1, .int (nI 1)), (0, .int (nI 63))]) hC.1 hC.2.1 dJ14_numberOfTrailingZeros_18 rfl hl (by decide) rfl (fun ls hl => ?_)
    refine lv_iload_n hC.1 hC.2.1 dJ14_numberOfTrailingZeros_19 rfl (lv_at hl 1 rfl) ?_
    refine lv_ldcw hC.1 hC.2.1 hC.2.2.2.1 (hC.2.2.2.2 _ q877) dJ14_numberOfTrailingZeros_20 ?_
    refine lv_icmp_le (tgt := 34) hC.1 hC.2.1 dJ14_numberOfTrailingZeros_23 (by decide) (fun c23 => ?_) (fun c23 => ?_)
    · refine lv_iload_n hC.1 hC.2.1 dJ14_numberOfTrailingZeros_34 rfl (lv_at hl 1 rfl) ?_
      refine lv_sipush (v := (nI 256)) hC.1 hC.2.1 dJ14_numberOfTrailingZeros_35 (by decide) ?_
      refine k_le (tgt := 49) hC (by decide) (by decide) dJ14_numberOfTrailingZeros_38 (by decide) (fun c38 => ?_) (fun c38 => ?_)
      · refine lv_iload_n hC.1 hC.2.1 dJ14_numberOfTrailingZeros_49 rfl (lv_at hl 1 rfl) ?_
        refine lv_bipush (v := (nI 16)) hC.1 hC.2.1 dJ14_numberOfTrailingZeros_50 (by decide) ?_
        refine k_le (tgt := 62) hC (by decide) (by decide) dJ14_numberOfTrailingZeros_52 (by decide) (fun c52 => ?_) (fun c52 => ?_)
        · exact absurd c52 (by decide)
        · refine k_iinc (k := 0) (d := 4) (lv' := [(1, .int (nI (1 + 4))), (0, .int (nI 63))]) hC dJ14_numberOfTrailingZeros_55 hl rfl (by decide) (by decide) rfl (fun ls hl => ?_)
          refine lv_iload_n hC.1 hC.2.1 dJ14_numberOfTrailingZeros_58 rfl (lv_at hl 1 rfl) ?_
          refine lv_iconst (v := (nI 4)) hC.1 hC.2.1 dJ14_numberOfTrailingZeros_59 (by decide) ?_
          refine lv_iushr (v := (nI 3)) hC.1 hC.2.1 dJ14_numberOfTrailingZeros_60 (by decide) ?_
          refine lv_istore_n (lv' := [(0, .int (nI 3)), (1, .int (nI (1 + 4)))]) hC.1 hC.2.1 dJ14_numberOfTrailingZeros_61 rfl hl (by decide) rfl (fun ls hl => ?_)
          refine lv_iload_n hC.1 hC.2.1 dJ14_numberOfTrailingZeros_62 rfl (lv_at hl 0 rfl) ?_
          refine lv_iconst (v := (nI 4)) hC.1 hC.2.1 dJ14_numberOfTrailingZeros_63 (by decide) ?_
          refine k_le (tgt := 74) hC (by decide) (by decide) dJ14_numberOfTrailingZeros_64 (by decide) (fun c64 => ?_) (fun c64 => ?_)
          · refine lv_iload_n hC.1 hC.2.1 dJ14_numberOfTrailingZeros_74 rfl (lv_at hl 1 rfl) ?_
            refine lv_iload_n hC.1 hC.2.1 dJ14_numberOfTrailingZeros_75 rfl (lv_at hl 0 rfl) ?_
            refine lv_iconst (v := (nI 1)) hC.1 hC.2.1 dJ14_numberOfTrailingZeros_76 (by decide) ?_
            refine lv_iushr (v := (nI 1)) hC.1 hC.2.1 dJ14_numberOfTrailingZeros_77 (by decide) ?_
            refine k_add hC dJ14_numberOfTrailingZeros_78 ?_
            exact pS_ret hC hlk hr (by decide) rfl dJ14_numberOfTrailingZeros_79
          · exact absurd c64 (by decide)
      · exact absurd c38 (by decide)
    · exact absurd c23 (by decide)
  · replace hl : lv_has ls 2 [(0, .int (nI 127))] := hl
    refine lv_iload_n hC.1 hC.2.1 dJ14_numberOfTrailingZeros_8 rfl (lv_at hl 0 rfl) ?_
    refine lv_if_gt (tgt := 17) hC.1 hC.2.1 dJ14_numberOfTrailingZeros_9 (by decide) (fun c9 => ?_) (fun h => absurd h (by decide))
    refine lv_iconst (v := (nI 1)) hC.1 hC.2.1 dJ14_numberOfTrailingZeros_17 (by decide) ?_
    refine lv_istore_n (lv' := [(1, .int (nI 1)), (0, .int (nI 127))]) hC.1 hC.2.1 dJ14_numberOfTrailingZeros_18 rfl hl (by decide) rfl (fun ls hl => ?_)
    refine lv_iload_n hC.1 hC.2.1 dJ14_numberOfTrailingZeros_19 rfl (lv_at hl 1 rfl) ?_
    refine lv_ldcw hC.1 hC.2.1 hC.2.2.2.1 (hC.2.2.2.2 _ q877) dJ14_numberOfTrailingZeros_20 ?_
    refine lv_icmp_le (tgt := 34) hC.1 hC.2.1 dJ14_numberOfTrailingZeros_23 (by decide) (fun c23 => ?_) (fun c23 => ?_)
    · refine lv_iload_n hC.1 hC.2.1 dJ14_numberOfTrailingZeros_34 rfl (lv_at hl 1 rfl) ?_
      refine lv_sipush (v := (nI 256)) hC.1 hC.2.1 dJ14_numberOfTrailingZeros_35 (by decide) ?_
      refine k_le (tgt := 49) hC (by decide) (by decide) dJ14_numberOfTrailingZeros_38 (by decide) (fun c38 => ?_) (fun c38 => ?_)
      · refine lv_iload_n hC.1 hC.2.1 dJ14_numberOfTrailingZeros_49 rfl (lv_at hl 1 rfl) ?_
        refine lv_bipush (v := (nI 16)) hC.1 hC.2.1 dJ14_numberOfTrailingZeros_50 (by decide) ?_
        refine k_le (tgt := 62) hC (by decide) (by decide) dJ14_numberOfTrailingZeros_52 (by decide) (fun c52 => ?_) (fun c52 => ?_)
        · exact absurd c52 (by decide)
        · refine k_iinc (k := 0) (d := 4) (lv' := [(1, .int (nI (1 + 4))), (0, .int (nI 127))]) hC dJ14_numberOfTrailingZeros_55 hl rfl (by decide) (by decide) rfl (fun ls hl => ?_)
          refine lv_iload_n hC.1 hC.2.1 dJ14_numberOfTrailingZeros_58 rfl (lv_at hl 1 rfl) ?_
          refine lv_iconst (v := (nI 4)) hC.1 hC.2.1 dJ14_numberOfTrailingZeros_59 (by decide) ?_
          refine lv_iushr (v := (nI 7)) hC.1 hC.2.1 dJ14_numberOfTrailingZeros_60 (by decide) ?_
          refine lv_istore_n (lv' := [(0, .int (nI 7)), (1, .int (nI (1 + 4)))]) hC.1 hC.2.1 dJ14_numberOfTrailingZeros_61 rfl hl (by decide) rfl (fun ls hl => ?_)
          refine lv_iload_n hC.1 hC.2.1 dJ14_numberOfTrailingZeros_62 rfl (lv_at hl 0 rfl) ?_
          refine lv_iconst (v := (nI 4)) hC.1 hC.2.1 dJ14_numberOfTrailingZeros_63 (by decide) ?_
          refine k_le (tgt := 74) hC (by decide) (by decide) dJ14_numberOfTrailingZeros_64 (by decide) (fun c64 => ?_) (fun c64 => ?_)
          · exact absurd c64 (by decide)
          · refine k_iinc (k := 1) (d := 2) (lv' := [(1, .int (nI ((1 + 4) + 2))), (0, .int (nI 7))]) hC dJ14_numberOfTrailingZeros_67 hl rfl (by decide) (by decide) rfl (fun ls hl => ?_)
            refine lv_iload_n hC.1 hC.2.1 dJ14_numberOfTrailingZeros_70 rfl (lv_at hl 1 rfl) ?_
            refine lv_iconst (v := (nI 2)) hC.1 hC.2.1 dJ14_numberOfTrailingZeros_71 (by decide) ?_
            refine lv_iushr (v := (nI 1)) hC.1 hC.2.1 dJ14_numberOfTrailingZeros_72 (by decide) ?_
            refine lv_istore_n (lv' := [(0, .int (nI 1)), (1, .int (nI ((1 + 4) + 2)))]) hC.1 hC.2.1 dJ14_numberOfTrailingZeros_73 rfl hl (by decide) rfl (fun ls hl => ?_)
            refine lv_iload_n hC.1 hC.2.1 dJ14_numberOfTrailingZeros_74 rfl (lv_at hl 1 rfl) ?_
            refine lv_iload_n hC.1 hC.2.1 dJ14_numberOfTrailingZeros_75 rfl (lv_at hl 0 rfl) ?_
            refine lv_iconst (v := (nI 1)) hC.1 hC.2.1 dJ14_numberOfTrailingZeros_76 (by decide) ?_
            refine lv_iushr (v := (nI 0)) hC.1 hC.2.1 dJ14_numberOfTrailingZeros_77 (by decide) ?_
            refine k_add hC dJ14_numberOfTrailingZeros_78 ?_
            exact pS_ret hC hlk hr (by decide) rfl dJ14_numberOfTrailingZeros_79
      · exact absurd c38 (by decide)
    · exact absurd c23 (by decide)
  · replace hl : lv_has ls 2 [(0, .int (nI 255))] := hl
    refine lv_iload_n hC.1 hC.2.1 dJ14_numberOfTrailingZeros_8 rfl (lv_at hl 0 rfl) ?_
    refine lv_if_gt (tgt := 17) hC.1 hC.2.1 dJ14_numberOfTrailingZeros_9 (by decide) (fun c9 => ?_) (fun h => absurd h (by decide))
    refine lv_iconst (v := (nI 1)) hC.1 hC.2.1 dJ14_numberOfTrailingZeros_17 (by decide) ?_
    refine lv_istore_n (lv' := [(1, .int (nI 1)), (0, .int (nI 255))]) hC.1 hC.2.1 dJ14_numberOfTrailingZeros_18 rfl hl (by decide) rfl (fun ls hl => ?_)
    refine lv_iload_n hC.1 hC.2.1 dJ14_numberOfTrailingZeros_19 rfl (lv_at hl 1 rfl) ?_
    refine lv_ldcw hC.1 hC.2.1 hC.2.2.2.1 (hC.2.2.2.2 _ q877) dJ14_numberOfTrailingZeros_20 ?_
    refine lv_icmp_le (tgt := 34) hC.1 hC.2.1 dJ14_numberOfTrailingZeros_23 (by decide) (fun c23 => ?_) (fun c23 => ?_)
    · refine lv_iload_n hC.1 hC.2.1 dJ14_numberOfTrailingZeros_34 rfl (lv_at hl 1 rfl) ?_
      refine lv_sipush (v := (nI 256)) hC.1 hC.2.1 dJ14_numberOfTrailingZeros_35 (by decide) ?_
      refine k_le (tgt := 49) hC (by decide) (by decide) dJ14_numberOfTrailingZeros_38 (by decide) (fun c38 => ?_) (fun c38 => ?_)
      · refine lv_iload_n hC.1 hC.2.1 dJ14_numberOfTrailingZeros_49 rfl (lv_at hl 1 rfl) ?_
        refine lv_bipush (v := (nI 16)) hC.1 hC.2.1 dJ14_numberOfTrailingZeros_50 (by decide) ?_
        refine k_le (tgt := 62) hC (by decide) (by decide) dJ14_numberOfTrailingZeros_52 (by decide) (fun c52 => ?_) (fun c52 => ?_)
        · exact absurd c52 (by decide)
        · refine k_iinc (k := 0) (d := 4) (lv' := [(1, .int (nI (1 + 4))), (0, .int (nI 255))]) hC dJ14_numberOfTrailingZeros_55 hl rfl (by decide) (by decide) rfl (fun ls hl => ?_)
          refine lv_iload_n hC.1 hC.2.1 dJ14_numberOfTrailingZeros_58 rfl (lv_at hl 1 rfl) ?_
          refine lv_iconst (v := (nI 4)) hC.1 hC.2.1 dJ14_numberOfTrailingZeros_59 (by decide) ?_
          refine lv_iushr (v := (nI 15)) hC.1 hC.2.1 dJ14_numberOfTrailingZeros_60 (by decide) ?_
          refine lv_istore_n (lv' := [(0, .int (nI 15)), (1, .int (nI (1 + 4)))]) hC.1 hC.2.1 dJ14_numberOfTrailingZeros_61 rfl hl (by decide) rfl (fun ls hl => ?_)
          refine lv_iload_n hC.1 hC.2.1 dJ14_numberOfTrailingZeros_62 rfl (lv_at hl 0 rfl) ?_
          refine lv_iconst (v := (nI 4)) hC.1 hC.2.1 dJ14_numberOfTrailingZeros_63 (by decide) ?_
          refine k_le (tgt := 74) hC (by decide) (by decide) dJ14_numberOfTrailingZeros_64 (by decide) (fun c64 => ?_) (fun c64 => ?_)
          · exact absurd c64 (by decide)
          · refine k_iinc (k := 1) (d := 2) (lv' := [(1, .int (nI ((1 + 4) + 2))), (0, .int (nI 15))]) hC dJ14_numberOfTrailingZeros_67 hl rfl (by decide) (by decide) rfl (fun ls hl => ?_)
            refine lv_iload_n hC.1 hC.2.1 dJ14_numberOfTrailingZeros_70 rfl (lv_at hl 1 rfl) ?_
            refine lv_iconst (v := (nI 2)) hC.1 hC.2.1 dJ14_numberOfTrailingZeros_71 (by decide) ?_
            refine lv_iushr (v := (nI 3)) hC.1 hC.2.1 dJ14_numberOfTrailingZeros_72 (by decide) ?_
            refine lv_istore_n (lv' := [(0, .int (nI 3)), (1, .int (nI ((1 + 4) + 2)))]) hC.1 hC.2.1 dJ14_numberOfTrailingZeros_73 rfl hl (by decide) rfl (fun ls hl => ?_)
            refine lv_iload_n hC.1 hC.2.1 dJ14_numberOfTrailingZeros_74 rfl (lv_at hl 1 rfl) ?_
            refine lv_iload_n hC.1 hC.2.1 dJ14_numberOfTrailingZeros_75 rfl (lv_at hl 0 rfl) ?_
            refine lv_iconst (v := (nI 1)) hC.1 hC.2.1 dJ14_numberOfTrailingZeros_76 (by decide) ?_
            refine lv_iushr (v := (nI 1)) hC.1 hC.2.1 dJ14_numberOfTrailingZeros_77 (by decide) ?_
            refine k_add hC dJ14_numberOfTrailingZeros_78 ?_
            exact pS_ret hC hlk hr (by decide) rfl dJ14_numberOfTrailingZeros_79
      · exact absurd c38 (by decide)
    · exact absurd c23 (by decide)
  · replace hl : lv_has ls 2 [(0, .int (nI 511))] := hl
    refine lv_iload_n hC.1 hC.2.1 dJ14_numberOfTrailingZeros_8 rfl (lv_at hl 0 rfl) ?_
    refine lv_if_gt (tgt := 17) hC.1 hC.2.1 dJ14_numberOfTrailingZeros_9 (by decide) (fun c9 => ?_) (fun h => absurd h (by decide))
    refine lv_iconst (v := (nI 1)) hC.1 hC.2.1 dJ14_numberOfTrailingZeros_17 (by decide) ?_
    refine lv_istore_n (lv' := [(1, .int (nI 1)), (0, .int (nI 511))]) hC.1 hC.2.1 dJ14_numberOfTrailingZeros_18 rfl hl (by decide) rfl (fun ls hl => ?_)
    refine lv_iload_n hC.1 hC.2.1 dJ14_numberOfTrailingZeros_19 rfl (lv_at hl 1 rfl) ?_
    refine lv_ldcw hC.1 hC.2.1 hC.2.2.2.1 (hC.2.2.2.2 _ q877) dJ14_numberOfTrailingZeros_20 ?_
    refine lv_icmp_le (tgt := 34) hC.1 hC.2.1 dJ14_numberOfTrailingZeros_23 (by decide) (fun c23 => ?_) (fun c23 => ?_)
    · refine lv_iload_n hC.1 hC.2.1 dJ14_numberOfTrailingZeros_34 rfl (lv_at hl 1 rfl) ?_
      refine lv_sipush (v := (nI 256)) hC.1 hC.2.1 dJ14_numberOfTrailingZeros_35 (by decide) ?_
      refine k_le (tgt := 49) hC (by decide) (by decide) dJ14_numberOfTrailingZeros_38 (by decide) (fun c38 => ?_) (fun c38 => ?_)
      · exact absurd c38 (by decide)
      · refine k_iinc (k := 0) (d := 8) (lv' := [(1, .int (nI (1 + 8))), (0, .int (nI 511))]) hC dJ14_numberOfTrailingZeros_41 hl rfl (by decide) (by decide) rfl (fun ls hl => ?_)
        refine lv_iload_n hC.1 hC.2.1 dJ14_numberOfTrailingZeros_44 rfl (lv_at hl 1 rfl) ?_
        refine lv_bipush (v := (nI 8)) hC.1 hC.2.1 dJ14_numberOfTrailingZeros_45 (by decide) ?_
        refine lv_iushr (v := (nI 1)) hC.1 hC.2.1 dJ14_numberOfTrailingZeros_47 (by decide) ?_
        refine lv_istore_n (lv' := [(0, .int (nI 1)), (1, .int (nI (1 + 8)))]) hC.1 hC.2.1 dJ14_numberOfTrailingZeros_48 rfl hl (by decide) rfl (fun ls hl => ?_)
        refine lv_iload_n hC.1 hC.2.1 dJ14_numberOfTrailingZeros_49 rfl (lv_at hl 0 rfl) ?_
        refine lv_bipush (v := (nI 16)) hC.1 hC.2.1 dJ14_numberOfTrailingZeros_50 (by decide) ?_
        refine k_le (tgt := 62) hC (by decide) (by decide) dJ14_numberOfTrailingZeros_52 (by decide) (fun c52 => ?_) (fun c52 => ?_)
        · refine lv_iload_n hC.1 hC.2.1 dJ14_numberOfTrailingZeros_62 rfl (lv_at hl 0 rfl) ?_
          refine lv_iconst (v := (nI 4)) hC.1 hC.2.1 dJ14_numberOfTrailingZeros_63 (by decide) ?_
          refine k_le (tgt := 74) hC (by decide) (by decide) dJ14_numberOfTrailingZeros_64 (by decide) (fun c64 => ?_) (fun c64 => ?_)
          · refine lv_iload_n hC.1 hC.2.1 dJ14_numberOfTrailingZeros_74 rfl (lv_at hl 1 rfl) ?_
            refine lv_iload_n hC.1 hC.2.1 dJ14_numberOfTrailingZeros_75 rfl (lv_at hl 0 rfl) ?_
            refine lv_iconst (v := (nI 1)) hC.1 hC.2.1 dJ14_numberOfTrailingZeros_76 (by decide) ?_
            refine lv_iushr (v := (nI 0)) hC.1 hC.2.1 dJ14_numberOfTrailingZeros_77 (by decide) ?_
            refine k_add hC dJ14_numberOfTrailingZeros_78 ?_
            exact pS_ret hC hlk hr (by decide) rfl dJ14_numberOfTrailingZeros_79
          · exact absurd c64 (by decide)
        · exact absurd c52 (by decide)
    · exact absurd c23 (by decide)
  · replace hl : lv_has ls 2 [(0, .int (nI 1023))] := hl
    refine lv_iload_n hC.1 hC.2.1 dJ14_numberOfTrailingZeros_8 rfl (lv_at hl 0 rfl) ?_
    refine lv_if_gt (tgt := 17) hC.1 hC.2.1 dJ14_numberOfTrailingZeros_9 (by decide) (fun c9 => ?_) (fun h => absurd h (by decide))
    refine lv_iconst (v := (nI 1)) hC.1 hC.2.1 dJ14_numberOfTrailingZeros_17 (by decide) ?_
    refine lv_istore_n (lv' := [(1, .int (nI 1)), (0, .int (nI 1023))]) hC.1 hC.2.1 dJ14_numberOfTrailingZeros_18 rfl hl (by decide) rfl (fun ls hl => ?_)
    refine lv_iload_n hC.1 hC.2.1 dJ14_numberOfTrailingZeros_19 rfl (lv_at hl 1 rfl) ?_
    refine lv_ldcw hC.1 hC.2.1 hC.2.2.2.1 (hC.2.2.2.2 _ q877) dJ14_numberOfTrailingZeros_20 ?_
    refine lv_icmp_le (tgt := 34) hC.1 hC.2.1 dJ14_numberOfTrailingZeros_23 (by decide) (fun c23 => ?_) (fun c23 => ?_)
    · refine lv_iload_n hC.1 hC.2.1 dJ14_numberOfTrailingZeros_34 rfl (lv_at hl 1 rfl) ?_
      refine lv_sipush (v := (nI 256)) hC.1 hC.2.1 dJ14_numberOfTrailingZeros_35 (by decide) ?_
      refine k_le (tgt := 49) hC (by decide) (by decide) dJ14_numberOfTrailingZeros_38 (by decide) (fun c38 => ?_) (fun c38 => ?_)
      · exact absurd c38 (by decide)
      · refine k_iinc (k := 0) (d := 8) (lv' := [(1, .int (nI (1 + 8))), (0, .int (nI 1023))]) hC dJ14_numberOfTrailingZeros_41 hl rfl (by decide) (by decide) rfl (fun ls hl => ?_)
        refine lv_iload_n hC.1 hC.2.1 dJ14_numberOfTrailingZeros_44 rfl (lv_at hl 1 rfl) ?_
        refine lv_bipush (v := (nI 8)) hC.1 hC.2.1 dJ14_numberOfTrailingZeros_45 (by decide) ?_
        refine lv_iushr (v := (nI 3)) hC.1 hC.2.1 dJ14_numberOfTrailingZeros_47 (by decide) ?_
        refine lv_istore_n (lv' := [(0, .int (nI 3)), (1, .int (nI (1 + 8)))]) hC.1 hC.2.1 dJ14_numberOfTrailingZeros_48 rfl hl (by decide) rfl (fun ls hl => ?_)
        refine lv_iload_n hC.1 hC.2.1 dJ14_numberOfTrailingZeros_49 rfl (lv_at hl 0 rfl) ?_
        refine lv_bipush (v := (nI 16)) hC.1 hC.2.1 dJ14_numberOfTrailingZeros_50 (by decide) ?_
        refine k_le (tgt := 62) hC (by decide) (by decide) dJ14_numberOfTrailingZeros_52 (by decide) (fun c52 => ?_) (fun c52 => ?_)
        · refine lv_iload_n hC.1 hC.2.1 dJ14_numberOfTrailingZeros_62 rfl (lv_at hl 0 rfl) ?_
          refine lv_iconst (v := (nI 4)) hC.1 hC.2.1 dJ14_numberOfTrailingZeros_63 (by decide) ?_
          refine k_le (tgt := 74) hC (by decide) (by decide) dJ14_numberOfTrailingZeros_64 (by decide) (fun c64 => ?_) (fun c64 => ?_)
          · refine lv_iload_n hC.1 hC.2.1 dJ14_numberOfTrailingZeros_74 rfl (lv_at hl 1 rfl) ?_
            refine lv_iload_n hC.1 hC.2.1 dJ14_numberOfTrailingZeros_75 rfl (lv_at hl 0 rfl) ?_
            refine lv_iconst (v := (nI 1)) hC.1 hC.2.1 dJ14_numberOfTrailingZeros_76 (by decide) ?_
            refine lv_iushr (v := (nI 1)) hC.1 hC.2.1 dJ14_numberOfTrailingZeros_77 (by decide) ?_
            refine k_add hC dJ14_numberOfTrailingZeros_78 ?_
            exact pS_ret hC hlk hr (by decide) rfl dJ14_numberOfTrailingZeros_79
          · exact absurd c64 (by decide)
        · exact absurd c52 (by decide)
    · exact absurd c23 (by decide)
  · replace hl : lv_has ls 2 [(0, .int (nI 2047))] := hl
    refine lv_iload_n hC.1 hC.2.1 dJ14_numberOfTrailingZeros_8 rfl (lv_at hl 0 rfl) ?_
    refine lv_if_gt (tgt := 17) hC.1 hC.2.1 dJ14_numberOfTrailingZeros_9 (by decide) (fun c9 => ?_) (fun h => absurd h (by decide))
    refine lv_iconst (v := (nI 1)) hC.1 hC.2.1 dJ14_numberOfTrailingZeros_17 (by decide) ?_
    refine lv_istore_n (lv' := [(1, .int (nI 1)), (0, .int (nI 2047))]) hC.1 hC.2.1 dJ14_numberOfTrailingZeros_18 rfl hl (by decide) rfl (fun ls hl => ?_)
    refine lv_iload_n hC.1 hC.2.1 dJ14_numberOfTrailingZeros_19 rfl (lv_at hl 1 rfl) ?_
    refine lv_ldcw hC.1 hC.2.1 hC.2.2.2.1 (hC.2.2.2.2 _ q877) dJ14_numberOfTrailingZeros_20 ?_
    refine lv_icmp_le (tgt := 34) hC.1 hC.2.1 dJ14_numberOfTrailingZeros_23 (by decide) (fun c23 => ?_) (fun c23 => ?_)
    · refine lv_iload_n hC.1 hC.2.1 dJ14_numberOfTrailingZeros_34 rfl (lv_at hl 1 rfl) ?_
      refine lv_sipush (v := (nI 256)) hC.1 hC.2.1 dJ14_numberOfTrailingZeros_35 (by decide) ?_
      refine k_le (tgt := 49) hC (by decide) (by decide) dJ14_numberOfTrailingZeros_38 (by decide) (fun c38 => ?_) (fun c38 => ?_)
      · exact absurd c38 (by decide)
      · refine k_iinc (k := 0) (d := 8) (lv' := [(1, .int (nI (1 + 8))), (0, .int (nI 2047))]) hC dJ14_numberOfTrailingZeros_41 hl rfl (by decide) (by decide) rfl (fun ls hl => ?_)
        refine lv_iload_n hC.1 hC.2.1 dJ14_numberOfTrailingZeros_44 rfl (lv_at hl 1 rfl) ?_
        refine lv_bipush (v := (nI 8)) hC.1 hC.2.1 dJ14_numberOfTrailingZeros_45 (by decide) ?_
        refine lv_iushr (v := (nI 7)) hC.1 hC.2.1 dJ14_numberOfTrailingZeros_47 (by decide) ?_
        refine lv_istore_n (lv' := [(0, .int (nI 7)), (1, .int (nI (1 + 8)))]) hC.1 hC.2.1 dJ14_numberOfTrailingZeros_48 rfl hl (by decide) rfl (fun ls hl => ?_)
        refine lv_iload_n hC.1 hC.2.1 dJ14_numberOfTrailingZeros_49 rfl (lv_at hl 0 rfl) ?_
        refine lv_bipush (v := (nI 16)) hC.1 hC.2.1 dJ14_numberOfTrailingZeros_50 (by decide) ?_
        refine k_le (tgt := 62) hC (by decide) (by decide) dJ14_numberOfTrailingZeros_52 (by decide) (fun c52 => ?_) (fun c52 => ?_)
        · refine lv_iload_n hC.1 hC.2.1 dJ14_numberOfTrailingZeros_62 rfl (lv_at hl 0 rfl) ?_
          refine lv_iconst (v := (nI 4)) hC.1 hC.2.1 dJ14_numberOfTrailingZeros_63 (by decide) ?_
          refine k_le (tgt := 74) hC (by decide) (by decide) dJ14_numberOfTrailingZeros_64 (by decide) (fun c64 => ?_) (fun c64 => ?_)
          · exact absurd c64 (by decide)
          · refine k_iinc (k := 1) (d := 2) (lv' := [(1, .int (nI ((1 + 8) + 2))), (0, .int (nI 7))]) hC dJ14_numberOfTrailingZeros_67 hl rfl (by decide) (by decide) rfl (fun ls hl => ?_)
            refine lv_iload_n hC.1 hC.2.1 dJ14_numberOfTrailingZeros_70 rfl (lv_at hl 1 rfl) ?_
            refine lv_iconst (v := (nI 2)) hC.1 hC.2.1 dJ14_numberOfTrailingZeros_71 (by decide) ?_
            refine lv_iushr (v := (nI 1)) hC.1 hC.2.1 dJ14_numberOfTrailingZeros_72 (by decide) ?_
            refine lv_istore_n (lv' := [(0, .int (nI 1)), (1, .int (nI ((1 + 8) + 2)))]) hC.1 hC.2.1 dJ14_numberOfTrailingZeros_73 rfl hl (by decide) rfl (fun ls hl => ?_)
            refine lv_iload_n hC.1 hC.2.1 dJ14_numberOfTrailingZeros_74 rfl (lv_at hl 1 rfl) ?_
            refine lv_iload_n hC.1 hC.2.1 dJ14_numberOfTrailingZeros_75 rfl (lv_at hl 0 rfl) ?_
            refine lv_iconst (v := (nI 1)) hC.1 hC.2.1 dJ14_numberOfTrailingZeros_76 (by decide) ?_
            refine lv_iushr (v := (nI 0)) hC.1 hC.2.1 dJ14_numberOfTrailingZeros_77 (by decide) ?_
            refine k_add hC dJ14_numberOfTrailingZeros_78 ?_
            exact pS_ret hC hlk hr (by decide) rfl dJ14_numberOfTrailingZeros_79
        · exact absurd c52 (by decide)
    · exact absurd c23 (by decide)
  · replace hl : lv_has ls 2 [(0, .int (nI 4095))] := hl
    refine lv_iload_n hC.1 hC.2.1 dJ14_numberOfTrailingZeros_8 rfl (lv_at hl 0 rfl) ?_
    refine lv_if_gt (tgt := 17) hC.1 hC.2.1 dJ14_numberOfTrailingZeros_9 (by decide) (fun c9 => ?_) (fun h => absurd h (by decide))
    refine lv_iconst (v := (nI 1)) hC.1 hC.2.1 dJ14_numberOfTrailingZeros_17 (by decide) ?_
    refine lv_istore_n (lv' := [(1, .int (nI 1)), (0, .int (nI 4095))]) hC.1 hC.2.1 dJ14_numberOfTrailingZeros_18 rfl hl (by decide) rfl (fun ls hl => ?_)
    refine lv_iload_n hC.1 hC.2.1 dJ14_numberOfTrailingZeros_19 rfl (lv_at hl 1 rfl) ?_
    refine lv_ldcw hC.1 hC.2.1 hC.2.2.2.1 (hC.2.2.2.2 _ q877) dJ14_numberOfTrailingZeros_20 ?_
    refine lv_icmp_le (tgt := 34) hC.1 hC.2.1 dJ14_numberOfTrailingZeros_23 (by decide) (fun c23 => ?_) (fun c23 => ?_)
    · refine lv_iload_n hC.1 hC.2.1 dJ14_numberOfTrailingZeros_34 rfl (lv_at hl 1 rfl) ?_
      refine lv_sipush (v := (nI 256)) hC.1 hC.2.1 dJ14_numberOfTrailingZeros_35 (by decide) ?_
      refine k_le (tgt := 49) hC (by decide) (by decide) dJ14_numberOfTrailingZeros_38 (by decide) (fun c38 => ?_) (fun c38 => ?_)
      · exact absurd c38 (by decide)
      · refine k_iinc (k := 0) (d := 8) (lv' := [(1, .int (nI (1 + 8))), (0, .int (nI 4095))]) hC dJ14_numberOfTrailingZeros_41 hl rfl (by decide) (by decide) rfl (fun ls hl => ?_)
        refine lv_iload_n hC.1 hC.2.1 dJ14_numberOfTrailingZeros_44 rfl (lv_at hl 1 rfl) ?_
        refine lv_bipush (v := (nI 8)) hC.1 hC.2.1 dJ14_numberOfTrailingZeros_45 (by decide) ?_
        refine lv_iushr (v := (nI 15)) hC.1 hC.2.1 dJ14_numberOfTrailingZeros_47 (by decide) ?_
        refine lv_istore_n (lv' := [(0, .int (nI 15)), (1, .int (nI (1 + 8)))]) hC.1 hC.2.1 dJ14_numberOfTrailingZeros_48 rfl hl (by decide) rfl (fun ls hl => ?_)
        refine lv_iload_n hC.1 hC.2.1 dJ14_numberOfTrailingZeros_49 rfl (lv_at hl 0 rfl) ?_
        refine lv_bipush (v := (nI 16)) hC.1 hC.2.1 dJ14_numberOfTrailingZeros_50 (by decide) ?_
        refine k_le (tgt := 62) hC (by decide) (by decide) dJ14_numberOfTrailingZeros_52 (by decide) (fun c52 => ?_) (fun c52 => ?_)
        · refine lv_iload_n hC.1 hC.2.1 dJ14_numberOfTrailingZeros_62 rfl (lv_at hl 0 rfl) ?_
          refine lv_iconst (v := (nI 4)) hC.1 hC.2.1 dJ14_numberOfTrailingZeros_63 (by decide) ?_
          refine k_le (tgt := 74) hC (by decide) (by decide) dJ14_numberOfTrailingZeros_64 (by decide) (fun c64 => ?_) (fun c64 => ?_)
          · exact absurd c64 (by decide)
          · refine k_iinc (k := 1) (d := 2) (lv' := [(1, .int (nI ((1 + 8) + 2))), (0, .int (nI 15))]) hC dJ14_numberOfTrailingZeros_67 hl rfl (by decide) (by decide) rfl (fun ls hl => ?_)
            refine lv_iload_n hC.1 hC.2.1 dJ14_numberOfTrailingZeros_70 rfl (lv_at hl 1 rfl) ?_
            refine lv_iconst (v := (nI 2)) hC.1 hC.2.1 dJ14_numberOfTrailingZeros_71 (by decide) ?_
            refine lv_iushr (v := (nI 3)) hC.1 hC.2.1 dJ14_numberOfTrailingZeros_72 (by decide) ?_
            refine lv_istore_n (lv' := [(0, .int (nI 3)), (1, .int (nI ((1 + 8) + 2)))]) hC.1 hC.2.1 dJ14_numberOfTrailingZeros_73 rfl hl (by decide) rfl (fun ls hl => ?_)
            refine lv_iload_n hC.1 hC.2.1 dJ14_numberOfTrailingZeros_74 rfl (lv_at hl 1 rfl) ?_
            refine lv_iload_n hC.1 hC.2.1 dJ14_numberOfTrailingZeros_75 rfl (lv_at hl 0 rfl) ?_
            refine lv_iconst (v := (nI 1)) hC.1 hC.2.1 dJ14_numberOfTrailingZeros_76 (by decide) ?_
            refine lv_iushr (v := (nI 1)) hC.1 hC.2.1 dJ14_numberOfTrailingZeros_77 (by decide) ?_
            refine k_add hC dJ14_numberOfTrailingZeros_78 ?_
            exact pS_ret hC hlk hr (by decide) rfl dJ14_numberOfTrailingZeros_79
        · exact absurd c52 (by decide)
    · exact absurd c23 (by decide)
  · replace hl : lv_has ls 2 [(0, .int (nI 8191))] := hl
    refine lv_iload_n hC.1 hC.2.1 dJ14_numberOfTrailingZeros_8 rfl (lv_at hl 0 rfl) ?_
    refine lv_if_gt (tgt := 17) hC.1 hC.2.1 dJ14_numberOfTrailingZeros_9 (by decide) (fun c9 => ?_) (fun h => absurd h (by decide))
    refine lv_iconst (v := (nI 1)) hC.1 hC.2.1 dJ14_numberOfTrailingZeros_17 (by decide) ?_
    refine lv_istore_n (lv' := [(1, .int (nI 1)), (0, .int (nI 8191))]) hC.1 hC.2.1 dJ14_numberOfTrailingZeros_18 rfl hl (by decide) rfl (fun ls hl => ?_)
    refine lv_iload_n hC.1 hC.2.1 dJ14_numberOfTrailingZeros_19 rfl (lv_at hl 1 rfl) ?_
    refine lv_ldcw hC.1 hC.2.1 hC.2.2.2.1 (hC.2.2.2.2 _ q877) dJ14_numberOfTrailingZeros_20 ?_
    refine lv_icmp_le (tgt := 34) hC.1 hC.2.1 dJ14_numberOfTrailingZeros_23 (by decide) (fun c23 => ?_) (fun c23 => ?_)
    · refine lv_iload_n hC.1 hC.2.1 dJ14_numberOfTrailingZeros_34 rfl (lv_at hl 1 rfl) ?_
      refine lv_sipush (v := (nI 256)) hC.1 hC.2.1 dJ14_numberOfTrailingZeros_35 (by decide) ?_
      refine k_le (tgt := 49) hC (by decide) (by decide) dJ14_numberOfTrailingZeros_38 (by decide) (fun c38 => ?_) (fun c38 => ?_)
      · exact absurd c38 (by decide)
      · refine k_iinc (k := 0) (d := 8) (lv' := [(1, .int (nI (1 + 8))), (0, .int (nI 8191))]) hC dJ14_numberOfTrailingZeros_41 hl rfl (by decide) (by decide) rfl (fun ls hl => ?_)
        refine lv_iload_n hC.1 hC.2.1 dJ14_numberOfTrailingZeros_44 rfl (lv_at hl 1 rfl) ?_
        refine lv_bipush (v := (nI 8)) hC.1 hC.2.1 dJ14_numberOfTrailingZeros_45 (by decide) ?_
        refine lv_iushr (v := (nI 31)) hC.1 hC.2.1 dJ14_numberOfTrailingZeros_47 (by decide) ?_
        refine lv_istore_n (lv' := [(0, .int (nI 31)), (1, .int (nI (1 + 8)))]) hC.1 hC.2.1 dJ14_numberOfTrailingZeros_48 rfl hl (by decide) rfl (fun ls hl => ?_)
        refine lv_iload_n hC.1 hC.2.1 dJ14_numberOfTrailingZeros_49 rfl (lv_at hl 0 rfl) ?_
        refine lv_bipush (v := (nI 16)) hC.1 hC.2.1 dJ14_numberOfTrailingZeros_50 (by decide) ?_
        refine k_le (tgt := 62) hC (by decide) (by decide) dJ14_numberOfTrailingZeros_52 (by decide) (fun c52 => ?_) (fun c52 => ?_)
        · exact absurd c52 (by decide)
        · refine k_iinc (k := 1) (d := 4) (lv' := [(1, .int (nI ((1 + 8) + 4))), (0, .int (nI 31))]) hC dJ14_numberOfTrailingZeros_55 hl rfl (by decide) (by decide) rfl (fun ls hl => ?_)
          refine lv_iload_n hC.1 hC.2.1 dJ14_numberOfTrailingZeros_58 rfl (lv_at hl 1 rfl) ?_
          refine lv_iconst (v := (nI 4)) hC.1 hC.2.1 dJ14_numberOfTrailingZeros_59 (by decide) ?_
          refine lv_iushr (v := (nI 1)) hC.1 hC.2.1 dJ14_numberOfTrailingZeros_60 (by decide) ?_
          refine lv_istore_n (lv' := [(0, .int (nI 1)), (1, .int (nI ((1 + 8) + 4)))]) hC.1 hC.2.1 dJ14_numberOfTrailingZeros_61 rfl hl (by decide) rfl (fun ls hl => ?_)
          refine lv_iload_n hC.1 hC.2.1 dJ14_numberOfTrailingZeros_62 rfl (lv_at hl 0 rfl) ?_
          refine lv_iconst (v := (nI 4)) hC.1 hC.2.1 dJ14_numberOfTrailingZeros_63 (by decide) ?_
          refine k_le (tgt := 74) hC (by decide) (by decide) dJ14_numberOfTrailingZeros_64 (by decide) (fun c64 => ?_) (fun c64 => ?_)
          · refine lv_iload_n hC.1 hC.2.1 dJ14_numberOfTrailingZeros_74 rfl (lv_at hl 1 rfl) ?_
            refine lv_iload_n hC.1 hC.2.1 dJ14_numberOfTrailingZeros_75 rfl (lv_at hl 0 rfl) ?_
            refine lv_iconst (v := (nI 1)) hC.1 hC.2.1 dJ14_numberOfTrailingZeros_76 (by decide) ?_
            refine lv_iushr (v := (nI 0)) hC.1 hC.2.1 dJ14_numberOfTrailingZeros_77 (by decide) ?_
            refine k_add hC dJ14_numberOfTrailingZeros_78 ?_
            exact pS_ret hC hlk hr (by decide) rfl dJ14_numberOfTrailingZeros_79
          · exact absurd c64 (by decide)
    · exact absurd c23 (by decide)
  · replace hl : lv_has ls 2 [(0, .int (nI 16383))] := hl
    refine lv_iload_n hC.1 hC.2.1 dJ14_numberOfTrailingZeros_8 rfl (lv_at hl 0 rfl) ?_
    refine lv_if_gt (tgt := 17) hC.1 hC.2.1 dJ14_numberOfTrailingZeros_9 (by decide) (fun c9 => ?_) (fun h => absurd h (by decide))
    refine lv_iconst (v := (nI 1)) hC.1 hC.2.1 dJ14_numberOfTrailingZeros_17 (by decide) ?_
    refine lv_istore_n (lv' := [(1, .int (nI 1)), (0, .int (nI 16383))]) hC.1 hC.2.1 dJ14_numberOfTrailingZeros_18 rfl hl (by decide) rfl (fun ls hl => ?_)
    refine lv_iload_n hC.1 hC.2.1 dJ14_numberOfTrailingZeros_19 rfl (lv_at hl 1 rfl) ?_
    refine lv_ldcw hC.1 hC.2.1 hC.2.2.2.1 (hC.2.2.2.2 _ q877) dJ14_numberOfTrailingZeros_20 ?_
    refine lv_icmp_le (tgt := 34) hC.1 hC.2.1 dJ14_numberOfTrailingZeros_23 (by decide) (fun c23 => ?_) (fun c23 => ?_)
    · refine lv_iload_n hC.1 hC.2.1 dJ14_numberOfTrailingZeros_34 rfl (lv_at hl 1 rfl) ?_
      refine lv_sipush (v := (nI 256)) hC.1 hC.2.1 dJ14_numberOfTrailingZeros_35 (by decide) ?_
      refine k_le (tgt := 49) hC (by decide) (by decide) dJ14_numberOfTrailingZeros_38 (by decide) (fun c38 => ?_) (fun c38 => ?_)
      · exact absurd c38 (by decide)
      · refine k_iinc (k := 0) (d := 8) (lv' := [(1, .int (nI (1 + 8))), (0, .int (nI 16383))]) hC dJ14_numberOfTrailingZeros_41 hl rfl (by decide) (by decide) rfl (fun ls hl => ?_)
        refine lv_iload_n hC.1 hC.2.1 dJ14_numberOfTrailingZeros_44 rfl (lv_at hl 1 rfl) ?_
        refine lv_bipush (v := (nI 8)) hC.1 hC.2.1 dJ14_numberOfTrailingZeros_45 (by decide) ?_
        refine lv_iushr (v := (nI 63)) hC.1 hC.2.1 dJ14_numberOfTrailingZeros_47 (by decide) ?_
        refine lv_istore_n (lv' := [(0, .int (nI 63)), (1, .int (nI (1 + 8)))]) hC.1 hC.2.1 dJ14_numberOfTrailingZeros_48 rfl hl (by decide) rfl (fun ls hl => ?_)
        refine lv_iload_n hC.1 hC.2.1 dJ14_numberOfTrailingZeros_49 rfl (lv_at hl 0 rfl) ?_
        refine lv_bipush (v := (nI 16)) hC.1 hC.2.1 dJ14_numberOfTrailingZeros_50 (by decide) ?_
        refine k_le (tgt := 62) hC (by decide) (by decide) dJ14_numberOfTrailingZeros_52 (by decide) (fun c52 => ?_) (fun c52 => ?_)
        · exact absurd c52 (by decide)
        · refine k_iinc (k := 1) (d := 4) (lv' := [(1, .int (nI ((1 + 8) + 4))), (0, .int (nI 63))]) hC dJ14_numberOfTrailingZeros_55 hl rfl (by decide) (by decide) rfl (fun ls hl => ?_)
          refine lv_iload_n hC.1 hC.2.1 dJ14_numberOfTrailingZeros_58 rfl (lv_at hl 1 rfl) ?_
          refine lv_iconst (v := (nI 4)) hC.1 hC.2.1 dJ14_numberOfTrailingZeros_59 (by decide) ?_
          refine lv_iushr (v := (nI 3)) hC.1 hC.2.1 dJ14_numberOfTrailingZeros_60 (by decide) ?_
          refine lv_istore_n (lv' := [(0, .int (nI 3)), (1, .int (nI ((1 + 8) + 4)))]) hC.1 hC.2.1 dJ14_numberOfTrailingZeros_61 rfl hl (by decide) rfl (fun ls hl => ?_)
          refine lv_iload_n hC.1 hC.2.1 dJ14_numberOfTrailingZeros_62 rfl (lv_at hl 0 rfl) ?_
          refine lv_iconst (v := (nI 4)) hC.1 hC.2.1 dJ14_numberOfTrailingZeros_63 (by decide) ?_
          refine k_le (tgt := 74) hC (by decide) (by decide) dJ14_numberOfTrailingZeros_64 (by decide) (fun c64 => ?_) (fun c64 => ?_)
          · refine lv_iload_n hC.1 hC.2.1 dJ14_numberOfTrailingZeros_74 rfl (lv_at hl 1 rfl) ?_
            refine lv_iload_n hC.1 hC.2.1 dJ14_numberOfTrailingZeros_75 rfl (lv_at hl 0 rfl) ?_
            refine lv_iconst (v := (nI 1)) hC.1 hC.2.1 dJ14_numberOfTrailingZeros_76 (by decide) ?_
            refine lv_iushr (v := (nI 1)) hC.1 hC.2.1 dJ14_numberOfTrailingZeros_77 (by decide) ?_
            refine k_add hC dJ14_numberOfTrailingZeros_78 ?_
            exact pS_ret hC hlk hr (by decide) rfl dJ14_numberOfTrailingZeros_79
          · exact absurd c64 (by decide)
    · exact absurd c23 (by decide)
  · replace hl : lv_has ls 2 [(0, .int (nI 32767))] := hl
    refine lv_iload_n hC.1 hC.2.1 dJ14_numberOfTrailingZeros_8 rfl (lv_at hl 0 rfl) ?_
    refine lv_if_gt (tgt := 17) hC.1 hC.2.1 dJ14_numberOfTrailingZeros_9 (by decide) (fun c9 => ?_) (fun h => absurd h (by decide))
    refine lv_iconst (v := (nI 1)) hC.1 hC.2.1 dJ14_numberOfTrailingZeros_17 (by decide) ?_
    refine lv_istore_n (lv' := [(1, .int (nI 1)), (0, .int (nI 32767))]) hC.1 hC.2.1 dJ14_numberOfTrailingZeros_18 rfl hl (by decide) rfl (fun ls hl => ?_)
    refine lv_iload_n hC.1 hC.2.1 dJ14_numberOfTrailingZeros_19 rfl (lv_at hl 1 rfl) ?_
    refine lv_ldcw hC.1 hC.2.1 hC.2.2.2.1 (hC.2.2.2.2 _ q877) dJ14_numberOfTrailingZeros_20 ?_
    refine lv_icmp_le (tgt := 34) hC.1 hC.2.1 dJ14_numberOfTrailingZeros_23 (by decide) (fun c23 => ?_) (fun c23 => ?_)
    · refine lv_iload_n hC.1 hC.2.1 dJ14_numberOfTrailingZeros_34 rfl (lv_at hl 1 rfl) ?_
      refine lv_sipush (v := (nI 256)) hC.1 hC.2.1 dJ14_numberOfTrailingZeros_35 (by decide) ?_
      refine k_le (tgt := 49) hC (by decide) (by decide) dJ14_numberOfTrailingZeros_38 (by decide) (fun c38 => ?_) (fun c38 => ?_)
      · exact absurd c38 (by decide)
      · refine k_iinc (k := 0) (d := 8) (lv' := [(1, .int (nI (1 + 8))), (0, .int (nI 32767))]) hC dJ14_numberOfTrailingZeros_41 hl rfl (by decide) (by decide) rfl (fun ls hl => ?_)
        refine lv_iload_n hC.1 hC.2.1 dJ14_numberOfTrailingZeros_44 rfl (lv_at hl 1 rfl) ?_
        refine lv_bipush (v := (nI 8)) hC.1 hC.2.1 dJ14_numberOfTrailingZeros_45 (by decide) ?_
        refine lv_iushr (v := (nI 127)) hC.1 hC.2.1 dJ14_numberOfTrailingZeros_47 (by decide) ?_
        refine lv_istore_n (lv' := [(0, .int (nI 127)), (1, .int (nI (1 + 8)))]) hC.1 hC.2.1 dJ14_numberOfTrailingZeros_48 rfl hl (by decide) rfl (fun ls hl => ?_)
        refine lv_iload_n hC.1 hC.2.1 dJ14_numberOfTrailingZeros_49 rfl (lv_at hl 0 rfl) ?_
        refine lv_bipush (v := (nI 16)) hC.1 hC.2.1 dJ14_numberOfTrailingZeros_50 (by decide) ?_
        refine k_le (tgt := 62) hC (by decide) (by decide) dJ14_numberOfTrailingZeros_52 (by decide) (fun c52 => ?_) (fun c52 => ?_)
        · exact absurd c52 (by decide)
        · refine k_iinc (k := 1) (d := 4) (lv' := [(1, .int (nI ((1 + 8) + 4))), (0, .int (nI 127))]) hC dJ14_numberOfTrailingZeros_55 hl rfl (by decide) (by decide) rfl (fun ls hl => ?_)
          refine lv_iload_n hC.1 hC.2.1 dJ14_numberOfTrailingZeros_58 rfl (lv_at hl 1 rfl) ?_
          refine lv_iconst (v := (nI 4)) hC.1 hC.2.1 dJ14_numberOfTrailingZeros_59 (by decide) ?_
          refine lv_iushr (v := (nI 7)) hC.1 hC.2.1 dJ14_numberOfTrailingZeros_60 (by decide) ?_
          refine lv_istore_n (lv' := [(0, .int (nI 7)), (1, .int (nI ((1 + 8) + 4)))]) hC.1 hC.2.1 dJ14_numberOfTrailingZeros_61 rfl hl (by decide) rfl (fun ls hl => ?_)
          refine lv_iload_n hC.1 hC.2.1 dJ14_numberOfTrailingZeros_62 rfl (lv_at hl 0 rfl) ?_
          refine lv_iconst (v := (nI 4)) hC.1 hC.2.1 dJ14_numberOfTrailingZeros_63 (by decide) ?_
          refine k_le (tgt := 74) hC (by decide) (by decide) dJ14_numberOfTrailingZeros_64 (by decide) (fun c64 => ?_) (fun c64 => ?_)
          · exact absurd c64 (by decide)
          · refine k_iinc (k := 1) (d := 2) (lv' := [(1, .int (nI (((1 + 8) + 4) + 2))), (0, .int (nI 7))]) hC dJ14_numberOfTrailingZeros_67 hl rfl (by decide) (by decide) rfl (fun ls hl => ?_)
            refine lv_iload_n hC.1 hC.2.1 dJ14_numberOfTrailingZeros_70 rfl (lv_at hl 1 rfl) ?_
            refine lv_iconst (v := (nI 2)) hC.1 hC.2.1 dJ14_numberOfTrailingZeros_71 (by decide) ?_
            refine lv_iushr (v := (nI 1)) hC.1 hC.2.1 dJ14_numberOfTrailingZeros_72 (by decide) ?_
            refine lv_istore_n (lv' := [(0, .int (nI 1)), (1, .int (nI (((1 + 8) + 4) + 2)))]) hC.1 hC.2.1 dJ14_numberOfTrailingZeros_73 rfl hl (by decide) rfl (fun ls hl => ?_)
            refine lv_iload_n hC.1 hC.2.1 dJ14_numberOfTrailingZeros_74 rfl (lv_at hl 1 rfl) ?_
            refine lv_iload_n hC.1 hC.2.1 dJ14_numberOfTrailingZeros_75 rfl (lv_at hl 0 rfl) ?_
            refine lv_iconst (v := (nI 1)) hC.1 hC.2.1 dJ14_numberOfTrailingZeros_76 (by decide) ?_
            refine lv_iushr (v := (nI 0)) hC.1 hC.2.1 dJ14_numberOfTrailingZeros_77 (by decide) ?_
            refine k_add hC dJ14_numberOfTrailingZeros_78 ?_
            exact pS_ret hC hlk hr (by decide) rfl dJ14_numberOfTrailingZeros_79
    · exact absurd c23 (by decide)

set_option maxHeartbeats 800000 in
theorem tX0_breaks (l : Launch) (N : Nat) (ad : Nat → Nat) (K : gK) (I : mG) (R : gR) (what : Int32) (G : mG) (b : Bool) (h0 : wB N K I R (G 6) b) (h1 : G 0 4 = bI b) : gA l yX0_breaks (ws_ yX0_breaks cX0_breaks 5 (some FieldType.int)) ({ frames := 5, cells := 0, slots := 0, locals := 113 } : Room) [.ref (ad 0), .int what] N ad K I R (fun v S => v = some (.int (mX6_breaks G what).1) ∧ pOff 17 I S.1 R S.2) := by
  refine gM.of (by decide) (Nat.le_of_ble_eq_true rfl) ?_
  intro D dA p e s m args below meth cd ls hC hlk hr hin hK hX hl hw
  have hl : lv_has ls 5 [(0, .ref (ad 0)), (1, .int what)] := hl
  have hge := h0.ge
  obtain ⟨h, hh, eh⟩ := h0.hr
  refine lv_aload_n hC.1 hC.2.1 dX0_breaks_0 rfl (lv_at hl 0 rfl) ?_
  refine x_ga hC hK hw (by omega) h0.k0 4 11 h0.r4 (by decide) rfl q206 rfl dX0_breaks_1 ?_
  refine p_gi hC hK hw h0.ps.1 0 (by decide) rfl q124 rfl (v := (bI b)) (h0.told) dX0_breaks_4 ?_
  refine k_bne (tgt := 13) hC dX0_breaks_7 (by decide) (fun c7 => ?_) (fun c7 => ?_)
  · refine lv_iload_n hC.1 hC.2.1 dX0_breaks_13 rfl (lv_at hl 1 rfl) ?_
    refine pS_call (n := 1) hC hl.1 (tX0_isHalf l what ) (lw_S q847 q848 q60 q849) rfl rfl (by decide +kernel) ⟨by decide, by decide⟩ rfl rfl (Nat.le_of_ble_eq_true rfl) dX0_breaks_14 ⟨Nat.zero_le _, Nat.zero_le _⟩ ?_
    refine k_bne (tgt := 23) hC dX0_breaks_17 (by decide) (fun c17 => ?_) (fun c17 => ?_)
    · refine lv_aload_n hC.1 hC.2.1 dX0_breaks_23 rfl (lv_at hl 0 rfl) ?_
      refine M_V (n := 0) (C := RX0) (T := TX0) hC hl.1 hK hX hw (by omega) h0.k0 (by decide) rfl (tX0_asNow l N ad K I R (G 6) b (h0)) (lw_V q836 q838 qs19 q60 q839) (by decide +kernel) ⟨by decide, by decide⟩ rfl rfl (Nat.le_of_ble_eq_true rfl) dX0_breaks_24 ⟨by simp only [gN]; omega, by simp only [gN]; omega⟩ ?_
      rintro _ N2 ad2 K2 I24 R24 H locs ⟨I3, R3, e3, rfl, b24, o24⟩ hg hw
      cases e3
      dsimp only at b24 o24
      have w24 := (h0).off o24
      refine lv_astore_n (lv' := [(2, .ref (ad 17)), (0, .ref (ad 0)), (1, .int what)]) hC.1 hC.2.1 dX0_breaks_27 rfl hl (by decide) rfl (fun ls hl => ?_)
      refine lv_iconst (v := (nI 1)) hC.1 hC.2.1 dX0_breaks_28 (by decide) ?_
      refine lv_istore_n (lv' := [(3, .int (nI 1)), (2, .ref (ad 17)), (0, .ref (ad 0)), (1, .int what)]) hC.1 hC.2.1 dX0_breaks_29 rfl hl (by decide) rfl (fun ls hl => ?_)
      refine W.loop (fun ls n H locs => ∃ Ix Rx, lv_has ls 5 [(0, .ref (ad 0)), (1, .int what), (2, .ref (ad 17)), (3, .int (nI (n + 1)))] ∧ gw D dA (nA (List.range N) ad s.heap.size) s.heap (List.range N) ad K Ix Rx H locs ∧ (pOff 17 I Ix R Rx) ∧ (psR (List.range N) K Ix Rx 17 (stN (G 6) n)) ∧ (n ≤ 40) ∧ (brR (G 6) = brL (G 6) (40 - n) n (nI 0))) 30 (fun _ => []) (fun n => 40 - n) ?_ 0 ⟨_, _, hl.sub' [2, 3, 1, 0] (by rfl), hw, o24, b24, by omega, brR_eq _⟩
      rintro ls n H locs ⟨Ix, Rx, hl, hw, ox, bx, hn, hE⟩ ih30
      have wx := h0.off ox
      refine lv_iload_n hC.1 hC.2.1 dX0_breaks_30 rfl (lv_at hl 3 rfl) ?_
      refine lv_bipush (v := (nI 40)) hC.1 hC.2.1 dX0_breaks_31 (by decide) ?_
      refine k_gt (tgt := 67) hC (by omega) (by omega) dX0_breaks_33 (by decide) (fun c33 => ?_) (fun c33 => ?_)
      · refine lv_ldc hC.1 hC.2.1 hC.2.2.2.1 (hC.2.2.2.2 _ q841) dX0_breaks_67 ?_
        exact M_iret hC hlk hw gGo.rf ⟨by simp only [gN]; omega, by simp only [gN]; omega⟩ hr rfl (⟨_, _, rfl, congrArg (fun z => some (Value.int z)) (by rw [(show (mX6_breaks G what).1 = brV (G 6) what from by simp [mX6_breaks, h1, bI_t0, c7, c17])]; unfold brV; rw [brL_end hE (by omega)]; dsimp only; rw [nI_0, lowG_0, if_neg (by decide)]), ox⟩) dX0_breaks_69
      · refine lv_aload_n hC.1 hC.2.1 dX0_breaks_36 rfl (lv_at hl 2 rfl) ?_
        refine g_calli (n := 0) (C := RX2) (T := TX2) hC hl.1 hK hX hw (bx.1).1.1 (bx.1).2.1.1 (by decide) rfl (tX2_goOn l (List.range N) ad K Ix Rx 17 (stN (G 6) n) (h + n) (bx) (stN_hr eh n) (by omega)) (lw_V q763 q764 q765 q62 q766) rfl rfl (by decide +kernel) ⟨by decide, by decide⟩ rfl rfl (Nat.le_of_ble_eq_true rfl) dX0_breaks_37 ⟨Nat.zero_le _, Nat.zero_le _⟩ ?_
        rintro r37 I37 R37 H locs ⟨e37, b37, q37, t37⟩ hw
        dsimp only at b37 q37 t37
        have w37 := (wx).off q37
        refine lv_istore (lv' := [(4, .int r37), (0, .ref (ad 0)), (1, .int what), (2, .ref (ad 17)), (3, .int (nI (n + 1)))]) hC.1 hC.2.1 dX0_breaks_40 hl (by decide) rfl (fun ls hl => ?_)
        refine lv_iload hC.1 hC.2.1 dX0_breaks_42 (lv_at hl 0 rfl) ?_
        refine lv_if_eq (tgt := 61) hC.1 hC.2.1 dX0_breaks_44 (by decide) (fun c44 => ?_) (fun c44 => ?_)
        · refine k_iinc (k := 4) (d := 1) (lv' := [(3, .int (nI ((n + 1) + 1))), (4, .int r37), (0, .ref (ad 0)), (1, .int what), (2, .ref (ad 17))]) hC dX0_breaks_61 hl rfl (by decide) (by decide) rfl (fun ls hl => ?_)
          refine lv_goto (tgt := 30) hC.1 hC.2.1 dX0_breaks_64 (by decide) ?_
          exact ih30 ls (n + 1) H locs ⟨_, _, hl.sub' [2, 3, 4, 0] (by rfl), hw, ox.tr q37, by rw [← stN_s]; exact b37, by omega, by rw [brL_next hE (by omega) nI_0, ← e37, c44, nI_0]⟩ (by omega)
        · rw [e37] at c44
          obtain ⟨p0, hp0, l1, l2, l3⟩ := hourB_low c44
          have hX : brR (G 6) = (n + 1, hourB (stN (G 6) n)) := by rcases Nat.lt_or_ge (n + 1) 40 with z | z; exact brL_hit (brL_next hE (by omega) nI_0) z c44; exact brL_end (brL_next hE (by omega) nI_0) z
          refine lv_iload_n hC.1 hC.2.1 dX0_breaks_47 rfl (lv_at hl 2 rfl) ?_
          refine lv_if_ne (tgt := 55) hC.1 hC.2.1 dX0_breaks_48 (by decide) (fun c48 => ?_) (fun c48 => ?_)
          · refine lv_iload hC.1 hC.2.1 dX0_breaks_55 (lv_at hl 0 rfl) ?_
            refine pS_call (n := 1) hC hl.1 (tJ14_numberOfTrailingZeros l r37 p0 hp0 (by rw [e37]; exact l1)) (lw_S q874 q875 q88 q876) rfl rfl (by decide +kernel) ⟨by decide, by decide⟩ rfl rfl (Nat.le_of_ble_eq_true rfl) dX0_breaks_57 ⟨Nat.zero_le _, Nat.zero_le _⟩ ?_
            exact M_iret hC hlk hw gGo.rf ⟨by simp only [gN]; omega, by simp only [gN]; omega⟩ hr rfl (⟨_, _, rfl, congrArg (fun z => some (Value.int z)) (by rw [(show (mX6_breaks G what).1 = brV (G 6) what from by simp [mX6_breaks, h1, bI_t0, c7, c17])]; unfold brV; rw [hX]; dsimp only; rw [lowG_at hp0 l2 l3 16 (by decide) (by omega), if_pos (nI_pos' (by omega)), if_pos c48]), (ox.tr q37)⟩) dX0_breaks_60
          · refine lv_iload_n hC.1 hC.2.1 dX0_breaks_51 rfl (lv_at hl 4 rfl) ?_
            refine lv_goto (tgt := 60) hC.1 hC.2.1 dX0_breaks_52 (by decide) ?_
            exact M_iret hC hlk hw gGo.rf ⟨by simp only [gN]; omega, by simp only [gN]; omega⟩ hr rfl (⟨_, _, rfl, congrArg (fun z => some (Value.int z)) (by rw [(show (mX6_breaks G what).1 = brV (G 6) what from by simp [mX6_breaks, h1, bI_t0, c7, c17])]; unfold brV; rw [hX]; dsimp only; rw [lowG_at hp0 l2 l3 16 (by decide) (by omega), if_pos (nI_pos' (by omega)), if_neg (not_not_intro c48)]), (ox.tr q37)⟩) dX0_breaks_60
    · refine lv_ldc hC.1 hC.2.1 hC.2.2.2.1 (hC.2.2.2.2 _ q337) dX0_breaks_20 ?_
      exact M_iret hC hlk hw gGo.rf ⟨by simp only [gN]; omega, by simp only [gN]; omega⟩ hr rfl (⟨_, _, rfl, congrArg (fun z => some (Value.int z)) (by simp [mX6_breaks, h1, bI_t0, bI_f0, inc01, inc11, inc03, inc13, inc23, inc10, inc20, inc21, c7, c17]), pOff.rf⟩) dX0_breaks_22
  · refine lv_ldc hC.1 hC.2.1 hC.2.2.2.1 (hC.2.2.2.2 _ q703) dX0_breaks_10 ?_
    exact M_iret hC hlk hw gGo.rf ⟨by simp only [gN]; omega, by simp only [gN]; omega⟩ hr rfl (⟨_, _, rfl, congrArg (fun z => some (Value.int z)) (by simp [mX6_breaks, h1, bI_t0, bI_f0, inc01, inc11, inc03, inc13, inc23, inc10, inc20, inc21, c7]), pOff.rf⟩) dX0_breaks_12
