/-! ===== the component's world: a graph of named cells.  K n: the kind and the length of the cell n (0 .. 10 an object of that class, 20 ints, 21 bytes, 22 shorts, 30 shelves, 31 passes, 32 works), I n i its numbers, R n i the names that its references lead to ===== -/
/-- of a fault its own two fields alone -/
def TXf : u_T := fun k => match k with
  | 0 => ("WindCarver$Fault", "kind", "I", true)
  | _ => ("WindCarver$Fault", "place", "I", true)
abbrev cCl : List vw_C := [(RX0, TX0, 12), (RX1, TX1, 1), (RX2, TX2, 9), (RX3, TX3, 2), (RX5, TX5, 2), (RX9, TX9, 2), (RX10, TX10, 2), (RX11, TX11, 2), (RX12, TX12, 2), (RX13, TX13, 2), (RX7, TX7, 7), (RX8, TXf, 2)]
abbrev gK : Type := Nat → Nat × Nat
abbrev gR : Type := Nat → Nat → Option Nat
def gN (c : Nat) : Nat := match c with
  | 0 => 12 | 1 => 1 | 2 => 9 | 3 => 2 | 4 => 2 | 5 => 2 | 6 => 2 | 7 => 2 | 8 => 2 | 9 => 2 | 10 => 7 | 11 => 2
  | _ => 0
/-- which fields are references -/
def gRef (c k : Nat) : Bool := match c, k with
  | 0, 0 | 0, 1 | 0, 4 | 0, 5 | 0, 6 | 0, 8 | 0, 9 | 0, 11 => true
  | 1, 0 => true
  | 2, 2 | 2, 3 | 2, 4 | 2, 6 | 2, 7 => true
  | 3, 0 => true
  | 9, 1 => true
  | 10, 0 | 10, 6 => true
  | _, _ => false
def gfv (c : Nat) (I : Nat → Int32) (R : Nat → Option Nat) (ad : Nat → Nat) (k : Nat) : Value := if gRef c k then va_rf ((R k).map ad) else .int (I k)
def gF (c : Nat) (I : Nat → Int32) (R : Nat → Option Nat) (ad : Nat → Nat) : List Value := (List.range (gN c)).map (gfv c I R ad)
def gE (dA : Nat → ClassId) (kd : Nat × Nat) (I : Nat → Int32) (R : Nat → Option Nat) (ad : Nat → Nat) : va_E :=
  if kd.1 < 20 then .inr (kd.1, gF kd.1 I R ad) else if kd.1 < 30 then .inl (dA (kd.1 - 20), kd.2, .inl I) else .inl (dA (kd.1 - 27), kd.2, .inr (.inr (.inr (.inr (fun i => (R i).map ad)))))
abbrev cTy (dA : Nat → ClassId) : List (ClassId × FieldType) := [(dA 0, .int), (dA 1, .byte), (dA 2, .short), (dA 3, .object RX1), (dA 4, .object RX2), (dA 5, .object RX4)]
abbrev gCt (dA : Nat → ClassId) (K : gK) (I : mG) (R : gR) (ad : Nat → Nat) : Nat → va_E := fun n => gE dA (K n) (I n) (R n) ad
/-- references lead to cells of the world -/
def gCl (dom : List Nat) (R : gR) : Prop := ∀ n i j, n ∈ dom → R n i = some j → j ∈ dom
def gw (D : va_G) (dA : Nat → ClassId) (A : Nat → Prop) (H0 : Heap) (dom : List Nat) (ad : Nat → Nat) (K : gK) (I : mG) (R : gR) (H : Heap) (locs : List Loc) : Prop := nw D cCl A H0 dom (gCt dA K I R ad) ad H locs ∧ gCl dom R
def r2 (R : gR) (a i : Nat) (x : Option Nat) : gR := va_up R a (va_up (R a) i x)
theorem gF_get {c : Nat} {I : Nat → Int32} {R : Nat → Option Nat} {ad : Nat → Nat} {k : Nat} (hk : k < gN c) : (gF c I R ad)[k]? = some (gfv c I R ad k) := by
  simp [gF, hk]
theorem gF_len {c : Nat} {I : Nat → Int32} {R : Nat → Option Nat} {ad : Nat → Nat} : (gF c I R ad).length = gN c := by simp [gF]
theorem gF_setI {c : Nat} {I : Nat → Int32} {R : Nat → Option Nat} {ad : Nat → Nat} {k : Nat} {x : Int32} (hk : k < gN c) (ha : gRef c k = false) : (gF c I R ad).set k (.int x) = gF c (upd I k x) R ad := by
  apply List.ext_getElem?
  intro j
  by_cases hj : j = k
  · subst hj
    rw [List.getElem?_set_self (by rw [gF_len]; exact hk), gF_get hk]
    simp [gfv, ha, upd]
  · rw [List.getElem?_set_ne (Ne.symm hj)]
    by_cases h2 : j < gN c
    · rw [gF_get h2, gF_get h2]
      simp [gfv, upd, hj]
    · simp [gF, h2]
theorem gF_setR {c : Nat} {I : Nat → Int32} {R : Nat → Option Nat} {ad : Nat → Nat} {k : Nat} {x : Option Nat} (hk : k < gN c) (ha : gRef c k = true) : (gF c I R ad).set k (va_rf (x.map ad)) = gF c I (va_up R k x) ad := by
  apply List.ext_getElem?
  intro j
  by_cases hj : j = k
  · subst hj
    rw [List.getElem?_set_self (by rw [gF_len]; exact hk), gF_get hk]
    simp [gfv, ha, va_up]
  · rw [List.getElem?_set_ne (Ne.symm hj)]
    by_cases h2 : j < gN c
    · rw [gF_get h2, gF_get h2]
      simp [gfv, va_up, hj]
    · simp [gF, h2]
theorem gE_o {dA : Nat → ClassId} {kd : Nat × Nat} {I : Nat → Int32} {R : Nat → Option Nat} {ad : Nat → Nat} {c : Nat} (h : kd.1 = c) (hc : c < 20) : gE dA kd I R ad = .inr (c, gF c I R ad) := by
  subst h
  exact if_pos hc
theorem gE_p {dA : Nat → ClassId} {kd : Nat × Nat} {I : Nat → Int32} {R : Nat → Option Nat} {ad : Nat → Nat} {t len : Nat} (h : kd = (20 + t, len)) (hc : t < 10) : gE dA kd I R ad = .inl (dA t, len, .inl I) := by
  subst h
  unfold gE
  rw [if_neg (by show ¬ 20 + t < 20; omega), if_pos (by show 20 + t < 30; omega)]
  show Sum.inl (dA (20 + t - 20), len, Sum.inl I) = _
  rw [show 20 + t - 20 = t by omega]
theorem gE_r {dA : Nat → ClassId} {kd : Nat × Nat} {I : Nat → Int32} {R : Nat → Option Nat} {ad : Nat → Nat} {t len : Nat} (h : kd = (30 + t, len)) : gE dA kd I R ad = .inl (dA (3 + t), len, .inr (.inr (.inr (.inr (fun i => (R i).map ad))))) := by
  subst h
  unfold gE
  rw [if_neg (by show ¬ 30 + t < 20; omega), if_neg (by show ¬ 30 + t < 30; omega)]
  show Sum.inl (dA (30 + t - 27), len, _) = _
  rw [show 30 + t - 27 = 3 + t by omega]
/-- one cell's numbers are changed -/
theorem gCt_I {dA : Nat → ClassId} {K : gK} {I : mG} {R : gR} {ad : Nat → Nat} {n : Nat} (I' : Nat → Int32) : va_up (gCt dA K I R ad) n (gE dA (K n) I' (R n) ad) = gCt dA K (va_up I n I') R ad := by
  funext q
  by_cases h : q = n
  · subst h
    rw [va_up_self]
    show _ = gE dA (K q) (va_up I q I' q) (R q) ad
    rw [va_up_self]
  · rw [va_up_ne _ _ h]
    show _ = gE dA (K q) (va_up I n I' q) (R q) ad
    rw [va_up_ne _ _ h]
theorem gCt_R {dA : Nat → ClassId} {K : gK} {I : mG} {R : gR} {ad : Nat → Nat} {n : Nat} (R' : Nat → Option Nat) : va_up (gCt dA K I R ad) n (gE dA (K n) (I n) R' ad) = gCt dA K I (va_up R n R') ad := by
  funext q
  by_cases h : q = n
  · subst h
    rw [va_up_self]
    show _ = gE dA (K q) (I q) (va_up R q R' q) ad
    rw [va_up_self]
  · rw [va_up_ne _ _ h]
    show _ = gE dA (K q) (I q) (va_up R n R' q) ad
    rw [va_up_ne _ _ h]
theorem gCl.set {dom : List Nat} {R : gR} (h : gCl dom R) {n i : Nat} {x : Option Nat} (hx : ∀ j, x = some j → j ∈ dom) : gCl dom (r2 R n i x) := by
  intro a b j ha hj
  unfold r2 at hj
  by_cases e : a = n
  · subst e
    rw [va_up_self] at hj
    by_cases e2 : b = i
    · subst e2
      rw [va_up_self] at hj
      exact hx j hj
    · rw [va_up_ne _ _ e2] at hj
      exact h a b j ha hj
  · rw [va_up_ne _ _ e] at hj
    exact h a b j ha hj
theorem gw.eq {D : va_G} {dA : Nat → ClassId} {A : Nat → Prop} {H0 : Heap} {dom : List Nat} {ad : Nat → Nat} {K : gK} {I I' : mG} {R R' : gR} {H : Heap} {locs : List Loc} (hw : gw D dA A H0 dom ad K I R H locs) (h : I = I') (h2 : R = R') : gw D dA A H0 dom ad K I' R' H locs := h ▸ h2 ▸ hw
theorem gw_I {D : va_G} {dA : Nat → ClassId} {A : Nat → Prop} {H0 : Heap} {dom : List Nat} {ad : Nat → Nat} {K : gK} {I : mG} {R : gR} {H H1 : Heap} {locs locs1 : List Loc} (hw : gw D dA A H0 dom ad K I R H locs) {n q0 : Nat} (hq : dom[q0]? = some n) {I' : Nat → Int32} {x : va_E} (hx : x = gE dA (K n) I' (R n) ad) (hP : va_P D cCl ((nL dom (gCt dA K I R ad) ad).set q0 (ad n, x)) H1) (hD : va_D A ((nL dom (gCt dA K I R ad) ad).set q0 (ad n, x))) (hS : va_S A H0 H1 locs1) : gw D dA A H0 dom ad K (va_up I n I') R H1 locs1 := by
  subst hx
  have e := nL_set (ct := gCt dA K I R ad) (ad := ad) hw.1.2.1 hq (gE dA (K n) I' (R n) ad)
  rw [gCt_I] at e
  refine ⟨⟨?_, ?_, hS, hw.1.2.2.2⟩, hw.2⟩
  · rw [← e]; exact hP
  · rw [← e]; exact hD
theorem gw_R {D : va_G} {dA : Nat → ClassId} {A : Nat → Prop} {H0 : Heap} {dom : List Nat} {ad : Nat → Nat} {K : gK} {I : mG} {R : gR} {H H1 : Heap} {locs locs1 : List Loc} (hw : gw D dA A H0 dom ad K I R H locs) {n q0 i : Nat} (hq : dom[q0]? = some n) {y : Option Nat} (hy : ∀ j, y = some j → j ∈ dom) {x : va_E} (hx : x = gE dA (K n) (I n) (va_up (R n) i y) ad) (hP : va_P D cCl ((nL dom (gCt dA K I R ad) ad).set q0 (ad n, x)) H1) (hD : va_D A ((nL dom (gCt dA K I R ad) ad).set q0 (ad n, x))) (hS : va_S A H0 H1 locs1) : gw D dA A H0 dom ad K I (r2 R n i y) H1 locs1 := by
  subst hx
  have e := nL_set (ct := gCt dA K I R ad) (ad := ad) hw.1.2.1 hq (gE dA (K n) (I n) (va_up (R n) i y) ad)
  rw [gCt_R] at e
  refine ⟨⟨?_, ?_, hS, hw.1.2.2.2⟩, hw.2.set hy⟩
  · show va_P D cCl (nL dom (gCt dA K I (va_up R n (va_up (R n) i y)) ad) ad) H1
    rw [← e]; exact hP
  · show va_D A (nL dom (gCt dA K I (va_up R n (va_up (R n) i y)) ad) ad)
    rw [← e]; exact hD
theorem map_up {R : Nat → Option Nat} {ad : Nat → Nat} {i : Nat} {y : Option Nat} : va_up (fun k => (R k).map ad) i (y.map ad) = fun k => (va_up R i y k).map ad := by
  funext k
  by_cases h : k = i
  · subst h; simp [va_up]
  · simp [va_up, h]
theorem nI_vin {i n : Nat} (hi : i < n) (h31 : i < 2 ^ 31) : vp_in (nI i) n := by
  rintro (q | q)
  · exact nI_pos h31 q
  · rw [nI_clamp h31] at q; omega
section GR
variable {p : Program} {l : Launch} {e : Env} {Rm : Room} {s : State} {m : MethodId} {args : Array Value} {below : List Frame} {meth : Method} {c : Code} {H : Heap} {locs : List Loc} {cells slots : Nat} {Q : State → Prop}
variable {cc : ByteArray} {nl pc : Nat} {ls : Array Slot} {rest : List Value} {D : va_G} {dA : Nat → ClassId} {A : Nat → Prop} {H0 : Heap} {dom : List Nat} {ad : Nat → Nat} {K : gK} {I : mG} {R : gR} {own ref C : String} {T : u_T}
/-- a field is read -/
theorem g_get (hC : CallFix p m c cc nl s args lw_all own) (hK : va_K D cCl (cTy dA) s) (hw : gw D dA A H0 dom ad K I R H locs) {n ci : Nat} (hn : n ∈ dom) (hk0 : (K n).1 = ci) (hc20 : ci < 20) (hc : cCl[ci]? = some (C, T, gN ci)) (hin : ∀ w ∈ u_ws C T (gN ci), w ∈ lw_all) (k : Nat) (hk : k < gN ci) {idx : Nat} (hl : Cond.fieldLink own idx ref (T k).2.1 (T k).2.2.1 ∈ lw_all) (hs : ∀ x, s.fieldFound? (T k).1 (T k).2.1 (T k).2.2.1 = some x → s.fieldFound? ref (T k).2.1 (T k).2.2.1 = some x) {v : Value} (hv : gfv ci (I n) (R n) ad k = v) (hdg : decode cc pc = .ok (.getfield idx, 3))
    (kk : W p l e Rm s m args below meth c H locs cells slots Q (F0 m (pc + 3) ls (v :: rest))) : W p l e Rm s m args below meth c H locs cells slots Q (F0 m pc ls (.ref (ad n) :: rest)) := by
  obtain ⟨hx, hb, -, ho, hts⟩ := hC
  obtain ⟨q0, -, hq⟩ := nL_get (gCt dA K I R ad) ad hn
  have e1 : gCt dA K I R ad n = .inr (ci, gF ci (I n) (R n) ad) := gE_o hk0 hc20
  rw [e1] at hq
  exact va_get (ci := ci) hx hb hts hin ho hK hw.1.1 q0 hq hc k hk (hts _ hl) hs (by rw [gF_get hk, hv]) hdg kk
theorem g_getN (hC : CallFix p m c cc nl s args lw_all own) (hK : va_K D cCl (cTy dA) s) (hw : gw D dA A H0 dom ad K I R H locs) {n ci : Nat} (hn : n ∈ dom) (hk0 : (K n).1 = ci) (hc20 : ci < 20) (hc : cCl[ci]? = some (C, T, gN ci)) (hin : ∀ w ∈ u_ws C T (gN ci), w ∈ lw_all) (k : Nat) (hk : k < gN ci) {idx : Nat} {host : String} (hl : Cond.fieldLinkNest own idx ref (T k).2.1 (T k).2.2.1 host ∈ lw_all) (hs : ∀ x, s.fieldFound? (T k).1 (T k).2.1 (T k).2.2.1 = some x → s.fieldFound? ref (T k).2.1 (T k).2.2.1 = some x) {v : Value} (hv : gfv ci (I n) (R n) ad k = v) (hdg : decode cc pc = .ok (.getfield idx, 3))
    (kk : W p l e Rm s m args below meth c H locs cells slots Q (F0 m (pc + 3) ls (v :: rest))) : W p l e Rm s m args below meth c H locs cells slots Q (F0 m pc ls (.ref (ad n) :: rest)) := by
  obtain ⟨hx, hb, -, ho, hts⟩ := hC
  obtain ⟨q0, -, hq⟩ := nL_get (gCt dA K I R ad) ad hn
  have e1 : gCt dA K I R ad n = .inr (ci, gF ci (I n) (R n) ad) := gE_o hk0 hc20
  rw [e1] at hq
  exact va_getN (ci := ci) hx hb hts hin ho hK hw.1.1 q0 hq hc k hk (hts _ hl) hs (by rw [gF_get hk, hv]) hdg kk
theorem g_puti (hC : CallFix p m c cc nl s args lw_all own) (hK : va_K D cCl (cTy dA) s) (hw : gw D dA A H0 dom ad K I R H locs) {n ci : Nat} (hn : n ∈ dom) (hk0 : (K n).1 = ci) (hc20 : ci < 20) (hc : cCl[ci]? = some (C, T, gN ci)) (hin : ∀ w ∈ u_ws C T (gN ci), w ∈ lw_all) (ty0 : Nat → FieldType) (hty : ∀ k, k < gN ci → parseFieldDescriptor (T k).2.2.1 = some (ty0 k)) (hnm : ∀ a, a < gN ci → ∀ b, b < gN ci → a ≠ b → (T a).2.1 ≠ (T b).2.1) (k : Nat) (hk : k < gN ci) (hr : gRef ci k = false) {idx : Nat} (hl : Cond.fieldLink own idx ref (T k).2.1 (T k).2.2.1 ∈ lw_all) (hs : ∀ x, s.fieldFound? (T k).1 (T k).2.1 (T k).2.2.1 = some x → s.fieldFound? ref (T k).2.1 (T k).2.2.1 = some x) (hfin : (T k).2.2.2 = false) {ty : FieldType} {x : Int32} (hd : parseFieldDescriptor (T k).2.2.1 = some ty) (hnr : narrow ty (.int x) = .int x) (hfit : fits ty (.int x) = true) (hdg : decode cc pc = .ok (.putfield idx, 3))
    (kk : ∀ (H1 : Heap) (locs1 : List Loc), gw D dA A H0 dom ad K (g2 I n k x) R H1 locs1 → W p l e Rm s m args below meth c H1 locs1 cells slots Q (F0 m (pc + 3) ls rest)) : W p l e Rm s m args below meth c H locs cells slots Q (F0 m pc ls (.int x :: .ref (ad n) :: rest)) := by
  obtain ⟨hx, hb, -, ho, hts⟩ := hC
  obtain ⟨q0, hq0, hq⟩ := nL_get (gCt dA K I R ad) ad hn
  have e1 : gCt dA K I R ad n = .inr (ci, gF ci (I n) (R n) ad) := gE_o hk0 hc20
  rw [e1] at hq
  refine va_put (ci := ci) hx hb hts hin ty0 hty hnm ho hK hw.1.1 hw.1.2.1 hw.1.2.2.1 q0 hq hc k hk (hts _ hl) hs hfin hd hnr hfit (by rw [gF_len]; exact hk) hdg (fun H1 locs1 hP hD hS => kk H1 locs1 ?_)
  exact gw_I hw hq0 (I' := upd (I n) k x) (by rw [gF_setI hk hr]; exact (gE_o hk0 hc20).symm) hP hD hS
theorem g_putr (hC : CallFix p m c cc nl s args lw_all own) (hK : va_K D cCl (cTy dA) s) (hw : gw D dA A H0 dom ad K I R H locs) {n ci : Nat} (hn : n ∈ dom) (hk0 : (K n).1 = ci) (hc20 : ci < 20) (hc : cCl[ci]? = some (C, T, gN ci)) (hin : ∀ w ∈ u_ws C T (gN ci), w ∈ lw_all) (ty0 : Nat → FieldType) (hty : ∀ k, k < gN ci → parseFieldDescriptor (T k).2.2.1 = some (ty0 k)) (hnm : ∀ a, a < gN ci → ∀ b, b < gN ci → a ≠ b → (T a).2.1 ≠ (T b).2.1) (k : Nat) (hk : k < gN ci) (hr : gRef ci k = true) {idx : Nat} (hl : Cond.fieldLink own idx ref (T k).2.1 (T k).2.2.1 ∈ lw_all) (hs : ∀ x, s.fieldFound? (T k).1 (T k).2.1 (T k).2.2.1 = some x → s.fieldFound? ref (T k).2.1 (T k).2.2.1 = some x) (hfin : (T k).2.2.2 = false) {ty : FieldType} {y : Option Nat} (hy : ∀ j, y = some j → j ∈ dom) {v : Value} (hv : va_rf (y.map ad) = v) (hd : parseFieldDescriptor (T k).2.2.1 = some ty) (hnr : narrow ty v = v) (hfit : fits ty v = true) (hdg : decode cc pc = .ok (.putfield idx, 3))
    (kk : ∀ (H1 : Heap) (locs1 : List Loc), gw D dA A H0 dom ad K I (r2 R n k y) H1 locs1 → W p l e Rm s m args below meth c H1 locs1 cells slots Q (F0 m (pc + 3) ls rest)) : W p l e Rm s m args below meth c H locs cells slots Q (F0 m pc ls (v :: .ref (ad n) :: rest)) := by
  obtain ⟨hx, hb, -, ho, hts⟩ := hC
  obtain ⟨q0, hq0, hq⟩ := nL_get (gCt dA K I R ad) ad hn
  have e1 : gCt dA K I R ad n = .inr (ci, gF ci (I n) (R n) ad) := gE_o hk0 hc20
  rw [e1] at hq
  refine va_put (ci := ci) hx hb hts hin ty0 hty hnm ho hK hw.1.1 hw.1.2.1 hw.1.2.2.1 q0 hq hc k hk (hts _ hl) hs hfin hd hnr hfit (by rw [gF_len]; exact hk) hdg (fun H1 locs1 hP hD hS => kk H1 locs1 ?_)
  exact gw_R hw hq0 hy (i := k) (by rw [← hv, gF_setR hk hr]; exact (gE_o hk0 hc20).symm) hP hD hS
theorem g_putiN (hC : CallFix p m c cc nl s args lw_all own) (hK : va_K D cCl (cTy dA) s) (hw : gw D dA A H0 dom ad K I R H locs) {n ci : Nat} (hn : n ∈ dom) (hk0 : (K n).1 = ci) (hc20 : ci < 20) (hc : cCl[ci]? = some (C, T, gN ci)) (hin : ∀ w ∈ u_ws C T (gN ci), w ∈ lw_all) (ty0 : Nat → FieldType) (hty : ∀ k, k < gN ci → parseFieldDescriptor (T k).2.2.1 = some (ty0 k)) (hnm : ∀ a, a < gN ci → ∀ b, b < gN ci → a ≠ b → (T a).2.1 ≠ (T b).2.1) (k : Nat) (hk : k < gN ci) (hr : gRef ci k = false) {idx : Nat} {host : String} (hl : Cond.fieldLinkNest own idx ref (T k).2.1 (T k).2.2.1 host ∈ lw_all) (hs : ∀ x, s.fieldFound? (T k).1 (T k).2.1 (T k).2.2.1 = some x → s.fieldFound? ref (T k).2.1 (T k).2.2.1 = some x) (hfin : (T k).2.2.2 = false) {ty : FieldType} {x : Int32} (hd : parseFieldDescriptor (T k).2.2.1 = some ty) (hnr : narrow ty (.int x) = .int x) (hfit : fits ty (.int x) = true) (hdg : decode cc pc = .ok (.putfield idx, 3))
    (kk : ∀ (H1 : Heap) (locs1 : List Loc), gw D dA A H0 dom ad K (g2 I n k x) R H1 locs1 → W p l e Rm s m args below meth c H1 locs1 cells slots Q (F0 m (pc + 3) ls rest)) : W p l e Rm s m args below meth c H locs cells slots Q (F0 m pc ls (.int x :: .ref (ad n) :: rest)) := by
  obtain ⟨hx, hb, -, ho, hts⟩ := hC
  obtain ⟨q0, hq0, hq⟩ := nL_get (gCt dA K I R ad) ad hn
  have e1 : gCt dA K I R ad n = .inr (ci, gF ci (I n) (R n) ad) := gE_o hk0 hc20
  rw [e1] at hq
  refine va_putN (ci := ci) hx hb hts hin ty0 hty hnm ho hK hw.1.1 hw.1.2.1 hw.1.2.2.1 q0 hq hc k hk (hts _ hl) hs hfin hd hnr hfit (by rw [gF_len]; exact hk) hdg (fun H1 locs1 hP hD hS => kk H1 locs1 ?_)
  exact gw_I hw hq0 (I' := upd (I n) k x) (by rw [gF_setI hk hr]; exact (gE_o hk0 hc20).symm) hP hD hS
theorem g_putrN (hC : CallFix p m c cc nl s args lw_all own) (hK : va_K D cCl (cTy dA) s) (hw : gw D dA A H0 dom ad K I R H locs) {n ci : Nat} (hn : n ∈ dom) (hk0 : (K n).1 = ci) (hc20 : ci < 20) (hc : cCl[ci]? = some (C, T, gN ci)) (hin : ∀ w ∈ u_ws C T (gN ci), w ∈ lw_all) (ty0 : Nat → FieldType) (hty : ∀ k, k < gN ci → parseFieldDescriptor (T k).2.2.1 = some (ty0 k)) (hnm : ∀ a, a < gN ci → ∀ b, b < gN ci → a ≠ b → (T a).2.1 ≠ (T b).2.1) (k : Nat) (hk : k < gN ci) (hr : gRef ci k = true) {idx : Nat} {host : String} (hl : Cond.fieldLinkNest own idx ref (T k).2.1 (T k).2.2.1 host ∈ lw_all) (hs : ∀ x, s.fieldFound? (T k).1 (T k).2.1 (T k).2.2.1 = some x → s.fieldFound? ref (T k).2.1 (T k).2.2.1 = some x) (hfin : (T k).2.2.2 = false) {ty : FieldType} {y : Option Nat} (hy : ∀ j, y = some j → j ∈ dom) {v : Value} (hv : va_rf (y.map ad) = v) (hd : parseFieldDescriptor (T k).2.2.1 = some ty) (hnr : narrow ty v = v) (hfit : fits ty v = true) (hdg : decode cc pc = .ok (.putfield idx, 3))
    (kk : ∀ (H1 : Heap) (locs1 : List Loc), gw D dA A H0 dom ad K I (r2 R n k y) H1 locs1 → W p l e Rm s m args below meth c H1 locs1 cells slots Q (F0 m (pc + 3) ls rest)) : W p l e Rm s m args below meth c H locs cells slots Q (F0 m pc ls (v :: .ref (ad n) :: rest)) := by
  obtain ⟨hx, hb, -, ho, hts⟩ := hC
  obtain ⟨q0, hq0, hq⟩ := nL_get (gCt dA K I R ad) ad hn
  have e1 : gCt dA K I R ad n = .inr (ci, gF ci (I n) (R n) ad) := gE_o hk0 hc20
  rw [e1] at hq
  refine va_putN (ci := ci) hx hb hts hin ty0 hty hnm ho hK hw.1.1 hw.1.2.1 hw.1.2.2.1 q0 hq hc k hk (hts _ hl) hs hfin hd hnr hfit (by rw [gF_len]; exact hk) hdg (fun H1 locs1 hP hD hS => kk H1 locs1 ?_)
  exact gw_R hw hq0 hy (i := k) (by rw [← hv, gF_setR hk hr]; exact (gE_o hk0 hc20).symm) hP hD hS
theorem g_ldi (hC : CallFix p m c cc nl s args lw_all own) (hK : va_K D cCl (cTy dA) s) (hw : gw D dA A H0 dom ad K I R H locs) {n len : Nat} (hn : n ∈ dom) (hk0 : K n = (20, len)) {i : Nat} (hi : i < len) (h31 : i < 2 ^ 31) {v : Int32} (hv : I n i = v) (hdg : decode cc pc = .ok (.iaload, 1))
    (kk : W p l e Rm s m args below meth c H locs cells slots Q (F0 m (pc + 1) ls (.int v :: rest))) : W p l e Rm s m args below meth c H locs cells slots Q (F0 m pc ls (.int (nI i) :: .ref (ad n) :: rest)) := by
  obtain ⟨q0, -, hq⟩ := nL_get (gCt dA K I R ad) ad hn
  have e1 : gCt dA K I R ad n = .inl (dA 0, len, .inl (I n)) := gE_p (t := 0) hk0 (by decide)
  rw [e1] at hq
  have hv' : I n (nI i).toNatClampNeg = v := by rw [nI_clamp h31]; exact hv
  exact va_iald hC.1 hC.2.1 hK hw.1.1 q0 0 hq rfl (nI_vin hi h31) hdg (by rw [hv']; exact kk)
theorem g_sti (hC : CallFix p m c cc nl s args lw_all own) (hK : va_K D cCl (cTy dA) s) (hw : gw D dA A H0 dom ad K I R H locs) {n len : Nat} (hn : n ∈ dom) (hk0 : K n = (20, len)) {i : Nat} (hi : i < len) (h31 : i < 2 ^ 31) {x : Int32} (hdg : decode cc pc = .ok (.iastore, 1))
    (kk : ∀ (H1 : Heap) (locs1 : List Loc), gw D dA A H0 dom ad K (g2 I n i x) R H1 locs1 → W p l e Rm s m args below meth c H1 locs1 cells slots Q (F0 m (pc + 1) ls rest)) : W p l e Rm s m args below meth c H locs cells slots Q (F0 m pc ls (.int x :: .int (nI i) :: .ref (ad n) :: rest)) := by
  obtain ⟨q0, hq0, hq⟩ := nL_get (gCt dA K I R ad) ad hn
  have e1 : gCt dA K I R ad n = .inl (dA 0, len, .inl (I n)) := gE_p (t := 0) hk0 (by decide)
  rw [e1] at hq
  refine va_iast hC.1 hC.2.1 hK hw.1.1 hw.1.2.1 hw.1.2.2.1 q0 0 hq rfl (nI_vin hi h31) hdg (fun H1 locs1 hP hD hS => kk H1 locs1 ?_)
  rw [nI_clamp h31] at hP hD
  exact gw_I hw hq0 (I' := upd (I n) i x) (gE_p (t := 0) hk0 (by decide)).symm hP hD hS
theorem g_ldb (hC : CallFix p m c cc nl s args lw_all own) (hK : va_K D cCl (cTy dA) s) (hw : gw D dA A H0 dom ad K I R H locs) {n len : Nat} (hn : n ∈ dom) (hk0 : K n = (21, len)) {i : Nat} (hi : i < len) (h31 : i < 2 ^ 31) {v : Int32} (hv : I n i = v) (hdg : decode cc pc = .ok (.baload, 1))
    (kk : W p l e Rm s m args below meth c H locs cells slots Q (F0 m (pc + 1) ls (.int v :: rest))) : W p l e Rm s m args below meth c H locs cells slots Q (F0 m pc ls (.int (nI i) :: .ref (ad n) :: rest)) := by
  obtain ⟨q0, -, hq⟩ := nL_get (gCt dA K I R ad) ad hn
  have e1 : gCt dA K I R ad n = .inl (dA 1, len, .inl (I n)) := gE_p (t := 1) hk0 (by decide)
  rw [e1] at hq
  have hv' : I n (nI i).toNatClampNeg = v := by rw [nI_clamp h31]; exact hv
  exact va_bald hC.1 hC.2.1 hK hw.1.1 q0 1 hq rfl (nI_vin hi h31) hdg (by rw [hv']; exact kk)
theorem g_stb (hC : CallFix p m c cc nl s args lw_all own) (hK : va_K D cCl (cTy dA) s) (hw : gw D dA A H0 dom ad K I R H locs) {n len : Nat} (hn : n ∈ dom) (hk0 : K n = (21, len)) {i : Nat} (hi : i < len) (h31 : i < 2 ^ 31) {x : Int32} (hdg : decode cc pc = .ok (.bastore, 1))
    (kk : ∀ (H1 : Heap) (locs1 : List Loc), gw D dA A H0 dom ad K (g2 I n i (vp_nar .byte x)) R H1 locs1 → W p l e Rm s m args below meth c H1 locs1 cells slots Q (F0 m (pc + 1) ls rest)) : W p l e Rm s m args below meth c H locs cells slots Q (F0 m pc ls (.int x :: .int (nI i) :: .ref (ad n) :: rest)) := by
  obtain ⟨q0, hq0, hq⟩ := nL_get (gCt dA K I R ad) ad hn
  have e1 : gCt dA K I R ad n = .inl (dA 1, len, .inl (I n)) := gE_p (t := 1) hk0 (by decide)
  rw [e1] at hq
  refine va_bast hC.1 hC.2.1 hK hw.1.1 hw.1.2.1 hw.1.2.2.1 q0 1 hq rfl (nI_vin hi h31) hdg (fun H1 locs1 hP hD hS => kk H1 locs1 ?_)
  rw [nI_clamp h31] at hP hD
  exact gw_I hw hq0 (I' := upd (I n) i (vp_nar .byte x)) (gE_p (t := 1) hk0 (by decide)).symm hP hD hS
theorem g_lds (hC : CallFix p m c cc nl s args lw_all own) (hK : va_K D cCl (cTy dA) s) (hw : gw D dA A H0 dom ad K I R H locs) {n len : Nat} (hn : n ∈ dom) (hk0 : K n = (22, len)) {i : Nat} (hi : i < len) (h31 : i < 2 ^ 31) {v : Int32} (hv : I n i = v) (hdg : decode cc pc = .ok (.saload, 1))
    (kk : W p l e Rm s m args below meth c H locs cells slots Q (F0 m (pc + 1) ls (.int v :: rest))) : W p l e Rm s m args below meth c H locs cells slots Q (F0 m pc ls (.int (nI i) :: .ref (ad n) :: rest)) := by
  obtain ⟨q0, -, hq⟩ := nL_get (gCt dA K I R ad) ad hn
  have e1 : gCt dA K I R ad n = .inl (dA 2, len, .inl (I n)) := gE_p (t := 2) hk0 (by decide)
  rw [e1] at hq
  have hv' : I n (nI i).toNatClampNeg = v := by rw [nI_clamp h31]; exact hv
  exact va_sald hC.1 hC.2.1 hK hw.1.1 q0 2 hq rfl (nI_vin hi h31) hdg (by rw [hv']; exact kk)
theorem g_sts (hC : CallFix p m c cc nl s args lw_all own) (hK : va_K D cCl (cTy dA) s) (hw : gw D dA A H0 dom ad K I R H locs) {n len : Nat} (hn : n ∈ dom) (hk0 : K n = (22, len)) {i : Nat} (hi : i < len) (h31 : i < 2 ^ 31) {x : Int32} (hdg : decode cc pc = .ok (.sastore, 1))
    (kk : ∀ (H1 : Heap) (locs1 : List Loc), gw D dA A H0 dom ad K (g2 I n i (vp_nar .short x)) R H1 locs1 → W p l e Rm s m args below meth c H1 locs1 cells slots Q (F0 m (pc + 1) ls rest)) : W p l e Rm s m args below meth c H locs cells slots Q (F0 m pc ls (.int x :: .int (nI i) :: .ref (ad n) :: rest)) := by
  obtain ⟨q0, hq0, hq⟩ := nL_get (gCt dA K I R ad) ad hn
  have e1 : gCt dA K I R ad n = .inl (dA 2, len, .inl (I n)) := gE_p (t := 2) hk0 (by decide)
  rw [e1] at hq
  refine va_sast hC.1 hC.2.1 hK hw.1.1 hw.1.2.1 hw.1.2.2.1 q0 2 hq rfl (nI_vin hi h31) hdg (fun H1 locs1 hP hD hS => kk H1 locs1 ?_)
  rw [nI_clamp h31] at hP hD
  exact gw_I hw hq0 (I' := upd (I n) i (vp_nar .short x)) (gE_p (t := 2) hk0 (by decide)).symm hP hD hS
theorem g_ldr (hC : CallFix p m c cc nl s args lw_all own) (hK : va_K D cCl (cTy dA) s) (hw : gw D dA A H0 dom ad K I R H locs) {n len t : Nat} {E : String} (hn : n ∈ dom) (hk0 : K n = (30 + t, len)) (ht : (cTy dA)[3 + t]? = some (dA (3 + t), .object E)) {i : Nat} (hi : i < len) (h31 : i < 2 ^ 31) {v : Value} (hv : va_rf ((R n i).map ad) = v) (hdg : decode cc pc = .ok (.aaload, 1))
    (kk : W p l e Rm s m args below meth c H locs cells slots Q (F0 m (pc + 1) ls (v :: rest))) : W p l e Rm s m args below meth c H locs cells slots Q (F0 m pc ls (.int (nI i) :: .ref (ad n) :: rest)) := by
  obtain ⟨q0, -, hq⟩ := nL_get (gCt dA K I R ad) ad hn
  have e1 : gCt dA K I R ad n = .inl (dA (3 + t), len, .inr (.inr (.inr (.inr (fun i => (R n i).map ad))))) := gE_r hk0
  rw [e1] at hq
  have hv' : va_rf ((R n (nI i).toNatClampNeg).map ad) = v := by rw [nI_clamp h31]; exact hv
  exact va_aldq hC.1 hC.2.1 hK hw.1.1 q0 (3 + t) hq ht (nI_vin hi h31) hdg (by rw [hv']; exact kk)
theorem g_strN (hC : CallFix p m c cc nl s args lw_all own) (hK : va_K D cCl (cTy dA) s) (hw : gw D dA A H0 dom ad K I R H locs) {n len t : Nat} {E : String} (hn : n ∈ dom) (hk0 : K n = (30 + t, len)) (ht : (cTy dA)[3 + t]? = some (dA (3 + t), .object E)) {i : Nat} (hi : i < len) (h31 : i < 2 ^ 31) (hdg : decode cc pc = .ok (.aastore, 1))
    (kk : ∀ (H1 : Heap) (locs1 : List Loc), gw D dA A H0 dom ad K I (r2 R n i none) H1 locs1 → W p l e Rm s m args below meth c H1 locs1 cells slots Q (F0 m (pc + 1) ls rest)) : W p l e Rm s m args below meth c H locs cells slots Q (F0 m pc ls (.null :: .int (nI i) :: .ref (ad n) :: rest)) := by
  obtain ⟨q0, hq0, hq⟩ := nL_get (gCt dA K I R ad) ad hn
  have e1 : gCt dA K I R ad n = .inl (dA (3 + t), len, .inr (.inr (.inr (.inr (fun i => (R n i).map ad))))) := gE_r hk0
  rw [e1] at hq
  refine va_astqN hC.1 hC.2.1 hK hw.1.1 hw.1.2.1 hw.1.2.2.1 q0 (3 + t) hq ht (nI_vin hi h31) hdg (fun H1 locs1 hP hD hS => kk H1 locs1 ?_)
  rw [nI_clamp h31] at hP hD
  exact gw_R hw hq0 (y := none) (i := i) (fun j h => by cases h) (by rw [gE_r hk0, ← map_up]; rfl) hP hD hS
theorem g_str (hC : CallFix p m c cc nl s args lw_all own) (hK : va_K D cCl (cTy dA) s) (hw : gw D dA A H0 dom ad K I R H locs) {n len t : Nat} {E : String} (hn : n ∈ dom) (hk0 : K n = (30 + t, len)) (ht : (cTy dA)[3 + t]? = some (dA (3 + t), .object E)) {i j : Nat} (hi : i < len) (h31 : i < 2 ^ 31) (hj : j ∈ dom) (hr : va_Any E s H (ad j)) (hdg : decode cc pc = .ok (.aastore, 1))
    (kk : ∀ (H1 : Heap) (locs1 : List Loc), gw D dA A H0 dom ad K I (r2 R n i (some j)) H1 locs1 → W p l e Rm s m args below meth c H1 locs1 cells slots Q (F0 m (pc + 1) ls rest)) : W p l e Rm s m args below meth c H locs cells slots Q (F0 m pc ls (.ref (ad j) :: .int (nI i) :: .ref (ad n) :: rest)) := by
  obtain ⟨q0, hq0, hq⟩ := nL_get (gCt dA K I R ad) ad hn
  have e1 : gCt dA K I R ad n = .inl (dA (3 + t), len, .inr (.inr (.inr (.inr (fun i => (R n i).map ad))))) := gE_r hk0
  rw [e1] at hq
  refine va_astqM hC.1 hC.2.1 hK hw.1.1 hw.1.2.1 hw.1.2.2.1 q0 (3 + t) hq ht hr (nI_vin hi h31) hdg (fun H1 locs1 hP hD hS => kk H1 locs1 ?_)
  rw [nI_clamp h31] at hP hD
  exact gw_R hw hq0 (y := some j) (i := i) (fun j' h => by cases h; exact hj) (by rw [gE_r hk0, ← map_up]; rfl) hP hD hS
end GR
