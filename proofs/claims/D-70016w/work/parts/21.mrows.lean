/-! ===== the reference (WindCarverModel): its one object and its thirteen arrays, as one family of rows of numbers: G 0 k is the int field k, G (k + 1) i the i-th place of the array in field k ===== -/
abbrev mG : Type := Nat → Nat → Int32
def g2 (G : mG) (a i : Nat) (x : Int32) : mG := va_up G a (upd (G a) i x)
abbrev mCl : List vw_C := [(RX6, TX6, 28)]
/-- which fields are arrays -/
def mArr (k : Nat) : Bool := match k with
  | 0 | 1 | 2 | 5 | 6 | 7 | 15 | 18 | 21 | 23 | 24 | 25 | 26 => true
  | _ => false
def mLen (n : Nat) : Nat := match n with
  | 1 => 8 | 2 => 8 | 3 => 320 | 6 => 57 | 7 => 40 | 8 => 120 | 16 => 57 | 19 => 20 | 22 => 1368 | 24 => 57 | 25 => 2 | 26 => 114 | 27 => 16
  | _ => 0
abbrev mDom : List Nat := [0, 1, 2, 3, 6, 7, 8, 16, 19, 22, 24, 25, 26, 27]
def mfv (ad : Nat → Nat) (G : mG) (k : Nat) : Value := if mArr k then .ref (ad (k + 1)) else .int (G 0 k)
def mF (ad : Nat → Nat) (G : mG) : List Value := (List.range 28).map (mfv ad G)
/-- the class of the array by its name: dA 0 of ints, dA 1 of truth values -/
def mCA (dA : Nat → ClassId) (n : Nat) : ClassId := if n = 25 then dA 1 else dA 0
def mCt (dA : Nat → ClassId) (ad : Nat → Nat) (G : mG) : Nat → va_E := fun n => if n = 0 then .inr (0, mF ad G) else .inl (mCA dA n, mLen n, .inl (G n))
abbrev mTy (dA : Nat → ClassId) : List (ClassId × FieldType) := [(dA 0, .int), (dA 1, .boolean)]
/-- the reference's world since H0 -/
def mw (D : va_G) (dA : Nat → ClassId) (A : Nat → Prop) (H0 : Heap) (ad : Nat → Nat) (G : mG) (H : Heap) (locs : List Loc) : Prop := nw D mCl A H0 mDom (mCt dA ad G) ad H locs
theorem mF_get {ad : Nat → Nat} {G : mG} {k : Nat} (hk : k < 28) : (mF ad G)[k]? = some (mfv ad G k) := by
  simp [mF, hk]
theorem mF_len {ad : Nat → Nat} {G : mG} : (mF ad G).length = 28 := by simp [mF]
theorem mF_set {ad : Nat → Nat} {G : mG} {k : Nat} {x : Int32} (hk : k < 28) (ha : mArr k = false) : (mF ad G).set k (.int x) = mF ad (g2 G 0 k x) := by
  apply List.ext_getElem?
  intro j
  by_cases hj : j = k
  · subst hj
    rw [List.getElem?_set_self (by rw [mF_len]; exact hk), mF_get hk]
    simp [mfv, ha, g2, va_up, upd]
  · rw [List.getElem?_set_ne (Ne.symm hj)]
    by_cases h2 : j < 28
    · rw [mF_get h2, mF_get h2]
      simp [mfv, g2, va_up, upd, hj]
    · simp [mF, h2]
theorem mCt_set0 {dA : Nat → ClassId} {ad : Nat → Nat} {G : mG} {k : Nat} {x : Int32} (hk : k < 28) (ha : mArr k = false) : va_up (mCt dA ad G) 0 (.inr (0, (mF ad G).set k (.int x))) = mCt dA ad (g2 G 0 k x) := by
  funext n
  by_cases hn : n = 0
  · subst hn
    rw [va_up_self, mF_set hk ha]
    rfl
  · rw [va_up_ne _ _ hn]
    simp [mCt, hn, g2, va_up]
theorem mF_g2 {ad : Nat → Nat} {G : mG} {a i : Nat} {x : Int32} (h : a ≠ 0) : mF ad (g2 G a i x) = mF ad G := by
  have e : mfv ad (g2 G a i x) = mfv ad G := by
    funext k
    simp [mfv, g2, va_up, Ne.symm h]
  unfold mF
  rw [e]
theorem mCt_setA {dA : Nat → ClassId} {ad : Nat → Nat} {G : mG} {a i : Nat} {x : Int32} (h : a ≠ 0) : va_up (mCt dA ad G) a (.inl (mCA dA a, mLen a, .inl (upd (G a) i x))) = mCt dA ad (g2 G a i x) := by
  funext n
  by_cases hn : n = a
  · subst hn
    rw [va_up_self]
    simp [mCt, h, g2, va_up]
  · rw [va_up_ne _ _ hn]
    by_cases h0 : n = 0
    · subst h0
      simp [mCt, mF_g2 h]
    · simp [mCt, h0, g2, va_up, hn]
theorem mw.eq {D : va_G} {dA : Nat → ClassId} {A : Nat → Prop} {H0 : Heap} {ad : Nat → Nat} {G G' : mG} {H : Heap} {locs : List Loc} (hw : mw D dA A H0 ad G H locs) (h : G = G') : mw D dA A H0 ad G' H locs := h ▸ hw
/-- only what lies within the arrays counts -/
theorem mw.to {D : va_G} {dA : Nat → ClassId} {A : Nat → Prop} {H0 : Heap} {ad : Nat → Nat} {G G' : mG} {H : Heap} {locs : List Loc} (hw : mw D dA A H0 ad G H locs) (h0 : ∀ k, k < 28 → mArr k = false → G 0 k = G' 0 k) (h : ∀ n i, n ≠ 0 → i < mLen n → G n i = G' n i) : mw D dA A H0 ad G' H locs := by
  refine ⟨fun k q hk => ?_, ⟨fun i j p q hi hj e => ?_, fun k q hk => ?_⟩, hw.2.2⟩
  · obtain ⟨n, h1, rfl⟩ := nL_inv hk
    have hn := List.mem_of_getElem? h1
    have ha : va_at D mCl (ad n, mCt dA ad G n) H := nw.at hw hn
    by_cases hn0 : n = 0
    · subst hn0
      have e : mF ad G = mF ad G' := by
        apply List.map_congr_left
        intro k hk
        have hk' := List.mem_range.mp hk
        unfold mfv
        cases hm : mArr k with
        | true => rfl
        | false => rw [if_neg (by simp), if_neg (by simp), h0 k hk' hm]
      show va_at D mCl (ad 0, .inr (0, mF ad G')) H
      rw [← e]
      exact ha
    · have e1 : mCt dA ad G n = .inl (mCA dA n, mLen n, .inl (G n)) := by simp [mCt, hn0]
      have e2 : mCt dA ad G' n = .inl (mCA dA n, mLen n, .inl (G' n)) := by simp [mCt, hn0]
      rw [e2]
      rw [e1] at ha
      show H[ad n]? = some (vp_cell _ _)
      have ha : H[ad n]? = some (vp_cell (mCA dA n) (mLen n, .inl (G n))) := ha
      rw [ha, vp_cell_i, vp_cell_i]
      congr 1
      unfold arrV
      congr 1
      apply congrArg
      funext j
      show Value.int (G n j.val) = Value.int (G' n j.val)
      rw [h n j.val hn0 j.isLt]
  · obtain ⟨n, h1, rfl⟩ := nL_inv hi
    obtain ⟨n', h2, rfl⟩ := nL_inv hj
    exact hw.2.1.1 i j _ _ (nL_at h1) (nL_at h2) e
  · obtain ⟨n, h1, rfl⟩ := nL_inv hk
    exact hw.2.1.2 k (ad n, mCt dA ad G n) (nL_at h1)
section MR
variable {p : Program} {l : Launch} {e : Env} {R : Room} {s : State} {m : MethodId} {args : Array Value} {below : List Frame} {meth : Method} {c : Code} {H : Heap} {locs : List Loc} {cells slots : Nat} {Q : State → Prop}
variable {cc : ByteArray} {nl pc : Nat} {ls : Array Slot} {rest : List Value} {D : va_G} {dA : Nat → ClassId} {A : Nat → Prop} {H0 : Heap} {ad : Nat → Nat} {G : mG}
/-- an int field is read -/
theorem m_gi (hC : CallFix p m c cc nl s args lw_all RX6) (hK : va_K D mCl (mTy dA) s) (hw : mw D dA A H0 ad G H locs) (k : Nat) (hk : k < 28) (ha : mArr k = false) {idx : Nat} (hl : Cond.fieldLink RX6 idx RX6 (TX6 k).2.1 (TX6 k).2.2.1 ∈ lw_all) (hs : (TX6 k).1 = RX6) {v : Int32} (hv : G 0 k = v) (hdg : decode cc pc = .ok (.getfield idx, 3))
    (kk : W p l e R s m args below meth c H locs cells slots Q (F0 m (pc + 3) ls (.int v :: rest))) : W p l e R s m args below meth c H locs cells slots Q (F0 m pc ls (.ref (ad 0) :: rest)) := by
  obtain ⟨hx, hb, -, ho, hts⟩ := hC
  have e : mfv ad G k = .int v := by rw [← hv]; simp [mfv, ha]
  exact va_get (ci := 0) (C := RX6) (T := TX6) (N := 28) (fs := mF ad G) hx hb hts in_X6 ho hK hw.1 0 (by rfl) rfl k hk (hts _ hl) (fun x h => by rw [hs] at h; exact h) (by rw [mF_get hk, e]) hdg kk
/-- a field that holds an array is read -/
theorem m_ga (hC : CallFix p m c cc nl s args lw_all RX6) (hK : va_K D mCl (mTy dA) s) (hw : mw D dA A H0 ad G H locs) (k : Nat) (hk : k < 28) (ha : mArr k = true) {idx : Nat} (hl : Cond.fieldLink RX6 idx RX6 (TX6 k).2.1 (TX6 k).2.2.1 ∈ lw_all) (hs : (TX6 k).1 = RX6) (hdg : decode cc pc = .ok (.getfield idx, 3))
    (kk : W p l e R s m args below meth c H locs cells slots Q (F0 m (pc + 3) ls (.ref (ad (k + 1)) :: rest))) : W p l e R s m args below meth c H locs cells slots Q (F0 m pc ls (.ref (ad 0) :: rest)) := by
  obtain ⟨hx, hb, -, ho, hts⟩ := hC
  have e : mfv ad G k = .ref (ad (k + 1)) := by simp [mfv, ha]
  exact va_get (ci := 0) (C := RX6) (T := TX6) (N := 28) (fs := mF ad G) hx hb hts in_X6 ho hK hw.1 0 (by rfl) rfl k hk (hts _ hl) (fun x h => by rw [hs] at h; exact h) (by rw [mF_get hk, e]) hdg kk
/-- an int field (ty: int or boolean) is written -/
theorem m_pi (hC : CallFix p m c cc nl s args lw_all RX6) (hK : va_K D mCl (mTy dA) s) (hw : mw D dA A H0 ad G H locs) (k : Nat) (hk : k < 28) (ha : mArr k = false) (hfin : (TX6 k).2.2.2 = false) {idx : Nat} (hl : Cond.fieldLink RX6 idx RX6 (TX6 k).2.1 (TX6 k).2.2.1 ∈ lw_all) (hs : (TX6 k).1 = RX6) {ty : FieldType} {x : Int32} (hd : parseFieldDescriptor (TX6 k).2.2.1 = some ty) (hn : narrow ty (.int x) = .int x) (hfit : fits ty (.int x) = true) (hdg : decode cc pc = .ok (.putfield idx, 3))
    (kk : ∀ (H1 : Heap) (locs1 : List Loc), mw D dA A H0 ad (g2 G 0 k x) H1 locs1 → W p l e R s m args below meth c H1 locs1 cells slots Q (F0 m (pc + 3) ls rest)) : W p l e R s m args below meth c H locs cells slots Q (F0 m pc ls (.int x :: .ref (ad 0) :: rest)) := by
  obtain ⟨hx, hb, -, ho, hts⟩ := hC
  refine va_put (ci := 0) (C := RX6) (T := TX6) (N := 28) (fs := mF ad G) hx hb hts in_X6 tyX6 tyX6_ok nmX6 ho hK hw.1 hw.2.1 hw.2.2.1 0 (by rfl) rfl k hk (hts _ hl) (fun x h => by rw [hs] at h; exact h) hfin hd hn hfit (by rw [mF_len]; exact hk) hdg (fun H1 locs1 hP hD hS => kk H1 locs1 ?_)
  have e := nL_set (n := 0) (k := 0) (ct := mCt dA ad G) (ad := ad) hw.2.1 rfl (.inr (0, (mF ad G).set k (.int x)))
  rw [mCt_set0 hk ha] at e
  refine ⟨?_, ?_, hS, hw.2.2.2⟩
  · rw [← e]; exact hP
  · rw [← e]; exact hD
/-- a place of an int array is read -/
theorem m_ld (hC : CallFix p m c cc nl s args lw_all RX6) (hK : va_K D mCl (mTy dA) s) (hw : mw D dA A H0 ad G H locs) (n : Nat) (hn : n ∈ mDom) (h0 : n ≠ 0) (h25 : n ≠ 25) {i : Nat} (hi : i < mLen n) (h31 : i < 2 ^ 31) {v : Int32} (hv : G n i = v) (hdg : decode cc pc = .ok (.iaload, 1))
    (kk : W p l e R s m args below meth c H locs cells slots Q (F0 m (pc + 1) ls (.int v :: rest))) : W p l e R s m args below meth c H locs cells slots Q (F0 m pc ls (.int (nI i) :: .ref (ad n) :: rest)) := by
  obtain ⟨k, -, hk⟩ := nL_get (mCt dA ad G) ad hn
  have e1 : mCt dA ad G n = .inl (dA 0, mLen n, .inl (G n)) := by simp [mCt, h0, mCA, h25]
  rw [e1] at hk
  have hv' : G n (nI i).toNatClampNeg = v := by rw [nI_clamp h31]; exact hv
  have hin : vp_in (nI i) (mLen n) := by
    rintro (q | q)
    · exact nI_pos h31 q
    · rw [nI_clamp h31] at q; omega
  exact va_iald hC.1 hC.2.1 hK hw.1 k 0 hk rfl hin hdg (by rw [hv']; exact kk)
/-- a place of an int array is written -/
theorem m_st (hC : CallFix p m c cc nl s args lw_all RX6) (hK : va_K D mCl (mTy dA) s) (hw : mw D dA A H0 ad G H locs) (n : Nat) (hn : n ∈ mDom) (h0 : n ≠ 0) (h25 : n ≠ 25) {i : Nat} (hi : i < mLen n) (h31 : i < 2 ^ 31) {x : Int32} (hdg : decode cc pc = .ok (.iastore, 1))
    (kk : ∀ (H1 : Heap) (locs1 : List Loc), mw D dA A H0 ad (g2 G n i x) H1 locs1 → W p l e R s m args below meth c H1 locs1 cells slots Q (F0 m (pc + 1) ls rest)) : W p l e R s m args below meth c H locs cells slots Q (F0 m pc ls (.int x :: .int (nI i) :: .ref (ad n) :: rest)) := by
  obtain ⟨k, hk0, hk⟩ := nL_get (mCt dA ad G) ad hn
  have e1 : mCt dA ad G n = .inl (dA 0, mLen n, .inl (G n)) := by simp [mCt, h0, mCA, h25]
  rw [e1] at hk
  have hin : vp_in (nI i) (mLen n) := by
    rintro (q | q)
    · exact nI_pos h31 q
    · rw [nI_clamp h31] at q; omega
  refine va_iast hC.1 hC.2.1 hK hw.1 hw.2.1 hw.2.2.1 k 0 hk rfl hin hdg (fun H1 locs1 hP hD hS => kk H1 locs1 ?_)
  rw [nI_clamp h31] at hP hD
  have e := nL_set (n := n) (k := k) (ct := mCt dA ad G) (ad := ad) hw.2.1 hk0 (.inl (dA 0, mLen n, .inl (upd (G n) i x)))
  have e2 := mCt_setA (dA := dA) (ad := ad) (G := G) (i := i) (x := x) h0
  have e3 : mCA dA n = dA 0 := by simp [mCA, h25]
  rw [e3] at e2
  rw [e2] at e
  refine ⟨?_, ?_, hS, hw.2.2.2⟩
  · rw [← e]; exact hP
  · rw [← e]; exact hD
/-- isKept, an array of truth values -/
theorem m_ldz (hC : CallFix p m c cc nl s args lw_all RX6) (hK : va_K D mCl (mTy dA) s) (hw : mw D dA A H0 ad G H locs) {i : Nat} (hi : i < 2) {v : Int32} (hv : G 25 i = v) (hdg : decode cc pc = .ok (.baload, 1))
    (kk : W p l e R s m args below meth c H locs cells slots Q (F0 m (pc + 1) ls (.int v :: rest))) : W p l e R s m args below meth c H locs cells slots Q (F0 m pc ls (.int (nI i) :: .ref (ad 25) :: rest)) := by
  obtain ⟨k, -, hk⟩ := nL_get (mCt dA ad G) ad (show 25 ∈ mDom by decide)
  have e1 : mCt dA ad G 25 = .inl (dA 1, 2, .inl (G 25)) := by simp [mCt, mCA, mLen]
  rw [e1] at hk
  have h31 : i < 2 ^ 31 := by omega
  have hv' : G 25 (nI i).toNatClampNeg = v := by rw [nI_clamp h31]; exact hv
  have hin : vp_in (nI i) 2 := by
    rintro (q | q)
    · exact nI_pos h31 q
    · rw [nI_clamp h31] at q; omega
  exact va_zald hC.1 hC.2.1 hK hw.1 k 1 hk rfl hin hdg (by rw [hv']; exact kk)
theorem m_stz (hC : CallFix p m c cc nl s args lw_all RX6) (hK : va_K D mCl (mTy dA) s) (hw : mw D dA A H0 ad G H locs) {i : Nat} (hi : i < 2) {x : Int32} (hx1 : vp_nar .boolean x = x) (hdg : decode cc pc = .ok (.bastore, 1))
    (kk : ∀ (H1 : Heap) (locs1 : List Loc), mw D dA A H0 ad (g2 G 25 i x) H1 locs1 → W p l e R s m args below meth c H1 locs1 cells slots Q (F0 m (pc + 1) ls rest)) : W p l e R s m args below meth c H locs cells slots Q (F0 m pc ls (.int x :: .int (nI i) :: .ref (ad 25) :: rest)) := by
  obtain ⟨k, hk0, hk⟩ := nL_get (mCt dA ad G) ad (show 25 ∈ mDom by decide)
  have e1 : mCt dA ad G 25 = .inl (dA 1, 2, .inl (G 25)) := by simp [mCt, mCA, mLen]
  rw [e1] at hk
  have h31 : i < 2 ^ 31 := by omega
  have hin : vp_in (nI i) 2 := by
    rintro (q | q)
    · exact nI_pos h31 q
    · rw [nI_clamp h31] at q; omega
  refine va_zast hC.1 hC.2.1 hK hw.1 hw.2.1 hw.2.2.1 k 1 hk rfl hin hdg (fun H1 locs1 hP hD hS => kk H1 locs1 ?_)
  rw [nI_clamp h31, hx1] at hP hD
  have e := nL_set (n := 25) (k := k) (ct := mCt dA ad G) (ad := ad) hw.2.1 hk0 (.inl (dA 1, 2, .inl (upd (G 25) i x)))
  have e2 : va_up (mCt dA ad G) 25 (.inl (dA 1, 2, .inl (upd (G 25) i x))) = mCt dA ad (g2 G 25 i x) := mCt_setA (dA := dA) (ad := ad) (G := G) (a := 25) (i := i) (x := x) (by decide)
  rw [e2] at e
  refine ⟨?_, ?_, hS, hw.2.2.2⟩
  · rw [← e]; exact hP
  · rw [← e]; exact hD
end MR
/-! ===== contracts of the reference's methods ===== -/
def mPre (D : va_G) (dA : Nat → ClassId) (ad : Nat → Nat) (sz : Nat) (G : mG) (U : State) : Prop := U.heap.size = sz ∧ va_K D mCl (mTy dA) U ∧ va_P D mCl (nL mDom (mCt dA ad G) ad) U.heap ∧ va_D (fun _ => True) (nL mDom (mCt dA ad G) ad)
def mEnd (D : va_G) (dA : Nat → ClassId) (ad : Nat → Nat) (sz : Nat) (G : mG) (t : State) : Prop := va_P D mCl (nL mDom (mCt dA ad G) ad) t.heap ∧ va_D (nA mDom ad sz) (nL mDom (mCt dA ad G) ad)
/-- from the numbers G, called with 'as', the method y answers r and leaves G', such that 'post r G'' -/
def mI (l : Launch) (y : MethodName) (cc : ByteArray) (nl : Nat) (ty : FieldType) (rm : Room) (as : List Value) (G : mG) (post : Int32 → mG → Prop) : Prop :=
  ∀ (D : va_G) (dA : Nat → ClassId) (ad : Nat → Nat) (sz : Nat), Met l y (ws_ y cc nl (some ty)) rm (va_Pc (.ref (ad 0) :: as) (mPre D dA ad sz G)) (va_Qi post (mEnd D dA ad sz) (nA mDom ad sz)) 0 0 (nA mDom ad sz)
/-- .. a method without an answer -/
def mV (l : Launch) (y : MethodName) (cc : ByteArray) (nl : Nat) (rm : Room) (as : List Value) (G : mG) (post : mG → Prop) : Prop :=
  ∀ (D : va_G) (dA : Nat → ClassId) (ad : Nat → Nat) (sz : Nat), Met l y (ws_ y cc nl none) rm (va_Pc (.ref (ad 0) :: as) (mPre D dA ad sz G)) (va_Qv post (mEnd D dA ad sz) (nA mDom ad sz)) 0 0 (nA mDom ad sz)
theorem mPre.moved {D : va_G} {dA : Nat → ClassId} {ad : Nat → Nat} {sz : Nat} {G : mG} {U V : State} (h : mPre D dA ad sz G U) (hvm : U.vm.Alike V.vm) (hh : V.heap = U.heap) : mPre D dA ad sz G V := by
  obtain ⟨h1, h2, h3, h4⟩ := h
  exact ⟨by rw [hh]; exact h1, h2.moved hvm, by rw [hh]; exact h3, h4⟩
theorem mI.of {l : Launch} {y : MethodName} {cc : ByteArray} {nl : Nat} {ty : FieldType} {rm : Room} {as : List Value} {G : mG} {post : Int32 → mG → Prop} (hy : plainName y.cls = true) (hyc : y.cls = RX6) (hn : ∀ a, (lg_sl (.ref a :: as)).length ≤ nl)
    (body : ∀ (D : va_G) (dA : Nat → ClassId) (ad : Nat → Nat) (p : Program) (e : Env) (s : State) (m : MethodId) (below : List Frame) (meth : Method) (c : Code) (ls : Array Slot), CallFix p m c cc nl s (Value.ref (ad 0) :: as).toArray lw_all RX6 → meth.locks = false → meth.sig.returnType = some ty → va_K D mCl (mTy dA) s → lv_has ls nl (lv_args 0 (.ref (ad 0) :: as)) → mw D dA (nA mDom ad s.heap.size) s.heap ad G s.heap [] →
      W p l e rm s m (Value.ref (ad 0) :: as).toArray below meth c s.heap [] 0 0 (MQ below (va_Qi post (mEnd D dA ad s.heap.size) (nA mDom ad s.heap.size)) (Value.ref (ad 0) :: as).toArray s 0 0 (nA mDom ad s.heap.size)) (F0 m 0 ls [])) : mI l y cc nl ty rm as G post := by
  intro D dA ad sz
  refine Met.ofW (cc := cc) (maxL := nl) (ret := some ty) hy rfl ?_
  intro p e s m args below meth c s₁ B hml hv
  obtain ⟨rfl, hsz, hK, hP, hD⟩ := hv
  subst hsz
  have hts := atoms_spec (ws := ws_ y cc nl (some ty)) B.pre
  have hts : ∀ w ∈ lw_all, w.before (Value.ref (ad 0) :: as).toArray s = true := fun w h => hts w (List.mem_cons_of_mem _ h)
  have hown : s.vm.findClass y.cls = some m.cls := findClass_of_methodNamed B.named
  rw [hyc] at hown
  have hl := lv_entry (.ref (ad 0) :: as) (n := nl) (hn (ad 0))
  rw [lg_entry_eq]
  exact body D dA ad p e s m below meth c _ ⟨B.exec, B.bytes, hml, hown, hts⟩ B.notSynchronized B.returns hK hl (nw.start hP hD)
theorem mV.of {l : Launch} {y : MethodName} {cc : ByteArray} {nl : Nat} {rm : Room} {as : List Value} {G : mG} {post : mG → Prop} (hy : plainName y.cls = true) (hyc : y.cls = RX6) (hn : ∀ a, (lg_sl (.ref a :: as)).length ≤ nl)
    (body : ∀ (D : va_G) (dA : Nat → ClassId) (ad : Nat → Nat) (p : Program) (e : Env) (s : State) (m : MethodId) (below : List Frame) (meth : Method) (c : Code) (ls : Array Slot), CallFix p m c cc nl s (Value.ref (ad 0) :: as).toArray lw_all RX6 → meth.locks = false → meth.sig.returnType = none → va_K D mCl (mTy dA) s → lv_has ls nl (lv_args 0 (.ref (ad 0) :: as)) → mw D dA (nA mDom ad s.heap.size) s.heap ad G s.heap [] →
      W p l e rm s m (Value.ref (ad 0) :: as).toArray below meth c s.heap [] 0 0 (MQ below (va_Qv post (mEnd D dA ad s.heap.size) (nA mDom ad s.heap.size)) (Value.ref (ad 0) :: as).toArray s 0 0 (nA mDom ad s.heap.size)) (F0 m 0 ls [])) : mV l y cc nl rm as G post := by
  intro D dA ad sz
  refine Met.ofW (cc := cc) (maxL := nl) (ret := none) hy rfl ?_
  intro p e s m args below meth c s₁ B hml hv
  obtain ⟨rfl, hsz, hK, hP, hD⟩ := hv
  subst hsz
  have hts := atoms_spec (ws := ws_ y cc nl none) B.pre
  have hts : ∀ w ∈ lw_all, w.before (Value.ref (ad 0) :: as).toArray s = true := fun w h => hts w (List.mem_cons_of_mem _ h)
  have hown : s.vm.findClass y.cls = some m.cls := findClass_of_methodNamed B.named
  rw [hyc] at hown
  have hl := lv_entry (.ref (ad 0) :: as) (n := nl) (hn (ad 0))
  rw [lg_entry_eq]
  exact body D dA ad p e s m below meth c _ ⟨B.exec, B.bytes, hml, hown, hts⟩ B.notSynchronized B.returns hK hl (nw.start hP hD)
section MC
variable {p : Program} {l : Launch} {e : Env} {R : Room} {s : State} {m : MethodId} {args : Array Value} {below : List Frame} {meth : Method} {c : Code} {H : Heap} {locs : List Loc} {cells slots : Nat} {Q : State → Prop}
variable {cc : ByteArray} {nl pc : Nat} {ls : Array Slot} {rest : List Value} {D : va_G} {dA : Nat → ClassId} {A : Nat → Prop} {H0 : Heap} {ad : Nat → Nat} {G : mG} {own : String}
theorem m_iret (hC : CallFix p m c cc nl s args lw_all own) (hlk : meth.locks = false) {ty : FieldType} (hr : meth.sig.returnType = some ty) (hw : mw D dA (nA mDom ad s.heap.size) s.heap ad G H locs) {v : Int32} (hn : narrow ty (.int v) = .int v) {post : Int32 → mG → Prop} (hq : post v G) (hdg : decode cc pc = .ok (.ireturn, 1)) :
    W p l e R s m args below meth c H locs 0 0 (MQ below (va_Qi post (mEnd D dA ad s.heap.size) (nA mDom ad s.heap.size)) args s 0 0 (nA mDom ad s.heap.size)) (F0 m pc ls [.int v]) :=
  W.zret hC.1 hC.2.1 hr hn (fun t ht hW => ⟨⟨v, G, rfl, hq, by rw [ht]; exact hw.1, hw.2.1⟩, hw.2.2.1.F ht⟩) hw.2.2.1.2.2 hdg hlk
theorem m_vret (hC : CallFix p m c cc nl s args lw_all own) (hlk : meth.locks = false) (hr : meth.sig.returnType = none) (hw : mw D dA (nA mDom ad s.heap.size) s.heap ad G H locs) {post : mG → Prop} (hq : post G) (hdg : decode cc pc = .ok (.return_, 1)) :
    W p l e R s m args below meth c H locs 0 0 (MQ below (va_Qv post (mEnd D dA ad s.heap.size) (nA mDom ad s.heap.size)) args s 0 0 (nA mDom ad s.heap.size)) (F0 m pc ls []) :=
  W.vret hC.1 hC.2.1 hr (fun t ht hW => ⟨⟨G, rfl, hq, by rw [ht]; exact hw.1, hw.2.1⟩, hw.2.2.1.F ht⟩) hw.2.2.1.2.2 hdg hlk
theorem m_recv (hK : va_K D mCl (mTy dA) s) (hw : mw D dA A H0 ad G H locs) : ∃ cell : Cell, H[ad 0]? = some cell ∧ cell.vm.isStatics = false ∧ s.vm.findClass RX6 = some cell.cls :=
  va_recv (q := (RX6, TX6, 28)) (fs := mF ad G) hK hw.1 (ci := 0) (q0 := 0) rfl rfl
theorem m_calli (hC : CallFix p m c cc nl s args lw_all own) (hl : ls.size = nl) (hK : va_K D mCl (mTy dA) s) (hw : mw D dA A H0 ad G H locs) {y : MethodName} {bytes : ByteArray} {maxL index n : Nat} {ty : FieldType} {rm : Room} {as : List Value} {post : Int32 → mG → Prop} (hM : mI l y bytes maxL ty rm as G post)
    (hT : GoodIn lw_all (wsV own index RX6 y (ws_ y bytes maxL (some ty)))) (hrc : rm.cells = 0) (hrs : rm.slots = 0) (hd : y.cls = RX6 ∧ y.cls ≠ "java/lang/invoke/MethodHandle" ∧ y.cls ≠ "java/lang/invoke/VarHandle" ∧ (parseMethodDescriptor y.desc).map (fun d => d.parameters.length) = some n) (hR : rm.frames + 1 ≤ R.frames ∧ 8 + (maxL + 11) + rm.locals ≤ R.locals)
    (hn : as.length = n) {st0 : List Value} (hst : st0 = as.reverse ++ .ref (ad 0) :: rest) (hW : (rest.map fun v => v.category).sum ≤ 8) (hdg : decode cc pc = .ok (.invokevirtual index, 3)) (hf : cells ≤ R.cells ∧ slots ≤ R.slots)
    (kk : ∀ (r : Int32) (G' : mG) (H' : Heap) (locs' : List Loc), post r G' → mw D dA A H0 ad G' H' locs' → W p l e R s m args below meth c H' locs' cells slots Q (F0 m (pc + 3) ls (.int r :: rest))) : W p l e R s m args below meth c H locs cells slots Q (F0 m pc ls st0) := by
  refine va_calli (va_runV (As := as) (rest := rest) hC (hM D dA ad H.size) (cwV n hC.2.2.2.2 hT rfl hrc hrs hd hR) ⟨fun a U g mk q => ⟨q.1, q.2.moved (V := U.calling g mk a) (Vm.Alike.refl U.vm) rfl⟩, m_recv hK hw, fun U hU hWm => ⟨rfl, by rw [hU], hK.moved hWm.alike, by rw [hU]; exact hw.1, hw.2.1.weaken (fun _ _ _ _ => trivial)⟩⟩ rfl hn hl hst (lv_room hW) hdg hf) hw.2.2.1 (fun q _ h => hw.free q h) hw.free (fun r G' t H1 locs1 ht hvm hq hB hz1 hk1 hS => ?_)
  refine kk r G' H1 locs1 hq ⟨?_, hB.2.weaken (fun _ _ _ h => hw.free _ h), hS, hw.2.2.2⟩
  rw [← ht]
  exact hB.1
theorem m_callv (hC : CallFix p m c cc nl s args lw_all own) (hl : ls.size = nl) (hK : va_K D mCl (mTy dA) s) (hw : mw D dA A H0 ad G H locs) {y : MethodName} {bytes : ByteArray} {maxL index n : Nat} {rm : Room} {as : List Value} {post : mG → Prop} (hM : mV l y bytes maxL rm as G post)
    (hT : GoodIn lw_all (wsV own index RX6 y (ws_ y bytes maxL none))) (hrc : rm.cells = 0) (hrs : rm.slots = 0) (hd : y.cls = RX6 ∧ y.cls ≠ "java/lang/invoke/MethodHandle" ∧ y.cls ≠ "java/lang/invoke/VarHandle" ∧ (parseMethodDescriptor y.desc).map (fun d => d.parameters.length) = some n) (hR : rm.frames + 1 ≤ R.frames ∧ 8 + (maxL + 11) + rm.locals ≤ R.locals)
    (hn : as.length = n) {st0 : List Value} (hst : st0 = as.reverse ++ .ref (ad 0) :: rest) (hW : (rest.map fun v => v.category).sum ≤ 8) (hdg : decode cc pc = .ok (.invokevirtual index, 3)) (hf : cells ≤ R.cells ∧ slots ≤ R.slots)
    (kk : ∀ (G' : mG) (H' : Heap) (locs' : List Loc), post G' → mw D dA A H0 ad G' H' locs' → W p l e R s m args below meth c H' locs' cells slots Q (F0 m (pc + 3) ls rest)) : W p l e R s m args below meth c H locs cells slots Q (F0 m pc ls st0) := by
  refine va_callv (va_runV (As := as) (rest := rest) hC (hM D dA ad H.size) (cwV n hC.2.2.2.2 hT rfl hrc hrs hd hR) ⟨fun a U g mk q => ⟨q.1, q.2.moved (V := U.calling g mk a) (Vm.Alike.refl U.vm) rfl⟩, m_recv hK hw, fun U hU hWm => ⟨rfl, by rw [hU], hK.moved hWm.alike, by rw [hU]; exact hw.1, hw.2.1.weaken (fun _ _ _ _ => trivial)⟩⟩ rfl hn hl hst (lv_room hW) hdg hf) hw.2.2.1 (fun q _ h => hw.free q h) hw.free (fun G' t H1 locs1 ht hvm hq hB hz1 hk1 hS => ?_)
  refine kk G' H1 locs1 hq ⟨?_, hB.2.weaken (fun _ _ _ h => hw.free _ h), hS, hw.2.2.2⟩
  rw [← ht]
  exact hB.1
end MC
