/-! ===== the names layer: cells by names; a world is a list of names, what each cell holds, where it lies ===== -/
def nL (dom : List Nat) (ct : Nat → va_E) (ad : Nat → Nat) : va_W := dom.map (fun n => (ad n, ct n))
/-- which cells a method may change: those of its names, and those that it makes -/
def nA (dom : List Nat) (ad : Nat → Nat) (sz : Nat) : Nat → Prop := fun q => (∃ n, n ∈ dom ∧ q = ad n) ∨ sz ≤ q
theorem nL_at {dom : List Nat} {ct : Nat → va_E} {ad : Nat → Nat} {k n : Nat} (h : dom[k]? = some n) : (nL dom ct ad)[k]? = some (ad n, ct n) := by
  simp [nL, h]
theorem nL_inv {dom : List Nat} {ct : Nat → va_E} {ad : Nat → Nat} {k : Nat} {q : Nat × va_E} (h : (nL dom ct ad)[k]? = some q) : ∃ n, dom[k]? = some n ∧ q = (ad n, ct n) := by
  simp only [nL, List.getElem?_map] at h
  cases hb : dom[k]? with
  | none => rw [hb] at h; cases h
  | some b => rw [hb] at h; cases h; exact ⟨b, rfl, rfl⟩
theorem nL_get {dom : List Nat} {n : Nat} (ct : Nat → va_E) (ad : Nat → Nat) (h : n ∈ dom) : ∃ k : Nat, dom[k]? = some n ∧ (nL dom ct ad)[k]? = some (ad n, ct n) := by
  obtain ⟨k, hk⟩ := List.getElem?_of_mem h
  exact ⟨k, hk, nL_at hk⟩
theorem nL_ne {A : Nat → Prop} {dom : List Nat} {ct : Nat → va_E} {ad : Nat → Nat} (hD : va_D A (nL dom ct ad)) {i j n : Nat} (hi : dom[i]? = some n) (hj : dom[j]? = some n) : i = j :=
  hD.1 i j _ _ (nL_at hi) (nL_at hj) rfl
theorem nL_set {A : Nat → Prop} {dom : List Nat} {ct : Nat → va_E} {ad : Nat → Nat} {n k : Nat} (hD : va_D A (nL dom ct ad)) (hk : dom[k]? = some n) (e : va_E) : (nL dom ct ad).set k (ad n, e) = nL dom (va_up ct n e) ad := by
  apply List.ext_getElem?
  intro j
  have hl : k < (nL dom ct ad).length := (List.getElem?_eq_some_iff.mp (nL_at (ct := ct) (ad := ad) hk)).1
  by_cases hj : j = k
  · subst hj
    rw [List.getElem?_set_self hl, nL_at (ct := va_up ct n e) hk, va_up_self]
  · rw [List.getElem?_set_ne (Ne.symm hj)]
    cases hb : dom[j]? with
    | none => simp [nL, hb]
    | some b =>
      have hbn : b ≠ n := fun q => hj (nL_ne hD (by rw [hb, q]) hk)
      rw [nL_at hb, nL_at hb, va_up_ne _ _ hbn]
theorem nL_push {dom : List Nat} {ct : Nat → va_E} {ad : Nat → Nat} {n a : Nat} {e : va_E} (h : n ∉ dom) : nL dom ct ad ++ [(a, e)] = nL (dom ++ [n]) (va_up ct n e) (va_up ad n a) := by
  simp only [nL, List.map_append, List.map_cons, List.map_nil, va_up_self]
  congr 1
  apply List.map_congr_left
  intro b hb
  have hbn : b ≠ n := fun q => h (q ▸ hb)
  rw [va_up_ne _ _ hbn, va_up_ne _ _ hbn]
theorem nL_congr {dom : List Nat} {ct ct' : Nat → va_E} {ad ad' : Nat → Nat} (h : ∀ n, n ∈ dom → ct n = ct' n ∧ ad n = ad' n) : nL dom ct ad = nL dom ct' ad' := by
  apply List.map_congr_left
  intro n hn
  rw [(h n hn).1, (h n hn).2]
/-- a world, since the heap H0 -/
def nw (D : va_G) (cl : List vw_C) (A : Nat → Prop) (H0 : Heap) (dom : List Nat) (ct : Nat → va_E) (ad : Nat → Nat) (H : Heap) (locs : List Loc) : Prop :=
  va_P D cl (nL dom ct ad) H ∧ va_D A (nL dom ct ad) ∧ va_S A H0 H locs ∧ ∀ q, H0.size ≤ q → A q
theorem nw.to {D : va_G} {cl : List vw_C} {A : Nat → Prop} {H0 : Heap} {dom : List Nat} {ct ct' : Nat → va_E} {ad : Nat → Nat} {H : Heap} {locs : List Loc} (hw : nw D cl A H0 dom ct ad H locs) (h : ∀ n, n ∈ dom → ct n = ct' n) : nw D cl A H0 dom ct' ad H locs := by
  have e : nL dom ct ad = nL dom ct' ad := nL_congr (fun n hn => ⟨h n hn, rfl⟩)
  unfold nw at hw ⊢
  rw [← e]
  exact hw
theorem nw.eq {D : va_G} {cl : List vw_C} {A : Nat → Prop} {H0 : Heap} {dom : List Nat} {ct ct' : Nat → va_E} {ad : Nat → Nat} {H : Heap} {locs : List Loc} (hw : nw D cl A H0 dom ct ad H locs) (h : ct = ct') : nw D cl A H0 dom ct' ad H locs := h ▸ hw
theorem nw.at {D : va_G} {cl : List vw_C} {A : Nat → Prop} {H0 : Heap} {dom : List Nat} {ct : Nat → va_E} {ad : Nat → Nat} {H : Heap} {locs : List Loc} (hw : nw D cl A H0 dom ct ad H locs) {n : Nat} (hn : n ∈ dom) : va_at D cl (ad n, ct n) H := by
  obtain ⟨k, -, hk⟩ := nL_get ct ad hn
  exact hw.1 k _ hk
theorem nw.inj {D : va_G} {cl : List vw_C} {A : Nat → Prop} {H0 : Heap} {dom : List Nat} {ct : Nat → va_E} {ad : Nat → Nat} {H : Heap} {locs : List Loc} (hw : nw D cl A H0 dom ct ad H locs) {n k : Nat} (hn : n ∈ dom) (hk : k ∈ dom) (h : ad n = ad k) : n = k := by
  obtain ⟨i, hi, hi'⟩ := nL_get ct ad hn
  obtain ⟨j, hj, hj'⟩ := nL_get ct ad hk
  have := hw.2.1.1 i j _ _ hi' hj' h
  subst this
  rw [hi] at hj
  exact Option.some.inj hj
theorem nw.sub {D : va_G} {cl : List vw_C} {A : Nat → Prop} {H0 : Heap} {dom dom' : List Nat} {ct : Nat → va_E} {ad : Nat → Nat} {H : Heap} {locs : List Loc} (hw : nw D cl A H0 dom ct ad H locs) (hs : ∀ n, n ∈ dom' → n ∈ dom) (hn : dom'.Nodup) : nw D cl A H0 dom' ct ad H locs := by
  refine ⟨fun k q hk => ?_, ⟨fun i j p q hi hj e => ?_, fun k q hk => ?_⟩, hw.2.2⟩
  · obtain ⟨n, h1, rfl⟩ := nL_inv hk
    exact hw.at (hs n (List.mem_of_getElem? h1))
  · obtain ⟨n, h1, rfl⟩ := nL_inv hi
    obtain ⟨n', h2, rfl⟩ := nL_inv hj
    have e2 : n = n' := hw.inj (hs n (List.mem_of_getElem? h1)) (hs n' (List.mem_of_getElem? h2)) e
    subst e2
    obtain ⟨l1, e1⟩ := List.getElem?_eq_some_iff.mp h1
    obtain ⟨l2, e2⟩ := List.getElem?_eq_some_iff.mp h2
    have hp := List.pairwise_iff_getElem.mp hn
    rcases Nat.lt_trichotomy i j with h | h | h
    · exact absurd (e1.trans e2.symm) (hp i j l1 l2 h)
    · exact h
    · exact absurd (e2.trans e1.symm) (hp j i l2 l1 h)
  · obtain ⟨n, h1, rfl⟩ := nL_inv hk
    obtain ⟨j, hj, hj'⟩ := nL_get ct ad (hs n (List.mem_of_getElem? h1))
    exact hw.2.1.2 j _ hj'
theorem nw.free {D : va_G} {cl : List vw_C} {A : Nat → Prop} {H0 : Heap} {dom : List Nat} {ct : Nat → va_E} {ad : Nat → Nat} {H : Heap} {locs : List Loc} (hw : nw D cl A H0 dom ct ad H locs) : ∀ q, nA dom ad H.size q → A q := by
  intro q hq
  rcases hq with ⟨n, hn, rfl⟩ | hq
  · obtain ⟨k, -, hk⟩ := nL_get ct ad hn
    exact hw.2.1.2 k _ hk
  · exact hw.2.2.2 q (Nat.le_trans hw.2.2.1.1 hq)
theorem nD_self {A : Nat → Prop} {dom : List Nat} {ct : Nat → va_E} {ad : Nat → Nat} {sz : Nat} (h : va_D A (nL dom ct ad)) : va_D (nA dom ad sz) (nL dom ct ad) := by
  refine ⟨h.1, fun k q hk => ?_⟩
  obtain ⟨n, h1, rfl⟩ := nL_inv hk
  exact Or.inl ⟨n, List.mem_of_getElem? h1, rfl⟩
/-- a world at a method's start -/
theorem nw.start {D : va_G} {cl : List vw_C} {A : Nat → Prop} {dom : List Nat} {ct : Nat → va_E} {ad : Nat → Nat} {H : Heap} (hP : va_P D cl (nL dom ct ad) H) (hD : va_D A (nL dom ct ad)) : nw D cl (nA dom ad H.size) H dom ct ad H [] :=
  ⟨hP, nD_self hD, va_S.rf, fun _ h => Or.inr h⟩
/-- cells elsewhere change: the world stays -/
theorem nP_kept {D : va_G} {cl : List vw_C} {dom : List Nat} {ct : Nat → va_E} {ad : Nat → Nat} {H H1 : Heap} (hP : va_P D cl (nL dom ct ad) H) (h : ∀ n, n ∈ dom → H1[ad n]? = H[ad n]?) : va_P D cl (nL dom ct ad) H1 :=
  hP.kept (fun k q hk => by obtain ⟨n, h1, rfl⟩ := nL_inv hk; exact h n (List.mem_of_getElem? h1))

/-! ===== numbers ===== -/
def bI (b : Bool) : Int32 := if b then 1 else 0
theorem bI_t : bI true = 1 := rfl
theorem bI_f : bI false = 0 := rfl
theorem bI_0 {b : Bool} : bI b = 0 ↔ b = false := by cases b <;> decide
theorem bI_1 {b : Bool} : bI b = 1 ↔ b = true := by cases b <;> decide
theorem bI_n0 {b : Bool} : ¬ bI b = 0 ↔ b = true := by cases b <;> decide
theorem bI_nar (b : Bool) : narrow .boolean (.int (bI b)) = .int (bI b) := by cases b <;> rfl
theorem bI_inj {a b : Bool} : bI a = bI b ↔ a = b := by cases a <;> cases b <;> decide
/-- low ≤ x ≤ high -/
def inB (x lo hi : Int32) : Bool := decide (lo ≤ x) && decide (x ≤ hi)
theorem inB_nat {x : Int32} {n : Nat} (hn : n < 2 ^ 31) (h : inB x 0 (nI n) = true) : ∃ k : Nat, k ≤ n ∧ x = nI k := by
  simp only [inB, Bool.and_eq_true, decide_eq_true_eq] at h
  refine nI_of2 (nI_toInt hn) ?_ h.2
  rw [Int32.not_lt]
  exact h.1
theorem inB_of {n k : Nat} (hn : n < 2 ^ 31) (hk : k ≤ n) : inB (nI k) 0 (nI n) = true := by
  simp only [inB, Bool.and_eq_true, decide_eq_true_eq]
  exact ⟨nI_pos' (by omega), nI_le hk hn⟩
def irem (x y : Int32) : Int32 := x - x / y * y

theorem lv_has.sub' {ls : Array Slot} {nL : Nat} {l l' : List (Nat × Value)} (h : lv_has ls nL l) (ks : List Nat) (hl : lv_pick l ks = l') : lv_has ls nL l' := lv_sub h ks hl
theorem k_dec {a : Nat} (h : 0 < a) : nI a + Int32.ofInt (-1) = nI (a - 1) := by
  have e := pk_m1 (a - 1)
  rw [show a - 1 + 1 = a by omega] at e
  exact e
/-! ===== walking: joins and loops ===== -/
section WJ
variable {p : Program} {l : Launch} {e : Env} {R : Room} {s : State} {m : MethodId} {args : Array Value} {below : List Frame} {meth : Method} {c : Code} {H : Heap} {locs : List Loc} {cells slots : Nat} {Q : State → Prop}
theorem W.join {α : Type} (P : α → Prop) (g : α → JFrame) {g0 : JFrame} (k : ∀ a, P a → W p l e R s m args below meth c H locs cells slots Q (g a)) (h : (∀ a, P a → W p l e R s m args below meth c H locs cells slots Q (g a)) → W p l e R s m args below meth c H locs cells slots Q g0) : W p l e R s m args below meth c H locs cells slots Q g0 := h k
theorem W.joinH {α : Type} (P : α → Heap → List Loc → Prop) (g : α → JFrame) {g0 : JFrame} (k : ∀ a H locs, P a H locs → W p l e R s m args below meth c H locs cells slots Q (g a)) (h : (∀ a H locs, P a H locs → W p l e R s m args below meth c H locs cells slots Q (g a)) → W p l e R s m args below meth c H locs cells slots Q g0) : W p l e R s m args below meth c H locs cells slots Q g0 := h k
theorem W.loop {α : Type} (I : Array Slot → α → Heap → List Loc → Prop) (pc : Nat) (st : α → List Value) (μ : α → Nat)
    (hs : ∀ ls a H locs, I ls a H locs → (∀ ls' a' H' locs', I ls' a' H' locs' → μ a' < μ a → W p l e R s m args below meth c H' locs' cells slots Q (F0 m pc ls' (st a'))) → W p l e R s m args below meth c H locs cells slots Q (F0 m pc ls (st a)))
    (a : α) {ls : Array Slot} (h : I ls a H locs) : W p l e R s m args below meth c H locs cells slots Q (F0 m pc ls (st a)) := by
  have key : ∀ n : Nat, ∀ (ls : Array Slot) (a : α) (H : Heap) (locs : List Loc), μ a < n → I ls a H locs → W p l e R s m args below meth c H locs cells slots Q (F0 m pc ls (st a)) := by
    intro n
    induction n with
    | zero => intro ls a H locs h; omega
    | succ n ih =>
      intro ls a H locs hn hI
      exact hs ls a H locs hI (fun ls' a' H' locs' hI' hlt => ih ls' a' H' locs' (by omega) hI')
  exact key (μ a + 1) ls a H locs (by omega) h
end WJ

/-! ===== rows over naturals and truth values ===== -/
section NR
variable {p : Program} {l : Launch} {e : Env} {R : Room} {s : State} {m : MethodId} {args : Array Value} {below : List Frame} {meth : Method} {c : Code} {H : Heap} {locs : List Loc} {cells slots : Nat} {Q : State → Prop}
variable {cc : ByteArray} {nl pc : Nat} {ls : Array Slot} {rest : List Value} {Ts : List Cond} {own : String}
theorem k_add (hC : CallFix p m c cc nl s args Ts own) {a b : Nat} (hdg : decode cc pc = .ok (.iadd, 1)) (k : W p l e R s m args below meth c H locs cells slots Q (F0 m (pc + 1) ls (.int (nI (a + b)) :: rest))) : W p l e R s m args below meth c H locs cells slots Q (F0 m pc ls (.int (nI b) :: .int (nI a) :: rest)) :=
  lv_iadd hC.1 hC.2.1 hdg (by rw [nI_add]; exact k)
theorem k_mul (hC : CallFix p m c cc nl s args Ts own) {a b : Nat} (hdg : decode cc pc = .ok (.imul, 1)) (k : W p l e R s m args below meth c H locs cells slots Q (F0 m (pc + 1) ls (.int (nI (a * b)) :: rest))) : W p l e R s m args below meth c H locs cells slots Q (F0 m pc ls (.int (nI b) :: .int (nI a) :: rest)) :=
  lv_imul hC.1 hC.2.1 hdg (by rw [pk_mul]; exact k)
theorem k_sub (hC : CallFix p m c cc nl s args Ts own) {a b : Nat} (h : b ≤ a) (hdg : decode cc pc = .ok (.isub, 1)) (k : W p l e R s m args below meth c H locs cells slots Q (F0 m (pc + 1) ls (.int (nI (a - b)) :: rest))) : W p l e R s m args below meth c H locs cells slots Q (F0 m pc ls (.int (nI b) :: .int (nI a) :: rest)) :=
  lv_isub hC.1 hC.2.1 hdg (by rw [pk_sub h]; exact k)
theorem k_div (hC : CallFix p m c cc nl s args Ts own) {a b : Nat} (ha : a < 2 ^ 31) (h0 : 0 < b) (hb : b < 2 ^ 31) (hdg : decode cc pc = .ok (.idiv, 1)) (k : W p l e R s m args below meth c H locs cells slots Q (F0 m (pc + 1) ls (.int (nI (a / b)) :: rest))) : W p l e R s m args below meth c H locs cells slots Q (F0 m pc ls (.int (nI b) :: .int (nI a) :: rest)) :=
  lv_idiv hC.1 hC.2.1 hdg (nI_ne0 h0 hb) (by rw [pk_div ha h0 hb]; exact k)
theorem k_rem (hC : CallFix p m c cc nl s args Ts own) {a b : Nat} (ha : a < 2 ^ 31) (h0 : 0 < b) (hb : b < 2 ^ 31) (hdg : decode cc pc = .ok (.irem, 1)) (k : W p l e R s m args below meth c H locs cells slots Q (F0 m (pc + 1) ls (.int (nI (a % b)) :: rest))) : W p l e R s m args below meth c H locs cells slots Q (F0 m pc ls (.int (nI b) :: .int (nI a) :: rest)) :=
  lv_irem hC.1 hC.2.1 hdg (nI_ne0 h0 hb) (by rw [pk_rem ha h0 hb]; exact k)
theorem k_iinc (hC : CallFix p m c cc nl s args Ts own) {i k a d : Nat} {n : Int} {lv lv' : List (Nat × Value)} (hdg : decode cc pc = .ok (.iinc i n, 3)) (hl : lv_has ls nl lv) (hk : lv[k]? = some (i, .int (nI a))) (hd : Int32.ofInt n = nI d) (hn : i < nl) (he : (i, Value.int (nI (a + d))) :: lv.filter (fun q => !(q.1 == i) && !(q.1 + 1 == i && q.2.category == 2)) = lv')
    (kk : ∀ ls' : Array Slot, lv_has ls' nl lv' → W p l e R s m args below meth c H locs cells slots Q (F0 m (pc + 3) ls' rest)) : W p l e R s m args below meth c H locs cells slots Q (F0 m pc ls rest) :=
  lv_iinc hC.1 hC.2.1 hdg hl hk (by rw [hd, nI_add]) hn he kk
theorem k_lt (hC : CallFix p m c cc nl s args Ts own) {a b tgt : Nat} {off : Int} (ha : a < 2 ^ 31) (hb : b < 2 ^ 31) (hdg : decode cc pc = .ok (.if_icmp .lt off, 3)) (ht : (pc : Int) + off = (tgt : Int))
    (kt : a < b → W p l e R s m args below meth c H locs cells slots Q (F0 m tgt ls rest)) (kf : b ≤ a → W p l e R s m args below meth c H locs cells slots Q (F0 m (pc + 3) ls rest)) : W p l e R s m args below meth c H locs cells slots Q (F0 m pc ls (.int (nI b) :: .int (nI a) :: rest)) :=
  lv_icmp_lt hC.1 hC.2.1 hdg ht (fun h => kt ((nI_ltI ha hb).mp h)) (fun h => kf (Nat.not_lt.mp (fun q => h ((nI_ltI ha hb).mpr q))))
theorem k_ge (hC : CallFix p m c cc nl s args Ts own) {a b tgt : Nat} {off : Int} (ha : a < 2 ^ 31) (hb : b < 2 ^ 31) (hdg : decode cc pc = .ok (.if_icmp .ge off, 3)) (ht : (pc : Int) + off = (tgt : Int))
    (kt : b ≤ a → W p l e R s m args below meth c H locs cells slots Q (F0 m tgt ls rest)) (kf : a < b → W p l e R s m args below meth c H locs cells slots Q (F0 m (pc + 3) ls rest)) : W p l e R s m args below meth c H locs cells slots Q (F0 m pc ls (.int (nI b) :: .int (nI a) :: rest)) :=
  lv_icmp_ge hC.1 hC.2.1 hdg ht (fun h => kt ((nI_leI hb ha).mp h)) (fun h => kf (Nat.not_le.mp (fun q => h ((nI_leI hb ha).mpr q))))
theorem k_gt (hC : CallFix p m c cc nl s args Ts own) {a b tgt : Nat} {off : Int} (ha : a < 2 ^ 31) (hb : b < 2 ^ 31) (hdg : decode cc pc = .ok (.if_icmp .gt off, 3)) (ht : (pc : Int) + off = (tgt : Int))
    (kt : b < a → W p l e R s m args below meth c H locs cells slots Q (F0 m tgt ls rest)) (kf : a ≤ b → W p l e R s m args below meth c H locs cells slots Q (F0 m (pc + 3) ls rest)) : W p l e R s m args below meth c H locs cells slots Q (F0 m pc ls (.int (nI b) :: .int (nI a) :: rest)) :=
  lv_icmp_gt hC.1 hC.2.1 hdg ht (fun h => kt ((nI_ltI hb ha).mp h)) (fun h => kf (Nat.not_lt.mp (fun q => h ((nI_ltI hb ha).mpr q))))
theorem k_le (hC : CallFix p m c cc nl s args Ts own) {a b tgt : Nat} {off : Int} (ha : a < 2 ^ 31) (hb : b < 2 ^ 31) (hdg : decode cc pc = .ok (.if_icmp .le off, 3)) (ht : (pc : Int) + off = (tgt : Int))
    (kt : a ≤ b → W p l e R s m args below meth c H locs cells slots Q (F0 m tgt ls rest)) (kf : b < a → W p l e R s m args below meth c H locs cells slots Q (F0 m (pc + 3) ls rest)) : W p l e R s m args below meth c H locs cells slots Q (F0 m pc ls (.int (nI b) :: .int (nI a) :: rest)) :=
  lv_icmp_le hC.1 hC.2.1 hdg ht (fun h => kt ((nI_leI ha hb).mp h)) (fun h => kf (Nat.not_le.mp (fun q => h ((nI_leI ha hb).mpr q))))
theorem k_eq (hC : CallFix p m c cc nl s args Ts own) {a b tgt : Nat} {off : Int} (ha : a < 2 ^ 31) (hb : b < 2 ^ 31) (hdg : decode cc pc = .ok (.if_icmp .eq off, 3)) (ht : (pc : Int) + off = (tgt : Int))
    (kt : a = b → W p l e R s m args below meth c H locs cells slots Q (F0 m tgt ls rest)) (kf : a ≠ b → W p l e R s m args below meth c H locs cells slots Q (F0 m (pc + 3) ls rest)) : W p l e R s m args below meth c H locs cells slots Q (F0 m pc ls (.int (nI b) :: .int (nI a) :: rest)) :=
  lv_icmp_eq hC.1 hC.2.1 hdg ht (fun h => kt ((nI_eq ha hb).mp h)) (fun h => kf (fun q => h ((nI_eq ha hb).mpr q)))
theorem k_ne (hC : CallFix p m c cc nl s args Ts own) {a b tgt : Nat} {off : Int} (ha : a < 2 ^ 31) (hb : b < 2 ^ 31) (hdg : decode cc pc = .ok (.if_icmp .ne off, 3)) (ht : (pc : Int) + off = (tgt : Int))
    (kt : a ≠ b → W p l e R s m args below meth c H locs cells slots Q (F0 m tgt ls rest)) (kf : a = b → W p l e R s m args below meth c H locs cells slots Q (F0 m (pc + 3) ls rest)) : W p l e R s m args below meth c H locs cells slots Q (F0 m pc ls (.int (nI b) :: .int (nI a) :: rest)) :=
  lv_icmp_ne hC.1 hC.2.1 hdg ht (fun h => kt (fun q => h ((nI_eq ha hb).mpr q))) (fun h => kf ((nI_eq ha hb).mp h))
/-- a truth value: not 0 is true -/
theorem k_bne (hC : CallFix p m c cc nl s args Ts own) {b : Bool} {tgt : Nat} {off : Int} (hdg : decode cc pc = .ok (.ifCond .ne off, 3)) (ht : (pc : Int) + off = (tgt : Int))
    (kt : b = true → W p l e R s m args below meth c H locs cells slots Q (F0 m tgt ls rest)) (kf : b = false → W p l e R s m args below meth c H locs cells slots Q (F0 m (pc + 3) ls rest)) : W p l e R s m args below meth c H locs cells slots Q (F0 m pc ls (.int (bI b) :: rest)) :=
  lv_if_ne hC.1 hC.2.1 hdg ht (fun h => kt (bI_n0.mp h)) (fun h => kf (bI_0.mp h))
theorem k_beq (hC : CallFix p m c cc nl s args Ts own) {b : Bool} {tgt : Nat} {off : Int} (hdg : decode cc pc = .ok (.ifCond .eq off, 3)) (ht : (pc : Int) + off = (tgt : Int))
    (kt : b = false → W p l e R s m args below meth c H locs cells slots Q (F0 m tgt ls rest)) (kf : b = true → W p l e R s m args below meth c H locs cells slots Q (F0 m (pc + 3) ls rest)) : W p l e R s m args below meth c H locs cells slots Q (F0 m pc ls (.int (bI b) :: rest)) :=
  lv_if_eq hC.1 hC.2.1 hdg ht (fun h => kt (bI_0.mp h)) (fun h => kf (bI_n0.mp h))
/-- a natural against 0 -/
theorem k_zne (hC : CallFix p m c cc nl s args Ts own) {a tgt : Nat} {off : Int} (ha : a < 2 ^ 31) (hdg : decode cc pc = .ok (.ifCond .ne off, 3)) (ht : (pc : Int) + off = (tgt : Int))
    (kt : a ≠ 0 → W p l e R s m args below meth c H locs cells slots Q (F0 m tgt ls rest)) (kf : a = 0 → W p l e R s m args below meth c H locs cells slots Q (F0 m (pc + 3) ls rest)) : W p l e R s m args below meth c H locs cells slots Q (F0 m pc ls (.int (nI a) :: rest)) :=
  lv_if_ne hC.1 hC.2.1 hdg ht (fun h => kt (fun q => h (by rw [q]; rfl))) (fun h => kf ((nI_eq ha (by decide)).mp (h.trans nI_0.symm)))
theorem k_zeq (hC : CallFix p m c cc nl s args Ts own) {a tgt : Nat} {off : Int} (ha : a < 2 ^ 31) (hdg : decode cc pc = .ok (.ifCond .eq off, 3)) (ht : (pc : Int) + off = (tgt : Int))
    (kt : a = 0 → W p l e R s m args below meth c H locs cells slots Q (F0 m tgt ls rest)) (kf : a ≠ 0 → W p l e R s m args below meth c H locs cells slots Q (F0 m (pc + 3) ls rest)) : W p l e R s m args below meth c H locs cells slots Q (F0 m pc ls (.int (nI a) :: rest)) :=
  lv_if_eq hC.1 hC.2.1 hdg ht (fun h => kt ((nI_eq ha (by decide)).mp (h.trans nI_0.symm))) (fun h => kf (fun q => h (by rw [q]; rfl)))
end NR

/-! ===== static methods that only compute ===== -/
/-- y answers r, and touches nothing -/
def pS (l : Launch) (y : MethodName) (cc : ByteArray) (nl : Nat) (ty : FieldType) (rm : Room) (as : List Value) (r : Int32) : Prop :=
  Met l y (ws_ y cc nl (some ty)) rm (fun v _ => v = as.toArray) (QcRead r) 0 0 (fun _ => False)
theorem pS.of {l : Launch} {y : MethodName} {cc : ByteArray} {nl : Nat} {ty : FieldType} {rm : Room} {as : List Value} {r : Int32} (hy : plainName y.cls = true) (hn : (lg_sl as).length ≤ nl)
    (body : ∀ (p : Program) (e : Env) (s : State) (m : MethodId) (below : List Frame) (meth : Method) (c : Code) (ls : Array Slot), CallFix p m c cc nl s as.toArray lw_all y.cls → meth.locks = false → meth.sig.returnType = some ty → lv_has ls nl (lv_args 0 as) →
      W p l e rm s m as.toArray below meth c s.heap [] 0 0 (MQ below (QcRead r) as.toArray s 0 0 (fun _ => False)) (F0 m 0 ls [])) : pS l y cc nl ty rm as r := by
  refine Met.ofW (cc := cc) (maxL := nl) (ret := some ty) hy rfl ?_
  intro p e s m args below meth c s₁ B hml hv
  subst hv
  have hts := atoms_spec (ws := ws_ y cc nl (some ty)) B.pre
  have hts : ∀ w ∈ lw_all, w.before as.toArray s = true := fun w h => hts w (List.mem_cons_of_mem _ h)
  have hown : s.vm.findClass y.cls = some m.cls := findClass_of_methodNamed B.named
  have hl := lv_entry as (n := nl) hn
  rw [lg_entry_eq]
  exact body p e s m below meth c _ ⟨B.exec, B.bytes, hml, hown, hts⟩ B.notSynchronized B.returns hl
section PSR
variable {p : Program} {l : Launch} {e : Env} {R : Room} {s : State} {m : MethodId} {args : Array Value} {below : List Frame} {meth : Method} {c : Code} {H : Heap} {locs : List Loc} {cells slots : Nat} {Q : State → Prop}
variable {cc : ByteArray} {nl pc : Nat} {ls : Array Slot} {rest : List Value} {own : String}
theorem pS_ret (hC : CallFix p m c cc nl s args lw_all own) (hlk : meth.locks = false) {ty : FieldType} (hr : meth.sig.returnType = some ty) {v r : Int32} (hv : v = r) (hn : narrow ty (.int v) = .int v) (hdg : decode cc pc = .ok (.ireturn, 1)) :
    W p l e R s m args below meth c s.heap [] 0 0 (MQ below (QcRead r) args s 0 0 (fun _ => False)) (F0 m pc ls [.int v]) := by
  subst hv
  exact W.zret hC.1 hC.2.1 hr hn (fun t ht hW => ⟨rfl, ht⟩) (fun q h => by cases h) hdg hlk
theorem pS_call (hC : CallFix p m c cc nl s args lw_all own) (hl : ls.size = nl) {y : MethodName} {bytes : ByteArray} {maxL index n : Nat} {ty : FieldType} {rm : Room} {as : List Value} {r : Int32} (hM : pS l y bytes maxL ty rm as r)
    (hT : GoodIn lw_all (va_wsS own index y (ws_ y bytes maxL (some ty)))) (hrc : rm.cells = 0) (hrs : rm.slots = 0) (hd : y.cls ≠ "java/lang/invoke/MethodHandle" ∧ y.cls ≠ "java/lang/invoke/VarHandle" ∧ (parseMethodDescriptor y.desc).map (fun d => d.parameters.length) = some n) (hR : rm.frames + 1 ≤ R.frames ∧ 8 + (maxL + 11) + rm.locals ≤ R.locals)
    (hn : as.length = n) {st0 : List Value} (hst : st0 = as.reverse ++ rest) (hW : (rest.map fun v => v.category).sum ≤ 8) (hdg : decode cc pc = .ok (.invokestatic index, 3)) (hf : cells ≤ R.cells ∧ slots ≤ R.slots)
    (kk : W p l e R s m args below meth c H locs cells slots Q (F0 m (pc + 3) ls (.int r :: rest))) : W p l e R s m args below meth c H locs cells slots Q (F0 m pc ls st0) :=
  W.callR (W.runS (As := as) (rest := rest) hC hM (va_cwS n hC.2.2.2.2 hT rfl hrc hrs hd hR) preEq rfl hn hl hst (lv_room hW) hdg hf) kk
end PSR
