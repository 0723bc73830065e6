/-! ===== the reader of the reference: rds G .. is G with all that the reader writes ===== -/
def rds (G : mG) (pl tk va bg wr wk rx : Int32) (rd : vV) : mG := va_up (va_up G 0 (fun i => if i = 10 then pl else if i = 11 then tk else if i = 12 then va else if i = 13 then bg else if i = 14 then wr else if i = 16 then wk else if i = 17 then rx else G 0 i)) 16 rd
theorem rds_ext {K : mG} {G : mG} {pl tk va bg wr wk rx : Int32} {rd : vV} (h16 : K 16 = rd) (h0 : ∀ i, K 0 i = if i = 10 then pl else if i = 11 then tk else if i = 12 then va else if i = 13 then bg else if i = 14 then wr else if i = 16 then wk else if i = 17 then rx else G 0 i) (ho : ∀ n, n ≠ 0 → n ≠ 16 → K n = G n) : K = rds G pl tk va bg wr wk rx rd := by
  funext n
  by_cases h1 : n = 0
  · subst h1; funext i; exact h0 i
  · by_cases h2 : n = 16
    · subst h2; exact h16
    · rw [ho n h1 h2]
      unfold rds
      rw [va_up_ne _ _ h2, va_up_ne _ _ h1]
theorem rds_o (G : mG) (pl tk va bg wr wk rx : Int32) (rd : vV) {n : Nat} (h1 : n ≠ 0) (h2 : n ≠ 16) : rds G pl tk va bg wr wk rx rd n = G n := by
  unfold rds
  rw [va_up_ne _ _ h2, va_up_ne _ _ h1]
theorem rds_in (G : mG) : G = rds G (G 0 10) (G 0 11) (G 0 12) (G 0 13) (G 0 14) (G 0 16) (G 0 17) (G 16) := by
  refine rds_ext rfl (fun i => ?_) (fun _ _ _ => rfl)
  repeat' split
  all_goals first | rfl | (subst i; rfl)
theorem rds_10 (G : mG) (pl tk va bg wr wk rx : Int32) (rd : vV) (x : Int32) : g2 (rds G pl tk va bg wr wk rx rd) 0 10 x = rds G x tk va bg wr wk rx rd := by
  refine rds_ext rfl (fun i => ?_) (fun n h1 h2 => by unfold g2; rw [va_up_ne _ _ h1, rds_o _ _ _ _ _ _ _ _ _ h1 h2])
  show upd _ 10 x i = _
  unfold upd
  by_cases h : i = 10
  · rw [if_pos h, if_pos h]
  · rw [if_neg h]
    show (if i = 10 then pl else _) = if i = 10 then x else _
    rw [if_neg h, if_neg h]
theorem rds_11 (G : mG) (pl tk va bg wr wk rx : Int32) (rd : vV) (x : Int32) : g2 (rds G pl tk va bg wr wk rx rd) 0 11 x = rds G pl x va bg wr wk rx rd := by
  refine rds_ext rfl (fun i => ?_) (fun n h1 h2 => by unfold g2; rw [va_up_ne _ _ h1, rds_o _ _ _ _ _ _ _ _ _ h1 h2])
  show upd _ 11 x i = _
  unfold upd
  by_cases h : i = 11
  · subst h; rfl
  · rw [if_neg h]
    show (if i = 10 then pl else if i = 11 then tk else _) = if i = 10 then pl else if i = 11 then x else _
    rw [if_neg h, if_neg h]
theorem rds_12 (G : mG) (pl tk va bg wr wk rx : Int32) (rd : vV) (x : Int32) : g2 (rds G pl tk va bg wr wk rx rd) 0 12 x = rds G pl tk x bg wr wk rx rd := by
  refine rds_ext rfl (fun i => ?_) (fun n h1 h2 => by unfold g2; rw [va_up_ne _ _ h1, rds_o _ _ _ _ _ _ _ _ _ h1 h2])
  show upd _ 12 x i = _
  unfold upd
  by_cases h : i = 12
  · subst h; rfl
  · rw [if_neg h]
    show (if i = 10 then pl else if i = 11 then tk else if i = 12 then va else _) = if i = 10 then pl else if i = 11 then tk else if i = 12 then x else _
    rw [if_neg h, if_neg h]
theorem rds_13 (G : mG) (pl tk va bg wr wk rx : Int32) (rd : vV) (x : Int32) : g2 (rds G pl tk va bg wr wk rx rd) 0 13 x = rds G pl tk va x wr wk rx rd := by
  refine rds_ext rfl (fun i => ?_) (fun n h1 h2 => by unfold g2; rw [va_up_ne _ _ h1, rds_o _ _ _ _ _ _ _ _ _ h1 h2])
  show upd _ 13 x i = _
  unfold upd
  by_cases h : i = 13
  · subst h; rfl
  · rw [if_neg h]
    show (if i = 10 then pl else if i = 11 then tk else if i = 12 then va else if i = 13 then bg else _) = if i = 10 then pl else if i = 11 then tk else if i = 12 then va else if i = 13 then x else _
    rw [if_neg h, if_neg h]
theorem rds_14 (G : mG) (pl tk va bg wr wk rx : Int32) (rd : vV) (x : Int32) : g2 (rds G pl tk va bg wr wk rx rd) 0 14 x = rds G pl tk va bg x wk rx rd := by
  refine rds_ext rfl (fun i => ?_) (fun n h1 h2 => by unfold g2; rw [va_up_ne _ _ h1, rds_o _ _ _ _ _ _ _ _ _ h1 h2])
  show upd _ 14 x i = _
  unfold upd
  by_cases h : i = 14
  · subst h; rfl
  · rw [if_neg h]
    show (if i = 10 then pl else if i = 11 then tk else if i = 12 then va else if i = 13 then bg else if i = 14 then wr else _) = if i = 10 then pl else if i = 11 then tk else if i = 12 then va else if i = 13 then bg else if i = 14 then x else _
    rw [if_neg h, if_neg h]
theorem rds_w (G : mG) (pl tk va bg wr wk rx : Int32) (rd : vV) (x : Int32) : g2 (rds G pl tk va bg wr wk rx rd) 0 16 x = rds G pl tk va bg wr x rx rd := by
  refine rds_ext rfl (fun i => ?_) (fun n h1 h2 => by unfold g2; rw [va_up_ne _ _ h1, rds_o _ _ _ _ _ _ _ _ _ h1 h2])
  show upd _ 16 x i = _
  unfold upd
  by_cases h : i = 16
  · subst h; rfl
  · rw [if_neg h]
    show (if i = 10 then pl else if i = 11 then tk else if i = 12 then va else if i = 13 then bg else if i = 14 then wr else if i = 16 then wk else _) = if i = 10 then pl else if i = 11 then tk else if i = 12 then va else if i = 13 then bg else if i = 14 then wr else if i = 16 then x else _
    rw [if_neg h, if_neg h]
theorem rds_17 (G : mG) (pl tk va bg wr wk rx : Int32) (rd : vV) (x : Int32) : g2 (rds G pl tk va bg wr wk rx rd) 0 17 x = rds G pl tk va bg wr wk x rd := by
  refine rds_ext rfl (fun i => ?_) (fun n h1 h2 => by unfold g2; rw [va_up_ne _ _ h1, rds_o _ _ _ _ _ _ _ _ _ h1 h2])
  show upd _ 17 x i = _
  unfold upd
  by_cases h : i = 17
  · subst h; rfl
  · rw [if_neg h]
    show (if i = 10 then pl else if i = 11 then tk else if i = 12 then va else if i = 13 then bg else if i = 14 then wr else if i = 16 then wk else if i = 17 then rx else _) = if i = 10 then pl else if i = 11 then tk else if i = 12 then va else if i = 13 then bg else if i = 14 then wr else if i = 16 then wk else if i = 17 then x else _
    rw [if_neg h, if_neg h]
theorem rds_rd (G : mG) (pl tk va bg wr wk rx : Int32) (rd : vV) (i : Nat) (x : Int32) : g2 (rds G pl tk va bg wr wk rx rd) 16 i x = rds G pl tk va bg wr wk rx (upd rd i x) :=
  rds_ext rfl (fun i => rfl) (fun n h1 h2 => by unfold g2; rw [va_up_ne _ _ h2, rds_o _ _ _ _ _ _ _ _ _ h1 h2])
theorem rds_rds (G : mG) (pl tk va bg wr wk rx : Int32) (rd : vV) (pl' tk' va' bg' wr' wk' rx' : Int32) (rd' : vV) : rds (rds G pl tk va bg wr wk rx rd) pl' tk' va' bg' wr' wk' rx' rd' = rds G pl' tk' va' bg' wr' wk' rx' rd' := by
  refine rds_ext rfl (fun i => ?_) (fun n h1 h2 => by rw [rds_o _ _ _ _ _ _ _ _ _ h1 h2, rds_o _ _ _ _ _ _ _ _ _ h1 h2])
  show (if i = 10 then pl' else if i = 11 then tk' else if i = 12 then va' else if i = 13 then bg' else if i = 14 then wr' else if i = 16 then wk' else if i = 17 then rx' else if i = 10 then pl else if i = 11 then tk else if i = 12 then va else if i = 13 then bg else if i = 14 then wr else if i = 16 then wk else if i = 17 then rx else G 0 i) = _
  by_cases h10 : i = 10
  · simp only [if_pos h10]
  simp only [if_neg h10]
  by_cases h11 : i = 11
  · simp only [if_pos h11]
  simp only [if_neg h11]
  by_cases h12 : i = 12
  · simp only [if_pos h12]
  simp only [if_neg h12]
  by_cases h13 : i = 13
  · simp only [if_pos h13]
  simp only [if_neg h13]
  by_cases h14 : i = 14
  · simp only [if_pos h14]
  simp only [if_neg h14]
  by_cases h16 : i = 16
  · simp only [if_pos h16]
  simp only [if_neg h16]
  by_cases h17 : i = 17
  · simp only [if_pos h17]
  simp only [if_neg h17]
/-! tokens: T the tape, n bytes, p the place where the token begins -/
def dgt (T : vV) (n p : Nat) : Bool := decide (p < n) && inB (T p) (nI 48) (nI 57)
def vst (v x : Int32) : Int32 := if v ≤ nI 99 then nI 10 * v + x - nI 48 else v
def dgF (T : vV) (n : Nat) : Nat → Nat → Int32 → Nat × Int32
  | 0, p, v => (p, v)
  | k + 1, p, v => if dgt T n p = true then dgF T n k (p + 1) (vst v (T p)) else (p, v)
def dgV (T : vV) (n p : Nat) (v : Int32) : Nat × Int32 := dgF T n (n - p) p v
theorem dgt_e1 {T : vV} {n p : Nat} (h : n ≤ p) : dgt T n p = false := by
  unfold dgt
  rw [decide_eq_false (by omega)]
  rfl
theorem dgt_e2 {T : vV} {n p : Nat} (h : inB (T p) (nI 48) (nI 57) = false) : dgt T n p = false := by
  unfold dgt
  rw [h, Bool.and_false]
theorem dgt_s {T : vV} {n p : Nat} (h1 : p < n) (h : inB (T p) (nI 48) (nI 57) = true) : dgt T n p = true := by
  unfold dgt
  rw [h, decide_eq_true h1]
  rfl
theorem dgV_s {T : vV} {n p : Nat} {v : Int32} (h1 : p < n) (h : inB (T p) (nI 48) (nI 57) = true) : dgV T n p v = dgV T n (p + 1) (vst v (T p)) := by
  unfold dgV
  rw [show n - p = (n - (p + 1)) + 1 by omega]
  show (if dgt T n p = true then _ else _) = _
  rw [if_pos (dgt_s h1 h)]
theorem dgV_e {T : vV} {n p : Nat} {v : Int32} (h : dgt T n p = false) : dgV T n p v = (p, v) := by
  unfold dgV
  cases n - p with
  | zero => rfl
  | succ k =>
    show (if dgt T n p = true then _ else _) = _
    rw [if_neg (by rw [h]; decide)]
theorem dgF_ge (T : vV) (n : Nat) : ∀ k p v, p ≤ (dgF T n k p v).1
  | 0, p, v => Nat.le_refl p
  | k + 1, p, v => by
    show p ≤ (if dgt T n p = true then _ else _ : Nat × Int32).1
    split
    · exact Nat.le_trans (Nat.le_succ p) (dgF_ge T n k (p + 1) _)
    · exact Nat.le_refl p
theorem dgF_le (T : vV) (n : Nat) : ∀ k p v, p ≤ n → (dgF T n k p v).1 ≤ n
  | 0, p, v, h => h
  | k + 1, p, v, h => by
    show (if dgt T n p = true then _ else _ : Nat × Int32).1 ≤ n
    split
    · rename_i hd
      refine dgF_le T n k (p + 1) _ ?_
      simp only [dgt, Bool.and_eq_true, decide_eq_true_eq] at hd
      exact hd.1
    · exact h
def isLet (x : Int32) : Bool := inB x (nI 97) (nI 122) || (decide (x = nI 44) || decide (x = nI 59))
/-- the token at p: the place behind it, its sort, its value -/
def ntT (T : vV) (n p : Nat) : Nat × Int32 × Int32 :=
  if p < (dgV T n p (nI 0)).1 then ((dgV T n p (nI 0)).1, (if 2 < (dgV T n p (nI 0)).1 - p then nI 0 else nI 2), (dgV T n p (nI 0)).2)
  else if p = n then (p, nI 3, (dgV T n p (nI 0)).2) else (p + 1, bI (isLet (T p)), T p)
theorem ntT_le {T : vV} {n p : Nat} (h : p ≤ n) : (ntT T n p).1 ≤ n := by
  unfold ntT
  split
  · exact dgF_le T n _ p _ h
  · split
    · exact h
    · show p + 1 ≤ n
      omega
theorem nt_d {T : vV} {n p q : Nat} {v : Int32} (e : dgV T n p (nI 0) = (q, v)) (h : p < q) : ntT T n p = (q, (if 2 < q - p then nI 0 else nI 2), v) := by
  unfold ntT
  rw [e, if_pos h]
theorem nt_e {T : vV} {n p q : Nat} {v : Int32} (e : dgV T n p (nI 0) = (q, v)) (h : q ≤ p) (hn : p = n) : ntT T n p = (p, nI 3, v) := by
  unfold ntT
  rw [e, if_neg (by omega : ¬ p < (q, v).1), if_pos hn]
theorem nt_o {T : vV} {n p q : Nat} {v : Int32} (e : dgV T n p (nI 0) = (q, v)) (h : q ≤ p) (hn : p ≠ n) : ntT T n p = (p + 1, bI (isLet (T p)), T p) := by
  unfold ntT
  rw [e, if_neg (by omega : ¬ p < (q, v).1), if_neg hn]
theorem dgV_ge {T : vV} {n p q : Nat} {v w : Int32} (e : dgV T n p w = (q, v)) : p ≤ q := by
  have h := dgF_ge T n (n - p) p w
  rw [show dgF T n (n - p) p w = (q, v) from e] at h
  exact h
/-! the reader's result: where it goes on, how many works, what is read; or the fault and where it begins -/
abbrev PE : Type := Except (Int32 × Nat) (Nat × Nat × vV)
def isL (T : vV) (n b : Nat) (c : Int32) : Bool := decide ((ntT T n b).2.1 = nI 1) && decide ((ntT T n b).2.2 = c)
def pTake (T : vV) (n : Nat) (c : Int32) (b wk : Nat) (rd : vV) : PE := if isL T n b c = true then .ok ((ntT T n b).1, wk, rd) else .error (nI 1, b)
def pNum (T : vV) (n : Nat) (lo hi : Int32) (at_ : Nat) (sg : Int32) (b wk : Nat) (rd : vV) : PE :=
  if (ntT T n b).2.1 = nI 2 then (if inB (ntT T n b).2.2 lo hi = true then pTake T n sg (ntT T n b).1 wk (upd rd at_ (ntT T n b).2.2) else .error (nI 2, b)) else .error (nI 1, b)
def pF4 (T : vV) (n at_ : Nat) : Nat → Nat → Nat → Nat → vV → PE
  | 0, _, b, wk, rd => .ok (b, wk, rd)
  | r + 1, k, b, wk, rd => match pNum T n 0 (nI 31) (at_ + k) (if k = 3 then nI 59 else nI 44) b wk rd with
    | .ok S => pF4 T n at_ r (k + 1) S.1 S.2.1 S.2.2
    | .error e => .error e
theorem pF4_ok {T : vV} {n at_ k b wk b' wk' : Nat} {rd rd' : vV} {sg : Int32} (h : k < 4) (hs : (if k = 3 then nI 59 else nI 44) = sg) (e : pNum T n 0 (nI 31) (at_ + k) sg b wk rd = .ok (b', wk', rd')) : pF4 T n at_ (4 - k) k b wk rd = pF4 T n at_ (4 - (k + 1)) (k + 1) b' wk' rd' := by
  rw [show 4 - k = (4 - (k + 1)) + 1 by omega]
  show (match pNum T n 0 (nI 31) (at_ + k) (if k = 3 then nI 59 else nI 44) b wk rd with
    | .ok S => pF4 T n at_ (4 - (k + 1)) (k + 1) S.1 S.2.1 S.2.2
    | .error e => .error e) = _
  rw [hs, e]
theorem pF4_er {T : vV} {n at_ k b wk : Nat} {rd : vV} {sg : Int32} {x : Int32 × Nat} (h : k < 4) (hs : (if k = 3 then nI 59 else nI 44) = sg) (e : pNum T n 0 (nI 31) (at_ + k) sg b wk rd = .error x) : pF4 T n at_ (4 - k) k b wk rd = .error x := by
  rw [show 4 - k = (4 - (k + 1)) + 1 by omega]
  show (match pNum T n 0 (nI 31) (at_ + k) (if k = 3 then nI 59 else nI 44) b wk rd with
    | .ok S => pF4 T n at_ (4 - (k + 1)) (k + 1) S.1 S.2.1 S.2.2
    | .error e => .error e) = _
  rw [hs, e]
theorem pF4_4 {T : vV} {n at_ k b wk : Nat} {rd : vV} (h : 4 ≤ k) : pF4 T n at_ (4 - k) k b wk rd = .ok (b, wk, rd) := by
  rw [show 4 - k = 0 by omega]
  rfl
def pFour (T : vV) (n : Nat) (c : Int32) (at_ b wk : Nat) (rd : vV) : PE := match pTake T n c b wk rd with
  | .ok S => pF4 T n at_ (4 - 0) 0 S.1 S.2.1 S.2.2
  | .error e => .error e
theorem pFour_ok {T : vV} {n at_ b wk b' wk' : Nat} {rd rd' : vV} {c : Int32} (e : pTake T n c b wk rd = .ok (b', wk', rd')) : pFour T n c at_ b wk rd = pF4 T n at_ (4 - 0) 0 b' wk' rd' := by
  unfold pFour
  rw [e]
theorem pFour_er {T : vV} {n at_ b wk : Nat} {rd : vV} {c : Int32} {x : Int32 × Nat} (e : pTake T n c b wk rd = .error x) : pFour T n c at_ b wk rd = .error x := by
  unfold pFour
  rw [e]
def pWork2 (T : vV) (n : Nat) (kind : Int32) (x b wk : Nat) (rd : vV) : PE :=
  if (ntT T n b).2.1 = nI 2 then
    if (ntT T n b).2.2 ≤ nI 3 then
      if rd (9 + 4 * x + ix (ntT T n b).2.2) ≤ 0 then
        match pTake T n (nI 44) (ntT T n b).1 (wk + 1) (upd rd (9 + (4 * x + ix (ntT T n b).2.2)) kind) with
        | .ok S => pNum T n 0 (nI 99) (25 + (4 * x + ix (ntT T n b).2.2)) (nI 59) S.1 S.2.1 S.2.2
        | .error e => .error e
      else .error (nI 2, b)
    else .error (nI 2, b)
  else .error (nI 1, b)
def pWork1 (T : vV) (n : Nat) (kind : Int32) (b wk : Nat) (rd : vV) : PE :=
  if (ntT T n b).2.1 = nI 2 then
    if (ntT T n b).2.2 ≤ nI 3 then
      match pTake T n (nI 44) (ntT T n b).1 wk rd with
      | .ok S => pWork2 T n kind (ix (ntT T n b).2.2) S.1 S.2.1 S.2.2
      | .error e => .error e
    else .error (nI 2, b)
  else .error (nI 1, b)
def pWork (T : vV) (n : Nat) (kind : Int32) (b wk : Nat) (rd : vV) : PE := if wk = 6 then .error (nI 3, b) else pWork1 T n kind (ntT T n b).1 wk rd
/-- a call of the reader: its world behind it -/
def rPost (G : mG) (n : Nat) (rx : Int32) (E : PE) (r : Int32) (G' : mG) : Prop :=
  (∃ b wk rd wr, E = .ok (b, wk, rd) ∧ b ≤ n ∧ r = nI 1 ∧ G' = rds G (nI (ntT (G 8) n b).1) (ntT (G 8) n b).2.1 (ntT (G 8) n b).2.2 (nI b) wr (nI wk) rx rd) ∨
  (∃ w b wk rd, E = .error (w, b) ∧ b ≤ n ∧ r = nI 0 ∧ G' = rds G (nI (ntT (G 8) n b).1) (ntT (G 8) n b).2.1 (ntT (G 8) n b).2.2 (nI b) w (nI wk) rx rd)
/-- the value of a number -/
theorem dig_nat {x : Int32} (h : inB x (nI 48) (nI 57) = true) : ∃ d, d ≤ 9 ∧ x = nI (48 + d) := by
  obtain ⟨k, h0, hk, rfl⟩ := inB_nat1 (a := 48) (n := 57) (by decide) (by decide) h
  exact ⟨k - 48, by omega, by rw [show 48 + (k - 48) = k by omega]⟩
theorem vst_nat {v d : Nat} (hv : v ≤ 9) (hd : d ≤ 9) : vst (nI v) (nI (48 + d)) = nI (10 * v + d) := by
  unfold vst
  rw [if_pos (nI_le (by omega) (by decide)), pk_mul, nI_add, pk_sub (by omega)]
  congr 1
  omega
theorem num_nat {T : vV} {n b : Nat} (h : (ntT T n b).2.1 = nI 2) : ∃ j, j ≤ 99 ∧ (ntT T n b).2.2 = nI j := by
  cases d0 : dgt T n b with
  | true =>
    have d0' := d0
    simp only [dgt, Bool.and_eq_true, decide_eq_true_eq] at d0'
    obtain ⟨x, hx, ex⟩ := dig_nat d0'.2
    have e0 := dgV_s (v := nI 0) d0'.1 d0'.2
    rw [ex, vst_nat (by decide) hx] at e0
    cases d1 : dgt T n (b + 1) with
    | true =>
      have d1' := d1
      simp only [dgt, Bool.and_eq_true, decide_eq_true_eq] at d1'
      obtain ⟨y, hy, ey⟩ := dig_nat d1'.2
      have e1 := dgV_s (v := nI (10 * 0 + x)) d1'.1 d1'.2
      rw [ey, vst_nat (by omega) hy] at e1
      cases d2 : dgt T n (b + 1 + 1) with
      | true =>
        exfalso
        have d2' := d2
        simp only [dgt, Bool.and_eq_true, decide_eq_true_eq] at d2'
        have e2 := dgV_s (v := nI (10 * (10 * 0 + x) + y)) d2'.1 d2'.2
        rw [e1, e2] at e0
        have hge : b + 1 + 1 + 1 ≤ (dgV T n b (nI 0)).1 := by
          rw [e0]
          exact dgF_ge T n _ _ _
        unfold ntT at h
        rw [if_pos (by omega), if_pos (by omega)] at h
        exact absurd (show nI 0 = nI 2 from h) (by decide)
      | false =>
        rw [e1, dgV_e d2] at e0
        rw [nt_d e0 (by omega)]
        exact ⟨_, by omega, rfl⟩
    | false =>
      rw [dgV_e d1] at e0
      rw [nt_d e0 (by omega)]
      exact ⟨_, by omega, rfl⟩
  | false =>
    exfalso
    have e0 := dgV_e (v := nI 0) d0
    by_cases hn : b = n
    · rw [nt_e e0 (Nat.le_refl b) hn] at h
      exact absurd (show nI 3 = nI 2 from h) (by decide)
    · rw [nt_o e0 (Nat.le_refl b) hn] at h
      have h : bI (isLet (T b)) = nI 2 := h
      cases hq : isLet (T b) <;> rw [hq] at h <;> exact absurd h (by decide)
theorem num_le3 {T : vV} {n b : Nat} (h : (ntT T n b).2.1 = nI 2) (h3 : (ntT T n b).2.2 ≤ nI 3) : ∃ j, j ≤ 3 ∧ (ntT T n b).2.2 = nI j := by
  obtain ⟨j, hj, e⟩ := num_nat h
  rw [e] at h3
  exact ⟨j, (nI_leI (by omega) (by decide)).mp h3, e⟩
theorem pWork1_ok {T : vV} {n b wk b' wk' x : Nat} {kind : Int32} {rd rd' : vV} (h2 : (ntT T n b).2.1 = nI 2) (h3 : (ntT T n b).2.2 ≤ nI 3) (hx : x ≤ 3) (ex : (ntT T n b).2.2 = nI x) (e : pTake T n (nI 44) (ntT T n b).1 wk rd = .ok (b', wk', rd')) : pWork1 T n kind b wk rd = pWork2 T n kind x b' wk' rd' := by
  unfold pWork1
  rw [if_pos h2, if_pos h3, e, ex, ix_nI (by omega)]
theorem pWork1_er {T : vV} {n b wk : Nat} {kind : Int32} {rd : vV} {q : Int32 × Nat} (h2 : (ntT T n b).2.1 = nI 2) (h3 : (ntT T n b).2.2 ≤ nI 3) (e : pTake T n (nI 44) (ntT T n b).1 wk rd = .error q) : pWork1 T n kind b wk rd = .error q := by
  unfold pWork1
  rw [if_pos h2, if_pos h3, e]
theorem pWork2_f {T : vV} {n b wk x y : Nat} {kind : Int32} {rd : vV} (h2 : (ntT T n b).2.1 = nI 2) (h3 : (ntT T n b).2.2 ≤ nI 3) (hy : y ≤ 3) (ey : (ntT T n b).2.2 = nI y) (h : ¬ rd (9 + 4 * x + y) ≤ 0) : pWork2 T n kind x b wk rd = .error (nI 2, b) := by
  unfold pWork2
  rw [if_pos h2, if_pos h3, ey, ix_nI (by omega), if_neg h]
theorem pWork2_ok {T : vV} {n b wk b' wk' x y : Nat} {kind : Int32} {rd rd' : vV} (h2 : (ntT T n b).2.1 = nI 2) (h3 : (ntT T n b).2.2 ≤ nI 3) (hy : y ≤ 3) (ey : (ntT T n b).2.2 = nI y) (h : rd (9 + 4 * x + y) ≤ 0) (e : pTake T n (nI 44) (ntT T n b).1 (wk + 1) (upd rd (9 + (4 * x + y)) kind) = .ok (b', wk', rd')) : pWork2 T n kind x b wk rd = pNum T n 0 (nI 99) (25 + (4 * x + y)) (nI 59) b' wk' rd' := by
  unfold pWork2
  rw [if_pos h2, if_pos h3, ey, ix_nI (by omega), if_pos h, e]
theorem pWork2_er {T : vV} {n b wk x y : Nat} {kind : Int32} {rd : vV} {q : Int32 × Nat} (h2 : (ntT T n b).2.1 = nI 2) (h3 : (ntT T n b).2.2 ≤ nI 3) (hy : y ≤ 3) (ey : (ntT T n b).2.2 = nI y) (h : rd (9 + 4 * x + y) ≤ 0) (e : pTake T n (nI 44) (ntT T n b).1 (wk + 1) (upd rd (9 + (4 * x + y)) kind) = .error q) : pWork2 T n kind x b wk rd = .error q := by
  unfold pWork2
  rw [if_pos h2, if_pos h3, ey, ix_nI (by omega), if_pos h, e]
theorem pTake_wk {T : vV} {n b wk b' wk' : Nat} {c : Int32} {rd rd' : vV} (e : pTake T n c b wk rd = .ok (b', wk', rd')) : wk' = wk ∧ rd' = rd ∧ b' = (ntT T n b).1 := by
  unfold pTake at e
  split at e
  · injection e with e
    injection e with e1 e
    injection e with e2 e3
    exact ⟨e2.symm, e3.symm, e1.symm⟩
  · exact absurd e (by simp)
theorem pNum_wk {T : vV} {n b wk b' wk' a : Nat} {c lo hi : Int32} {rd rd' : vV} (e : pNum T n lo hi a c b wk rd = .ok (b', wk', rd')) : wk' = wk := by
  unfold pNum at e
  split at e
  · split at e
    · exact (pTake_wk e).1
    · exact absurd e (by simp)
  · exact absurd e (by simp)
theorem pWork_wk {T : vV} {n b wk b' wk' : Nat} {k : Int32} {rd rd' : vV} (e : pWork T n k b wk rd = .ok (b', wk', rd')) : wk' = wk + 1 ∧ wk ≠ 6 := by
  unfold pWork at e
  split at e
  · exact absurd e (by simp)
  · rename_i h6
    refine ⟨?_, h6⟩
    unfold pWork1 at e
    split at e
    · split at e
      · split at e
        · rename_i S hS
          obtain ⟨b1, w1, r1⟩ := S
          have hw : w1 = wk := (pTake_wk hS).1
          dsimp only at e
          unfold pWork2 at e
          split at e
          · split at e
            · split at e
              · split at e
                · rename_i S2 hS2
                  obtain ⟨b2, w2, r2⟩ := S2
                  have hw2 : w2 = w1 + 1 := (pTake_wk hS2).1
                  have hw3 : wk' = w2 := pNum_wk e
                  omega
                · exact absurd e (by simp)
              · exact absurd e (by simp)
            · exact absurd e (by simp)
          · exact absurd e (by simp)
        · exact absurd e (by simp)
      · exact absurd e (by simp)
    · exact absurd e (by simp)
def kOf (T : vV) (n b : Nat) : Nat := if isL T n b (nI 119) = true then 1 else if isL T n b (nI 110) = true then 2 else if isL T n b (nI 115) = true then 3 else if isL T n b (nI 104) = true then 4 else if isL T n b (nI 118) = true then 5 else 0
def pAll (T : vV) (n : Nat) : Nat → Nat → Nat → vV → PE
  | 0, _, _, _ => .error (nI 0, 0)
  | k + 1, b, wk, rd => if (ntT T n b).2.1 = nI 3 then .ok (b, wk, rd) else if kOf T n b = 0 then .error (nI 1, b) else match pWork T n (nI (kOf T n b)) b wk rd with
    | .ok S => pAll T n k S.1 S.2.1 S.2.2
    | .error e => .error e
theorem pAll_3 {T : vV} {n b wk : Nat} {rd : vV} (h : wk ≤ 6) (h3 : (ntT T n b).2.1 = nI 3) : pAll T n (7 - wk) b wk rd = .ok (b, wk, rd) := by
  rw [show 7 - wk = (6 - wk) + 1 by omega]
  exact if_pos h3
theorem pAll_0 {T : vV} {n b wk : Nat} {rd : vV} (h : wk ≤ 6) (h3 : ¬ (ntT T n b).2.1 = nI 3) (hk : kOf T n b = 0) : pAll T n (7 - wk) b wk rd = .error (nI 1, b) := by
  rw [show 7 - wk = (6 - wk) + 1 by omega]
  exact (if_neg h3).trans (if_pos hk)
theorem pAll_er {T : vV} {n b wk : Nat} {rd : vV} {k : Nat} {q : Int32 × Nat} (h : wk ≤ 6) (h3 : ¬ (ntT T n b).2.1 = nI 3) (hk : kOf T n b = k) (h0 : k ≠ 0) (e : pWork T n (nI k) b wk rd = .error q) : pAll T n (7 - wk) b wk rd = .error q := by
  rw [show 7 - wk = (6 - wk) + 1 by omega]
  unfold pAll
  rw [if_neg h3, hk, if_neg h0, e]
theorem pAll_ok {T : vV} {n b wk b' wk' : Nat} {rd rd' : vV} {k : Nat} (h : wk ≤ 6) (h3 : ¬ (ntT T n b).2.1 = nI 3) (hk : kOf T n b = k) (h0 : k ≠ 0) (e : pWork T n (nI k) b wk rd = .ok (b', wk', rd')) : wk' ≤ 6 ∧ wk' = wk + 1 ∧ pAll T n (7 - wk) b wk rd = pAll T n (7 - wk') b' wk' rd' := by
  obtain ⟨h1, h2⟩ := pWork_wk e
  refine ⟨by omega, h1, ?_⟩
  rw [show 7 - wk = (7 - wk') + 1 by omega]
  conv => lhs; unfold pAll
  rw [if_neg h3, hk, if_neg h0, e]
def z0 : vV := fun _ => nI 0
def pRead (T : vV) (n : Nat) : PE := match pFour T n (nI 97) 1 0 0 z0 with
  | .ok S => (match pFour T n (nI 98) 5 S.1 S.2.1 S.2.2 with
    | .ok S => pAll T n (7 - S.2.1) S.1 S.2.1 S.2.2
    | .error e => .error e)
  | .error e => .error e
theorem pF4_wk {T : vV} {n a : Nat} : ∀ {r k b wk b' wk' : Nat} {rd rd' : vV}, pF4 T n a r k b wk rd = .ok (b', wk', rd') → wk' = wk
  | 0, k, b, wk, b', wk', rd, rd', e => by
    have e : (Except.ok (b, wk, rd) : PE) = .ok (b', wk', rd') := e
    injection e with e
    injection e with e1 e
    injection e with e2 e3
    exact e2.symm
  | r + 1, k, b, wk, b', wk', rd, rd', e => by
    unfold pF4 at e
    split at e
    · rename_i S hS
      exact (pF4_wk e).trans (pNum_wk hS)
    · exact absurd e (by simp)
theorem pFour_wk {T : vV} {n a b wk b' wk' : Nat} {c : Int32} {rd rd' : vV} (e : pFour T n c a b wk rd = .ok (b', wk', rd')) : wk' = wk := by
  unfold pFour at e
  split at e
  · rename_i S hS
    exact (pF4_wk e).trans (pTake_wk hS).1
  · exact absurd e (by simp)
theorem pRead_a {T : vV} {n : Nat} {q : Int32 × Nat} (e : pFour T n (nI 97) 1 0 0 z0 = .error q) : pRead T n = .error q := by
  unfold pRead
  rw [e]
theorem pRead_b {T : vV} {n b wk : Nat} {rd : vV} {q : Int32 × Nat} (e : pFour T n (nI 97) 1 0 0 z0 = .ok (b, wk, rd)) (e2 : pFour T n (nI 98) 5 b wk rd = .error q) : pRead T n = .error q := by
  unfold pRead
  rw [e]
  dsimp only
  rw [e2]
theorem pRead_c {T : vV} {n b wk b' wk' : Nat} {rd rd' : vV} (e : pFour T n (nI 97) 1 0 0 z0 = .ok (b, wk, rd)) (e2 : pFour T n (nI 98) 5 b wk rd = .ok (b', wk', rd')) : wk' ≤ 6 ∧ pRead T n = pAll T n (7 - wk') b' wk' rd' := by
  have h1 := pFour_wk e
  have h2 := pFour_wk e2
  refine ⟨by omega, ?_⟩
  unfold pRead
  rw [e]
  dsimp only
  rw [e2]
def rPostX (G : mG) (n : Nat) (E : PE) (r : Int32) (G' : mG) : Prop := ∃ rx, rPost G n rx E r G'
theorem rds_g0 (G : mG) (pl tk va bg wr wk rx : Int32) (rd : vV) (k : Nat) (x : Int32) (h : k < 10 ∨ 17 < k) : g2 (rds G pl tk va bg wr wk rx rd) 0 k x = rds (g2 G 0 k x) pl tk va bg wr wk rx rd := by
  refine rds_ext rfl (fun i => ?_) (fun n h1 h2 => by unfold g2; rw [va_up_ne _ _ h1, va_up_ne _ _ h1, rds_o _ _ _ _ _ _ _ _ _ h1 h2])
  show upd _ k x i = _
  by_cases e : i = k
  · subst e
    rw [if_neg (by omega), if_neg (by omega), if_neg (by omega), if_neg (by omega), if_neg (by omega), if_neg (by omega), if_neg (by omega)]
    simp [upd, g2, va_up]
  · show (if i = k then _ else rds G pl tk va bg wr wk rx rd 0 i) = _
    rw [if_neg e]
    have e2 : g2 G 0 k x 0 i = G 0 i := by simp [upd, g2, va_up, e]
    rw [e2]
    rfl
theorem rds_up6 (G : mG) (pl tk va bg wr wk rx : Int32) (rd : vV) (st : vV) : va_up (rds G pl tk va bg wr wk rx rd) 6 st = rds (va_up G 6 st) pl tk va bg wr wk rx rd := by
  refine rds_ext rfl (fun i => rfl) (fun n h1 h2 => ?_)
  by_cases e : n = 6
  · subst e; rfl
  · rw [va_up_ne _ _ e, va_up_ne _ _ e, rds_o _ _ _ _ _ _ _ _ _ h1 h2]
def mX6_pass (G : mG) : Int32 × mG := match pRead (G 8) (ix (G 0 8)) with
  | .error e => ((-1000100 : Int32) - nI e.2, g2 (g2 G 0 8 (nI 0)) 0 9 e.1)
  | .ok S => (nI S.2.1, g2 (g2 (va_up (g2 G 0 8 (nI 0)) 6 S.2.2) 0 4 (nI 1)) 0 22 (nI 0))
theorem mpass_er {G : mG} {n b : Nat} {w : Int32} (hn : n ≤ 120) (en : G 0 8 = nI n) (e : pRead (G 8) n = .error (w, b)) : mX6_pass G = ((-1000100 : Int32) - nI b, g2 (g2 G 0 8 (nI 0)) 0 9 w) := by
  unfold mX6_pass
  rw [en, ix_nI (by omega), e]
theorem mpass_ok {G : mG} {n b wk : Nat} {rd : vV} (hn : n ≤ 120) (en : G 0 8 = nI n) (e : pRead (G 8) n = .ok (b, wk, rd)) : mX6_pass G = (nI wk, g2 (g2 (va_up (g2 G 0 8 (nI 0)) 6 rd) 0 4 (nI 1)) 0 22 (nI 0)) := by
  unfold mX6_pass
  rw [en, ix_nI (by omega), e]
