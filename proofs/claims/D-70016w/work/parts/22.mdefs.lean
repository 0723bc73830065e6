/-! ===== what the reference computes, as functions ===== -/
theorem nI_one : nI 1 = 1 := by decide +kernel
theorem bI_of_t {b : Bool} (h : b = true) : nI 1 = bI b := by rw [h]; decide +kernel
theorem bI_of_f {b : Bool} (h : b = false) : nI 0 = bI b := by rw [h]; decide +kernel
theorem in_f1 {v lo hi : Int64} (c : lg_cmp v lo < 0) : nI 0 = bI (decide (lo ≤ v) && decide (v ≤ hi)) := by
  rw [lg_cmp_lt] at c
  apply bI_of_f
  have : ¬ lo ≤ v := by rw [Int64.not_le]; exact c
  simp [this]
theorem in_f2 {v lo hi : Int64} (c : 0 < lg_cmp v hi) : nI 0 = bI (decide (lo ≤ v) && decide (v ≤ hi)) := by
  rw [lg_cmp_gt] at c
  apply bI_of_f
  have : ¬ v ≤ hi := by rw [Int64.not_le]; exact c
  simp [this]
theorem in_t {v lo hi : Int64} (c1 : ¬ lg_cmp v lo < 0) (c2 : ¬ 0 < lg_cmp v hi) : nI 1 = bI (decide (lo ≤ v) && decide (v ≤ hi)) := by
  rw [lg_cmp_lt, Int64.not_lt] at c1
  rw [lg_cmp_gt, Int64.not_lt] at c2
  apply bI_of_t
  simp [c1, c2]
theorem inL (x lo hi : Int32) : (decide (lo.toInt64 ≤ x.toInt64) && decide (x.toInt64 ≤ hi.toInt64)) = inB x lo hi := by
  simp only [inB, Int64.le_iff_toInt_le, Int32.le_iff_toInt_le, Int32.toInt_toInt64]
abbrev vV : Type := Nat → Int32
def ix (x : Int32) : Nat := x.toNatClampNeg
theorem ix_nI {n : Nat} (h : n < 2 ^ 31) : ix (nI n) = n := nI_clamp h
def hasB (a k : Int32) : Bool := decide ((a >>> (k &&& 31)) &&& nI 1 = nI 1)
def asL (lane v : Int32) : Int32 := if lane = 0 then (v <<< (nI 24 &&& 31)) >>> (nI 24 &&& 31) else if lane = nI 1 then (v <<< (nI 16 &&& 31)) >>> (nI 16 &&& 31) else v
/-! the pass: 0 the hour, 1 .. 4 gusts, 5 .. 8 rises, 9 .. 24 kinds, 25 .. 40 what each holds, 41 .. 56 whether open -/
def isWk (st : vV) (c : Nat) : Bool := decide (0 < st (9 + c))
def cntW (st : vV) : Nat → Nat
  | 0 => 0
  | n + 1 => cntW st n + (if isWk st n = true then 1 else 0)
def clr (st : vV) (c : Nat) : vV := upd (upd (upd st (9 + c) (nI 0)) (25 + c) (nI 0)) (41 + c) (nI 0)
def goesF (x : Nat) (y v : Int32) (f : vV × Int32) : vV × Int32 := if inB y 0 (nI 3) = true then (upd f.1 (4 * x + 4 + ix y) (f.1 (4 * x + 4 + ix y) + v), f.2) else (f.1, f.2 + v)
def nthF (kind hour : Int32) : Bool := decide (kind = nI 4) || (decide (kind = nI 5) && decide (irem hour (nI 2) = 0))
def onF (kind op v : Int32) : Int32 := if kind = 0 ∨ (kind = nI 3 ∧ op = nI 1) then v else if kind = nI 2 then v / nI 2 else nI 0
def upF (kind hour v on : Int32) : Int32 := if nI 4 ≤ kind then (if nthF kind hour = true then v else nI 0) else (v - on) / nI 2
def cellF (st : vV) (f : vV × Int32) (c : Nat) : vV × Int32 :=
  goesF (c / 4) (nI (c % 4 + 1)) (f.1 c - onF (st (9 + c)) (st (41 + c)) (f.1 c) - upF (st (9 + c)) (st 0) (f.1 c) (onF (st (9 + c)) (st (41 + c)) (f.1 c)))
    (goesF (c / 4) (nI (c % 4) - nI 1) (upF (st (9 + c)) (st 0) (f.1 c) (onF (st (9 + c)) (st (41 + c)) (f.1 c)))
      (goesF (c / 4) (nI (c % 4)) (onF (st (9 + c)) (st (41 + c)) (f.1 c)) f))
def bl0 (st : vV) : vV := fun j => if j < 4 then st (1 + j) else nI 0
def blF (st : vV) : Nat → vV × Int32
  | 0 => (bl0 st, nI 0)
  | n + 1 => cellF st (blF st n) n
/-- what is felt in the cells, what leaves behind them; what is lost -/
theorem bl_ex (st : vV) : ∃ f, f = blF st 16 := ⟨_, rfl⟩
noncomputable def bl (st : vV) : vV × Int32 := (bl_ex st).choose
theorem bl_eq (st : vV) : bl st = blF st 16 := (bl_ex st).choose_spec
/-- the reference with what the air does laid into it -/
def setFL (G : mG) (f : vV × Int32) : mG := va_up (va_up G 0 (upd (G 0) 19 f.2)) 19 f.1
noncomputable def blowG (G : mG) : mG := setFL G (bl (G 6))
/-- the cells' works break: the pass, the broken ones as bits -/
def hbF (st fe : vV) : Nat → vV × Int32
  | 0 => (st, nI 0)
  | n + 1 => if isWk (hbF st fe n).1 n = true ∧ (hbF st fe n).1 (25 + n) < fe n then (clr (hbF st fe n).1 n, (hbF st fe n).2 ||| (nI 1 <<< (nI n &&& 31))) else hbF st fe n
/-- the gusts rise -/
def rsF (st : vV) : Nat → vV
  | 0 => st
  | n + 1 => upd (rsF st n) (1 + n) (irem (rsF st n (1 + n) + rsF st n (5 + n)) (nI 32))
theorem hourB_ex (st : vV) : ∃ f, f = (hbF st (bl st).1 16).2 := ⟨_, rfl⟩
noncomputable def hourB (st : vV) : Int32 := (hourB_ex st).choose
theorem hourB_eq (st : vV) : hourB st = (hbF st (bl st).1 16).2 := (hourB_ex st).choose_spec
noncomputable def hS0 (st : vV) : vV := upd (hbF st (bl st).1 16).1 0 ((hbF st (bl st).1 16).1 0 + nI 1)
theorem hourS_ex (st : vV) : ∃ f, f = rsF (hS0 st) 4 := ⟨_, rfl⟩
noncomputable def hourS (st : vV) : vV := (hourS_ex st).choose
theorem hourS_eq (st : vV) : hourS st = rsF (hS0 st) 4 := (hourS_ex st).choose_spec
noncomputable def hourG (G : mG) : mG := va_up (va_up (va_up G 0 (upd (upd (G 0) 19 (bl (G 6)).2) 20 (hourB (G 6)))) 19 (bl (G 6)).1) 6 (hourS (G 6))
theorem g2_eq (G : mG) (a i : Nat) (x : Int32) : g2 G a i x = va_up G a (upd (G a) i x) := rfl
theorem g2_up (G : mG) (a i : Nat) (f : vV) (x : Int32) : g2 (va_up G a f) a i x = va_up G a (upd f i x) := by
  simp [g2, va_up_self, bx_uu]
theorem va_up_id {α : Type} (G : Nat → α) (a : Nat) : va_up G a (G a) = G := by
  funext j
  by_cases h : j = a
  · subst h; rw [va_up_self]
  · rw [va_up_ne _ _ h]
theorem va_up_id' {α : Type} (K : Nat → α) (a : Nat) (v : α) (h : K a = v) : K = va_up K a v := by
  rw [← h, va_up_id]
theorem va_up_cm {α : Type} (G : Nat → α) {a b : Nat} (h : a ≠ b) (x y : α) : va_up (va_up G a x) b y = va_up (va_up G b y) a x := by
  funext j
  by_cases h1 : j = a
  · subst h1; rw [va_up_ne _ _ h, va_up_self, va_up_self]
  · by_cases h2 : j = b
    · subst h2; rw [va_up_self, va_up_ne _ _ h1, va_up_self]
    · rw [va_up_ne _ _ h2, va_up_ne _ _ h1, va_up_ne _ _ h1, va_up_ne _ _ h2]
theorem upd_id (f : vV) (i : Nat) : upd f i (f i) = f := by
  funext j
  unfold upd
  by_cases h : j = i
  · rw [if_pos h, h]
  · rw [if_neg h]
theorem g2_id (G : mG) (a i : Nat) : g2 G a i (G a i) = G := by
  unfold g2
  rw [upd_id, va_up_id]
/-! lemmas for the walks -/
def goesG (G : mG) (x : Nat) (y v : Int32) : mG := setFL G (goesF x y v (G 19, G 0 19))
theorem setFL_0 (G : mG) (f : vV × Int32) : setFL G f 0 = upd (G 0) 19 f.2 := rfl
theorem setFL_19 (G : mG) (f : vV × Int32) : setFL G f 19 = f.1 := rfl
theorem setFL_6 (G : mG) (f : vV × Int32) : setFL G f 6 = G 6 := rfl
theorem upd_uu (f : vV) (i : Nat) (x y : Int32) : upd (upd f i x) i y = upd f i y := by
  funext j
  unfold upd
  by_cases h : j = i
  · rw [if_pos h, if_pos h]
  · rw [if_neg h, if_neg h, if_neg h]
theorem setFL_set (G : mG) (f g : vV × Int32) : setFL (setFL G f) g = setFL G g := by
  show va_up (va_up (setFL G f) 0 (upd (setFL G f 0) 19 g.2)) 19 g.1 = _
  rw [setFL_0, upd_uu]
  show va_up (va_up (va_up (va_up G 0 (upd (G 0) 19 f.2)) 19 f.1) 0 (upd (G 0) 19 g.2)) 19 g.1 = _
  rw [va_up_cm (va_up G 0 (upd (G 0) 19 f.2)) (show (19 : Nat) ≠ 0 by decide), bx_uu, bx_uu]
  rfl
theorem goesG_set (G : mG) (f : vV × Int32) (x : Nat) (y v : Int32) : goesG (setFL G f) x y v = setFL G (goesF x y v f) := by
  show setFL (setFL G f) (goesF x y v (setFL G f 19, setFL G f 0 19)) = _
  rw [setFL_set]
  have e : (setFL G f 19, setFL G f 0 19) = f := by
    rw [setFL_19, setFL_0]
    simp [upd]
  rw [e]
theorem goes_in {G : mG} {x k : Nat} {v : Int32} (hk : k ≤ 3) (c : inB (nI k) 0 (nI 3) = true) : g2 G 19 (4 * x + 4 + k) (G 19 (4 * x + 4 + k) + v) = goesG G x (nI k) v := by
  unfold goesG goesF
  rw [if_pos c, ix_nI (by omega)]
  show _ = va_up (va_up G 0 (upd (G 0) 19 (G 0 19))) 19 (upd (G 19) (4 * x + 4 + k) (G 19 (4 * x + 4 + k) + v))
  rw [upd_id, va_up_id]
  rfl
theorem goes_out {G : mG} {x : Nat} {y v : Int32} (c : inB y 0 (nI 3) = false) : g2 G 0 19 (G 0 19 + v) = goesG G x y v := by
  unfold goesG goesF
  rw [if_neg (by rw [c]; decide)]
  show _ = va_up (va_up G 0 (upd (G 0) 19 (G 0 19 + v))) 19 (G 19)
  have e : va_up G 0 (upd (G 0) 19 (G 0 19 + v)) 19 = G 19 := rfl
  rw [← e, va_up_id]
  rfl
theorem setFL_st (G : mG) (f : vV) (x : Int32) (i : Nat) (v : Int32) : g2 (setFL G (f, x)) 19 i v = setFL G (upd f i v, x) := by
  unfold setFL
  rw [g2_up]
theorem bl_init (G : mG) : g2 G 0 19 (nI 0) = setFL G (fun j => if j < 0 then bl0 (G 6) j else G 19 j, nI 0) := by
  have e : (fun j => if j < 0 then bl0 (G 6) j else G 19 j) = G 19 := by funext j; rw [if_neg (by omega)]
  rw [e]
  show va_up G 0 (upd (G 0) 19 (nI 0)) = va_up (va_up G 0 (upd (G 0) 19 (nI 0))) 19 (G 19)
  have e2 : va_up G 0 (upd (G 0) 19 (nI 0)) 19 = G 19 := rfl
  rw [← e2, va_up_id]
theorem bl0_step (b f : vV) (i : Nat) : upd (fun j => if j < i then b j else f j) i (b i) = fun j => if j < i + 1 then b j else f j := by
  funext j
  unfold upd
  by_cases h : j = i
  · subst h; rw [if_pos rfl, if_pos (by omega)]
  · rw [if_neg h]
    show (if j < i then b j else f j) = _
    by_cases h2 : j < i
    · rw [if_pos h2, if_pos (by omega)]
    · rw [if_neg h2, if_neg (by omega)]
theorem nth_t1 {k h : Int32} (c : k = nI 4) : nI 1 = bI (nthF k h) := bI_of_t (by simp [nthF, c])
theorem nth_t2 {k h : Int32} (c1 : k = nI 5) (c2 : irem h (nI 2) = 0) : nI 1 = bI (nthF k h) := bI_of_t (by simp [nthF, c1, c2])
theorem nth_f1 {k h : Int32} (c1 : ¬ k = nI 4) (c2 : ¬ k = nI 5) : nI 0 = bI (nthF k h) := bI_of_f (by simp [nthF, c1, c2])
theorem nth_f2 {k h : Int32} (c1 : ¬ k = nI 4) (c2 : ¬ irem h (nI 2) = 0) : nI 0 = bI (nthF k h) := bI_of_f (by simp [nthF, c1, c2])
theorem on_v {k op v : Int32} (h : k = 0 ∨ (k = nI 3 ∧ op = nI 1)) : v = onF k op v := by unfold onF; rw [if_pos h]
theorem on_h {k op v : Int32} (h : ¬ (k = 0 ∨ (k = nI 3 ∧ op = nI 1))) (h2 : k = nI 2) : v / nI 2 = onF k op v := by unfold onF; rw [if_neg h, if_pos h2]
theorem on_z {k op v : Int32} (h : ¬ (k = 0 ∨ (k = nI 3 ∧ op = nI 1))) (h2 : ¬ k = nI 2) : nI 0 = onF k op v := by unfold onF; rw [if_neg h, if_neg h2]
theorem up_1 {k h v on : Int32} (c : ¬ k < nI 4) (b : nthF k h = true) : v = upF k h v on := by unfold upF; rw [if_pos (by rwa [Int32.not_lt] at c), if_pos b]
theorem up_2 {k h v on : Int32} (c : ¬ k < nI 4) (b : nthF k h = false) : nI 0 = upF k h v on := by unfold upF; rw [if_pos (by rwa [Int32.not_lt] at c), if_neg (by rw [b]; decide)]
theorem up_3 {k h v on : Int32} (c : k < nI 4) : (v - on) / nI 2 = upF k h v on := by unfold upF; rw [if_neg (by rwa [Int32.not_le])]
/-- the hour's state behind the blow: f the pass and the broken cells so far -/
noncomputable def hG (G : mG) (f : vV × Int32) : mG := va_up (va_up (va_up G 0 (upd (upd (G 0) 19 (bl (G 6)).2) 20 f.2)) 19 (bl (G 6)).1) 6 f.1
theorem hG_init (G : mG) : g2 (blowG G) 0 20 (nI 0) = hG G (G 6, nI 0) := by
  show va_up (va_up (va_up G 0 (upd (G 0) 19 (bl (G 6)).2)) 19 (bl (G 6)).1) 0 (upd (upd (G 0) 19 (bl (G 6)).2) 20 (nI 0)) = va_up (va_up (va_up G 0 (upd (upd (G 0) 19 (bl (G 6)).2) 20 (nI 0))) 19 (bl (G 6)).1) 6 (G 6)
  rw [va_up_cm (va_up G 0 _) (show (19 : Nat) ≠ 0 by decide), bx_uu]
  exact va_up_id' _ 6 _ rfl
theorem hG_brk (G : mG) (f : vV × Int32) (b : Int32) : g2 (hG G f) 0 20 b = hG G (f.1, b) := by
  show va_up (va_up (va_up (va_up G 0 (upd (upd (G 0) 19 (bl (G 6)).2) 20 f.2)) 19 (bl (G 6)).1) 6 f.1) 0 (upd (upd (upd (G 0) 19 (bl (G 6)).2) 20 f.2) 20 b) = _
  rw [upd_uu, va_up_cm _ (show (6 : Nat) ≠ 0 by decide), va_up_cm _ (show (19 : Nat) ≠ 0 by decide), bx_uu]
  rfl
theorem hG_st (G : mG) (f : vV × Int32) (g : vV) : va_up (hG G f) 6 g = hG G (g, f.2) := by
  unfold hG
  rw [bx_uu]
theorem hG_g2 (G : mG) (f : vV × Int32) (i : Nat) (x : Int32) : g2 (hG G f) 6 i x = hG G (upd f.1 i x, f.2) := hG_st G f _
theorem hb_no1 {st fe : vV} {n : Nat} (c : isWk (hbF st fe n).1 n = false) : hbF st fe n = hbF st fe (n + 1) := by
  show _ = if _ then _ else _
  rw [if_neg (fun h => by rw [h.1] at c; cases c)]
theorem hb_no2 {st fe : vV} {n : Nat} (c : fe n ≤ (hbF st fe n).1 (25 + n)) : hbF st fe n = hbF st fe (n + 1) := by
  show _ = if _ then _ else _
  rw [if_neg (fun h => Int32.not_le.mpr h.2 c)]
theorem hb_yes {st fe : vV} {n : Nat} (c1 : isWk (hbF st fe n).1 n = true) (c2 : ¬ fe n ≤ (hbF st fe n).1 (25 + n)) : (clr (hbF st fe n).1 n, (hbF st fe n).2 ||| (nI 1 <<< (nI n &&& 31))) = hbF st fe (n + 1) := by
  show _ = if _ then _ else _
  rw [if_pos ⟨c1, Int32.not_le.mp c2⟩]
theorem cp_step (g f : vV) (i : Nat) : upd (fun j => if j < i then g j else f j) i (g i) = fun j => if j < i + 1 then g j else f j := bl0_step g f i
theorem cp_0 (G : mG) (a : Nat) (g : vV) : G = va_up G a (fun j => if j < 0 then g j else G a j) := by
  have e : (fun j => if j < 0 then g j else G a j) = G a := by funext j; rw [if_neg (by omega)]
  rw [e, va_up_id]
noncomputable def hourN (G : mG) : Nat → mG
  | 0 => G
  | n + 1 => hourG (hourN G n)
def asideG (G : mG) : mG := va_up G 24 (G 6)
def backG (G : mG) : mG := va_up G 6 (G 24)
noncomputable def blowInG (G : mG) (d : Nat) : mG := backG (blowG (hourN (asideG G) d))
theorem cntW_le (st : vV) : ∀ n, cntW st n ≤ n
  | 0 => Nat.le_refl 0
  | n + 1 => by
    have := cntW_le st n
    show cntW st n + (if _ then 1 else 0) ≤ n + 1
    split <;> omega
theorem hourG_eq (G : mG) : hourG G = hG G (hourS (G 6), hourB (G 6)) := by simp only [hourG, hG]
theorem rs_step (X : vV) (n : Nat) : upd (rsF X n) (1 + n) (irem (rsF X n (1 + n) + rsF X n (5 + n)) (nI 32)) = rsF X (n + 1) := rfl
theorem hS0_step (G : mG) : g2 (hG G (hbF (G 6) (bl (G 6)).1 16)) 6 0 ((hbF (G 6) (bl (G 6)).1 16).1 0 + nI 1) = hG G (rsF (hS0 (G 6)) 0, hourB (G 6)) := by
  rw [hG_g2, hourB_eq]
  rfl
theorem rs_g2 (G : mG) (X : vV) (b : Int32) (n : Nat) : g2 (hG G (rsF X n, b)) 6 (1 + n) (irem (rsF X n (1 + n) + rsF X n (5 + n)) (nI 32)) = hG G (rsF X (n + 1), b) := by
  rw [hG_g2, ← rs_step]
theorem b_nf {b : Bool} (h : b = true) : ¬ b = false := by rw [h]; decide
theorem b_nt {b : Bool} (h : b = false) : ¬ b = true := by rw [h]; decide
theorem inB_nat1 {x : Int32} {a n : Nat} (ha : a < 2 ^ 31) (hn : n < 2 ^ 31) (h : inB x (nI a) (nI n) = true) : ∃ k : Nat, a ≤ k ∧ k ≤ n ∧ x = nI k := by
  simp only [inB, Bool.and_eq_true, decide_eq_true_eq] at h
  have h0 : ¬ x < 0 := by
    rw [Int32.not_lt]
    exact Int32.le_trans (nI_pos' ha) h.1
  obtain ⟨j, hj, rfl⟩ := nI_of2 (nI_toInt hn) h0 h.2
  exact ⟨j, (nI_leI ha (by omega)).mp h.1, hj, rfl⟩
