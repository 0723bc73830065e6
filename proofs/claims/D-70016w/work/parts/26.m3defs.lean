/-! ===== queries of the reference: all is gone through and taken back.  scs G X st: G with scratch X (what is felt, lost, broken, laid aside) and the pass st ===== -/
abbrev Scr : Type := vV × Int32 × Int32 × vV
def scs (G : mG) (X : Scr) (st : vV) : mG := va_up (va_up (va_up (va_up G 0 (upd (upd (G 0) 19 X.2.1) 20 X.2.2.1)) 19 X.1) 24 X.2.2.2) 6 st
theorem scs_6 (G : mG) (X : Scr) (st : vV) : scs G X st 6 = st := rfl
theorem scs_19 (G : mG) (X : Scr) (st : vV) : scs G X st 19 = X.1 := rfl
theorem scs_24 (G : mG) (X : Scr) (st : vV) : scs G X st 24 = X.2.2.2 := rfl
theorem scs_0 (G : mG) (X : Scr) (st : vV) : scs G X st 0 = upd (upd (G 0) 19 X.2.1) 20 X.2.2.1 := rfl
theorem scs_o (G : mG) (X : Scr) (st : vV) {n : Nat} (h0 : n ≠ 0) (h6 : n ≠ 6) (h19 : n ≠ 19) (h24 : n ≠ 24) : scs G X st n = G n := by
  unfold scs
  rw [va_up_ne _ _ h6, va_up_ne _ _ h24, va_up_ne _ _ h19, va_up_ne _ _ h0]
theorem mG_ext4 {G K : mG} (h0 : G 0 = K 0) (h6 : G 6 = K 6) (h19 : G 19 = K 19) (h24 : G 24 = K 24) (h : ∀ n, n ≠ 0 → n ≠ 6 → n ≠ 19 → n ≠ 24 → G n = K n) : G = K := by
  funext n
  by_cases a0 : n = 0
  · subst a0; exact h0
  · by_cases a6 : n = 6
    · subst a6; exact h6
    · by_cases a19 : n = 19
      · subst a19; exact h19
      · by_cases a24 : n = 24
        · subst a24; exact h24
        · exact h n a0 a6 a19 a24
theorem upd_cm (f : vV) {i j : Nat} (h : i ≠ j) (x y : Int32) : upd (upd f i x) j y = upd (upd f j y) i x := by
  funext q
  unfold upd
  by_cases h1 : q = i
  · subst h1; rw [if_neg h, if_pos rfl, if_pos rfl]
  · by_cases h2 : q = j
    · subst h2; rw [if_pos rfl, if_neg h1, if_pos rfl]
    · rw [if_neg h2, if_neg h1, if_neg h1, if_neg h2]
theorem scs_in (G : mG) : G = scs G (G 19, G 0 19, G 0 20, G 24) (G 6) := by
  refine mG_ext4 ?_ rfl rfl rfl (fun n a b c d => (scs_o G _ _ a b c d).symm)
  rw [scs_0]
  show G 0 = upd (upd (G 0) 19 (G 0 19)) 20 (G 0 20)
  rw [upd_id, upd_id]
theorem setFL_scs (G : mG) (f : vV) (lo b : Int32) (a st : vV) (F : vV × Int32) : setFL (scs G (f, lo, b, a) st) F = scs G (F.1, F.2, b, a) st := by
  refine mG_ext4 ?_ rfl rfl rfl (fun n h0 h6 h19 h24 => ?_)
  · show upd (upd (upd (G 0) 19 lo) 20 b) 19 F.2 = upd (upd (G 0) 19 F.2) 20 b
    rw [upd_cm (upd (G 0) 19 lo) (show (20 : Nat) ≠ 19 by decide), upd_uu]
  · rw [scs_o _ _ _ h0 h6 h19 h24]
    unfold setFL
    rw [va_up_ne _ _ h19, va_up_ne _ _ h0, scs_o _ _ _ h0 h6 h19 h24]
theorem blow_scs (G : mG) (f : vV) (lo b : Int32) (a st : vV) : blowG (scs G (f, lo, b, a) st) = scs G ((bl st).1, (bl st).2, b, a) st := by
  unfold blowG
  rw [scs_6, setFL_scs]
theorem hour_scs0 (G : mG) (f : vV) (lo b : Int32) (a st : vV) (F : vV × Int32) (S : vV) (B : Int32) : va_up (va_up (va_up (scs G (f, lo, b, a) st) 0 (upd (upd (scs G (f, lo, b, a) st 0) 19 F.2) 20 B)) 19 F.1) 6 S = scs G (F.1, F.2, B, a) S := by
  refine mG_ext4 ?_ rfl rfl rfl (fun n h0 h6 h19 h24 => ?_)
  · show upd (upd (upd (upd (G 0) 19 lo) 20 b) 19 F.2) 20 B = upd (upd (G 0) 19 F.2) 20 B
    rw [upd_cm (upd (G 0) 19 lo) (show (20 : Nat) ≠ 19 by decide), upd_uu, upd_uu]
  · rw [scs_o _ _ _ h0 h6 h19 h24, va_up_ne _ _ h6, va_up_ne _ _ h19, va_up_ne _ _ h0, scs_o _ _ _ h0 h6 h19 h24]
theorem hour_scs (G : mG) (f : vV) (lo b : Int32) (a st : vV) : hourG (scs G (f, lo, b, a) st) = scs G ((bl st).1, (bl st).2, hourB st, a) (hourS st) := by
  unfold hourG
  rw [scs_6, hour_scs0]
theorem up6_scs (G : mG) (X : Scr) (st st' : vV) : va_up (scs G X st) 6 st' = scs G X st' := by
  unfold scs
  rw [bx_uu]
theorem g2_scs6 (G : mG) (X : Scr) (st : vV) (i : Nat) (x : Int32) : g2 (scs G X st) 6 i x = scs G X (upd st i x) := up6_scs G X st _
theorem aside_scs (G : mG) (f : vV) (lo b : Int32) (a st : vV) : asideG (scs G (f, lo, b, a) st) = scs G (f, lo, b, st) st := by
  refine mG_ext4 rfl rfl rfl rfl (fun n h0 h6 h19 h24 => ?_)
  rw [scs_o _ _ _ h0 h6 h19 h24]
  unfold asideG
  rw [va_up_ne _ _ h24, scs_o _ _ _ h0 h6 h19 h24]
theorem back_scs (G : mG) (f : vV) (lo b : Int32) (a st : vV) : backG (scs G (f, lo, b, a) st) = scs G (f, lo, b, a) a := up6_scs G _ _ _
theorem g2_scs20 (G : mG) (f : vV) (lo b : Int32) (a st : vV) (x : Int32) : g2 (scs G (f, lo, b, a) st) 0 20 x = scs G (f, lo, x, a) st := by
  refine mG_ext4 ?_ rfl rfl rfl (fun n h0 h6 h19 h24 => ?_)
  · show upd (upd (upd (G 0) 19 lo) 20 b) 20 x = upd (upd (G 0) 19 lo) 20 x
    rw [upd_uu]
  · rw [scs_o _ _ _ h0 h6 h19 h24]
    unfold g2
    rw [va_up_ne _ _ h0, scs_o _ _ _ h0 h6 h19 h24]
/-! searching, all, counting -/
def fstP (P : Nat → Bool) : Nat → Nat → Option Nat
  | 0, _ => none
  | n + 1, i => if P i = true then some i else fstP P n (i + 1)
theorem fst_hit {P : Nat → Bool} {N a : Nat} (hE : fstP P N 0 = fstP P (N - a) a) (ha : a < N) (hp : P a = true) : fstP P N 0 = some a := by
  rw [hE, show N - a = (N - (a + 1)) + 1 by omega]
  show (if P a = true then some a else _) = _
  rw [if_pos hp]
theorem fst_next {P : Nat → Bool} {N a : Nat} (hE : fstP P N 0 = fstP P (N - a) a) (ha : a < N) (hp : P a = false) : fstP P N 0 = fstP P (N - (a + 1)) (a + 1) := by
  rw [hE, show N - a = (N - (a + 1)) + 1 by omega]
  show (if P a = true then some a else _) = _
  rw [if_neg (by rw [hp]; decide)]
theorem fst_end {P : Nat → Bool} {N a : Nat} (hE : fstP P N 0 = fstP P (N - a) a) (ha : N ≤ a) : fstP P N 0 = none := by
  rw [hE, show N - a = 0 by omega]
  rfl
def allB (P : Nat → Bool) : Nat → Bool
  | 0 => true
  | n + 1 => allB P n && P n
/-! walls -/
noncomputable def wl1 (st : vV) (cell : Nat) (v : Int32) (a : Nat) : Bool := !isWk st a && decide (¬ (bl (upd st (9 + a) (nI 1))).1 cell < v)
noncomputable def wl2 (st : vV) (cell : Nat) (v : Int32) (a b : Nat) : Bool := !isWk st a && (!isWk st b && decide (¬ (bl (upd (upd st (9 + a) (nI 1)) (9 + b) (nI 1))).1 cell < v))
/-- the second cell for a first one -/
noncomputable def wl2b (st : vV) (cell : Nat) (v : Int32) (a : Nat) : Option Nat := fstP (fun t => wl2 st cell v a (a + 1 + t)) (15 - a) 0
noncomputable def wl3 (st : vV) (cell : Nat) (v : Int32) (a : Nat) : Bool := (wl2b st cell v a).isSome
noncomputable def wallsV (st : vV) (cell : Nat) (v k : Int32) : Int32 :=
  if (bl st).1 cell < v then
    (match fstP (wl1 st cell v) 16 0 with
    | some a => if 0 ≤ k then (if ¬ k = 0 then (-1000000 : Int32) else nI a) else nI 1
    | none => match fstP (wl3 st cell v) 16 0 with
      | some a => if 0 ≤ k then (if ¬ k = 0 then nI (a + 1 + (wl2b st cell v a).getD 0) else nI a) else nI 2
      | none => (-1000000 : Int32))
  else if 0 ≤ k then (-1000000 : Int32) else nI 0
def fwS (st : vV) (a : Nat) (b : Int32) : vV := if b < 0 then upd st (9 + a) (nI 1) else upd (upd st (9 + a) (nI 1)) (9 + ix b) (nI 1)
theorem fwS_n {st : vV} {a : Nat} : fwS st a (-1) = upd st (9 + a) (nI 1) := by
  unfold fwS
  rw [if_pos (by decide)]
theorem fwS_b {st : vV} {a b : Nat} (h : b < 2 ^ 31) : fwS st a (nI b) = upd (upd st (9 + a) (nI 1)) (9 + b) (nI 1) := by
  unfold fwS
  rw [if_neg (nI_pos h), ix_nI h]
/-! hidden, most -/
/-- an empty cell's kind is 0 -/
def kdOk (st : vV) : Prop := ∀ c, c < 16 → isWk st c = false → st (9 + c) = nI 0
noncomputable def hdP (it st : vV) (kind : Int32) (o y n : Nat) : Nat → Bool := fun x => decide (it (o + x) = (bl (upd st (9 + n) kind)).1 (4 * x + y))
noncomputable def hdF (it st : vV) (kind : Int32) (o y : Nat) : Nat → Int32
  | 0 => nI 0
  | n + 1 => if isWk st n = true then hdF it st kind o y n else hdF it st kind o y n ||| (if allB (hdP it st kind o y n) 4 = true then nI 1 <<< (nI n &&& 31) else nI 0)
noncomputable def msV (st : vV) (y n : Nat) : Int32 := (bl (upd st (9 + n) (nI 1))).1 (16 + y)
noncomputable def msF (st : vV) (y : Nat) : Nat → Int32 × Int32
  | 0 => (-1000000, -1)
  | n + 1 => if isWk st n = true then msF st y n else (if msV st y n ≤ (msF st y n).2 then (msF st y n).1 else nI n, if msV st y n ≤ (msF st y n).2 then (msF st y n).2 else msV st y n)
theorem kd_back {st : vV} (h : kdOk st) {c : Nat} (hc : c < 16) (hw : isWk st c = false) (x : Int32) : upd (upd st (9 + c) x) (9 + c) (nI 0) = st := by
  rw [upd_uu, ← h c hc hw, upd_id]
/-! breaks, stands -/
noncomputable def stN (st : vV) : Nat → vV
  | 0 => st
  | n + 1 => hourS (stN st n)
noncomputable def brP (st : vV) (n : Nat) : Bool := decide (¬ hourB (stN st n) = 0)
def lowF (b : Int32) : Nat → Int32
  | 0 => (-1000000 : Int32)
  | n + 1 => if hasB b (nI (15 - n)) = true then nI (15 - n) else lowF b n
noncomputable def sdP (it st : vV) (o n : Nat) : Nat → Bool := fun c => decide (it (o + c) = (bl (stN st n)).1 c)
noncomputable def sdE (it st : vV) (o n : Nat) : Bool := !allB (sdP it st o n) 16
/-! lots -/
def pwF : Nat → Int32
  | 0 => nI 1
  | n + 1 => pwF n * nI 10
def ltF (st : vV) (c set : Int32) : Nat → Int32 × Nat × vV
  | 0 => (nI 1, 0, st)
  | x + 1 => if isWk (ltF st c set x).2.2 x = true then ((ltF st c set x).1 * (if hasB set (nI (ltF st c set x).2.1) = true then c else nI 10 - c), (ltF st c set x).2.1 + 1, if hasB set (nI (ltF st c set x).2.1) = true then clr (ltF st c set x).2.2 x else (ltF st c set x).2.2) else ltF st c set x
noncomputable def lsF (st : vV) (cell : Nat) (v c : Int32) : Nat → Int32
  | 0 => nI 0
  | n + 1 => lsF st cell v c n + (if (bl (ltF st c (nI n) 16).2.2).1 cell < v then nI 0 else (ltF st c (nI n) 16).1)
def gcdI : Nat → Int32 → Int32 → Int32
  | 0, x, _ => x
  | n + 1, x, y => if y = 0 then x else gcdI n y (irem x y)
/-! lemmas for the queries' walks -/
theorem scs_scs (G : mG) (X Y : Scr) (st st' : vV) : scs (scs G X st) Y st' = scs G Y st' := by
  obtain ⟨f, lo, b, a⟩ := X
  refine mG_ext4 ?_ rfl rfl rfl (fun n h0 h6 h19 h24 => ?_)
  · show upd (upd (upd (upd (G 0) 19 lo) 20 b) 19 Y.2.1) 20 Y.2.2.1 = upd (upd (G 0) 19 Y.2.1) 20 Y.2.2.1
    rw [upd_cm (upd (G 0) 19 lo) (show (20 : Nat) ≠ 19 by decide), upd_uu, upd_uu]
  · rw [scs_o _ _ _ h0 h6 h19 h24, scs_o _ _ _ h0 h6 h19 h24, scs_o _ _ _ h0 h6 h19 h24]
noncomputable def fwG (G : mG) (a : Nat) (b : Int32) : mG := scs G ((bl (fwS (G 6) a b)).1, (bl (fwS (G 6) a b)).2, G 0 20, G 6) (G 6)
theorem fw_scs (G : mG) (f : vV) (lo b : Int32) (a st : vV) (q : Nat) (r : Int32) : fwG (scs G (f, lo, b, a) st) q r = scs G ((bl (fwS st q r)).1, (bl (fwS st q r)).2, b, st) st := by
  unfold fwG
  rw [scs_6, scs_scs]
  rfl
theorem g2_scs3 (G : mG) (X : Scr) (st : vV) (x : Int32) : g2 (scs G X st) 0 3 x = scs (g2 G 0 3 x) X st := by
  refine mG_ext4 ?_ rfl rfl rfl (fun n h0 h6 h19 h24 => ?_)
  · show upd (upd (upd (G 0) 19 X.2.1) 20 X.2.2.1) 3 x = upd (upd (upd (G 0) 3 x) 19 X.2.1) 20 X.2.2.1
    rw [upd_cm (upd (G 0) 19 X.2.1) (show (20 : Nat) ≠ 3 by decide), upd_cm (G 0) (show (19 : Nat) ≠ 3 by decide)]
  · rw [scs_o _ _ _ h0 h6 h19 h24]
    unfold g2
    rw [va_up_ne _ _ h0, va_up_ne _ _ h0, scs_o _ _ _ h0 h6 h19 h24]
theorem wl1_t {st : vV} {cell a : Nat} {v : Int32} (c1 : isWk st a = false) (c2 : ¬ (bl (fwS st a (-1))).1 cell < v) : wl1 st cell v a = true := by
  rw [fwS_n] at c2
  simp only [wl1, c1, c2]
  rfl
theorem wl1_f1 {st : vV} {cell a : Nat} {v : Int32} (c1 : isWk st a = true) : wl1 st cell v a = false := by simp only [wl1, c1]; rfl
theorem wl1_f2 {st : vV} {cell a : Nat} {v : Int32} (c2 : (bl (fwS st a (-1))).1 cell < v) : wl1 st cell v a = false := by
  rw [fwS_n] at c2
  simp only [wl1, c2, not_true, decide_false, Bool.and_false]
theorem wl2_t {st : vV} {cell a b : Nat} {v : Int32} (hb : b < 2 ^ 31) (c1 : isWk st a = false) (c2 : isWk st b = false) (c3 : ¬ (bl (fwS st a (nI b))).1 cell < v) : wl2 st cell v a b = true := by
  rw [fwS_b hb] at c3
  simp only [wl2, c1, c2, c3]
  rfl
theorem wl2_f1 {st : vV} {cell a b : Nat} {v : Int32} (c1 : isWk st a = true) : wl2 st cell v a b = false := by simp only [wl2, c1]; rfl
theorem wl2_f2 {st : vV} {cell a b : Nat} {v : Int32} (c1 : isWk st b = true) : wl2 st cell v a b = false := by
  simp only [wl2, c1, Bool.not_true, Bool.false_and, Bool.and_false]
theorem wl2_f3 {st : vV} {cell a b : Nat} {v : Int32} (hb : b < 2 ^ 31) (c3 : (bl (fwS st a (nI b))).1 cell < v) : wl2 st cell v a b = false := by
  rw [fwS_b hb] at c3
  simp only [wl2, c3, not_true, decide_false, Bool.and_false]
theorem wl3_t {st : vV} {cell a t : Nat} {v : Int32} (h : wl2b st cell v a = some t) : wl3 st cell v a = true := by unfold wl3; rw [h]; rfl
theorem wl3_f {st : vV} {cell a : Nat} {v : Int32} (h : wl2b st cell v a = none) : wl3 st cell v a = false := by unfold wl3; rw [h]; rfl
theorem all_f1 {P : Nat → Bool} {x : Nat} (h : allB P x = false) : allB P (x + 1) = false := by
  show (allB P x && P x) = false
  rw [h]; rfl
theorem all_f2 {P : Nat → Bool} {x : Nat} (h : P x = false) : allB P (x + 1) = false := by
  show (allB P x && P x) = false
  rw [h, Bool.and_false]
theorem all_t {P : Nat → Bool} {x : Nat} (h1 : allB P x = true) (h2 : P x = true) : allB P (x + 1) = true := by
  show (allB P x && P x) = true
  rw [h1, h2]; rfl
noncomputable def mostV (st : vV) (y : Nat) (what : Int32) : Int32 := if 0 ≤ (msF st y 16).1 then (if ¬ what = 0 then (msF st y 16).2 else (msF st y 16).1) else (-1000000 : Int32)
theorem ms_w {st : vV} {y n : Nat} (c : isWk st n = true) : msF st y (n + 1) = msF st y n := by
  show (if isWk st n = true then _ else _) = _
  rw [if_pos c]
theorem ms_k {st : vV} {y n : Nat} (c : isWk st n = false) (c2 : (bl (upd st (9 + n) (nI 1))).1 (16 + y) ≤ (msF st y n).2) : msF st y (n + 1) = msF st y n := by
  show (if isWk st n = true then _ else (if _ then _ else _, if _ then _ else _)) = _
  rw [if_neg (b_nt c), if_pos (show msV st y n ≤ _ from c2), if_pos (show msV st y n ≤ _ from c2)]
theorem ms_n {st : vV} {y n : Nat} (c : isWk st n = false) (c2 : ¬ (bl (upd st (9 + n) (nI 1))).1 (16 + y) ≤ (msF st y n).2) : msF st y (n + 1) = (nI n, (bl (upd st (9 + n) (nI 1))).1 (16 + y)) := by
  show (if isWk st n = true then _ else (if _ then _ else _, if _ then _ else _)) = _
  rw [if_neg (b_nt c), if_neg (show ¬ msV st y n ≤ _ from c2), if_neg (show ¬ msV st y n ≤ _ from c2)]
  rfl
theorem hd_w {it st : vV} {kind : Int32} {o y n : Nat} (c : isWk st n = true) : hdF it st kind o y (n + 1) = hdF it st kind o y n := by
  show (if isWk st n = true then _ else _) = _
  rw [if_pos c]
theorem hd_t {it st : vV} {kind : Int32} {o y n : Nat} (c : isWk st n = false) (c2 : allB (hdP it st kind o y n) 4 = true) : hdF it st kind o y (n + 1) = hdF it st kind o y n ||| (nI 1 <<< (nI n &&& 31)) := by
  show (if isWk st n = true then _ else _ ||| (if _ then _ else _)) = _
  rw [if_neg (b_nt c), if_pos c2]
theorem hd_f {it st : vV} {kind : Int32} {o y n : Nat} (c : isWk st n = false) (c2 : allB (hdP it st kind o y n) 4 = false) : hdF it st kind o y (n + 1) = hdF it st kind o y n ||| nI 0 := by
  show (if isWk st n = true then _ else _ ||| (if _ then _ else _)) = _
  rw [if_neg (b_nt c), if_neg (b_nt c2)]
noncomputable def brL (st : vV) : Nat → Nat → Int32 → Nat × Int32
  | 0, n, b => (n, b)
  | f + 1, n, b => if ¬ b = 0 then (n, b) else brL st f (n + 1) (hourB (stN st n))
theorem brL_end {st : vV} {n : Nat} {b : Int32} {r : Nat × Int32} (h : r = brL st (40 - n) n b) (hn : 40 ≤ n) : r = (n, b) := by
  rw [h, show 40 - n = 0 by omega]
  rfl
theorem brL_hit {st : vV} {n : Nat} {b : Int32} {r : Nat × Int32} (h : r = brL st (40 - n) n b) (hn : n < 40) (hb : ¬ b = 0) : r = (n, b) := by
  rw [h, show 40 - n = (40 - (n + 1)) + 1 by omega]
  show (if ¬ b = 0 then (n, b) else _) = _
  rw [if_pos hb]
theorem brL_next {st : vV} {n : Nat} {b : Int32} {r : Nat × Int32} (h : r = brL st (40 - n) n b) (hn : n < 40) (hb : b = 0) : r = brL st (40 - (n + 1)) (n + 1) (hourB (stN st n)) := by
  rw [h, show 40 - n = (40 - (n + 1)) + 1 by omega]
  show (if ¬ b = 0 then (n, b) else _) = _
  rw [if_neg (not_not_intro hb)]
def cdn (t : Nat) : Int32 := nI 15 - nI t
theorem cdn_step (t : Nat) : cdn t + (-1) = cdn (t + 1) := by
  unfold cdn
  rw [show nI (t + 1) = nI t + 1 from (nI_1 t).symm]
  generalize nI t = x
  generalize nI 15 = y
  grind
theorem cdn_ge : ∀ t, t < 16 → ¬ cdn t < 0 := by decide +kernel
theorem cdn_nat {t : Nat} (h : t < 16) : cdn t = nI (15 - t) := pk_sub (by omega)
def lowG (b : Int32) : Nat → Int32
  | 0 => (-1000000 : Int32)
  | n + 1 => if hasB b (cdn n) = true then cdn n else lowG b n
theorem low_t {b : Int32} {n : Nat} (c : hasB b (cdn n) = true) : lowG b (n + 1) = cdn n := by
  show (if _ then _ else _) = _
  rw [if_pos c]
theorem low_f {b : Int32} {n : Nat} (c : hasB b (cdn n) = false) : lowG b (n + 1) = lowG b n := by
  show (if _ then _ else _) = _
  rw [if_neg (b_nt c)]
theorem brR_ex (st : vV) : ∃ r, r = brL st 40 0 (nI 0) := ⟨_, rfl⟩
/-- after how many hours the first works break, which ones -/
noncomputable def brR (st : vV) : Nat × Int32 := (brR_ex st).choose
theorem brR_eq (st : vV) : brR st = brL st 40 0 (nI 0) := (brR_ex st).choose_spec
noncomputable def brV (st : vV) (what : Int32) : Int32 := if 0 ≤ lowG (brR st).2 16 then (if ¬ what = 0 then lowG (brR st).2 16 else nI (brR st).1) else (-1000000 : Int32)
noncomputable def sdV (it st : vV) (o : Nat) : Nat := (fstP (sdE it st o) 40 0).getD 40
def sdM (z : Nat × Bool) : Nat := if z.2 = true then z.1 else z.1 + 1
theorem sd_f {it st : vV} {o n : Nat} (h : allB (sdP it st o n) 16 = false) : sdE it st o n = true := by unfold sdE; rw [h]; rfl
theorem sd_t {it st : vV} {o n : Nat} (h : allB (sdP it st o n) 16 = true) : sdE it st o n = false := by unfold sdE; rw [h]; rfl
theorem shl_pow : ∀ n, n ≤ 16 → nI 1 <<< (nI n &&& 31) = nI (2 ^ n) := by
  intro n hn
  have : ∀ k, k < 17 → nI 1 <<< (nI k &&& 31) = nI (2 ^ k) := by decide +kernel
  exact this n (by omega)
theorem lt_no {st : vV} {c s : Int32} {x : Nat} (h : isWk (ltF st c s x).2.2 x = false) : ltF st c s (x + 1) = ltF st c s x := by
  show (if _ then _ else _) = _
  rw [if_neg (b_nt h)]
theorem lt_y {st : vV} {c s : Int32} {x : Nat} (h : isWk (ltF st c s x).2.2 x = true) (h2 : hasB s (nI (ltF st c s x).2.1) = true) : ltF st c s (x + 1) = ((ltF st c s x).1 * c, (ltF st c s x).2.1 + 1, clr (ltF st c s x).2.2 x) := by
  show (if _ then (_ * (if _ then _ else _), _, if _ then _ else _) else _) = _
  rw [if_pos h, if_pos h2, if_pos h2]
theorem lt_n {st : vV} {c s : Int32} {x : Nat} (h : isWk (ltF st c s x).2.2 x = true) (h2 : hasB s (nI (ltF st c s x).2.1) = false) : ltF st c s (x + 1) = ((ltF st c s x).1 * (nI 10 - c), (ltF st c s x).2.1 + 1, (ltF st c s x).2.2) := by
  show (if _ then (_ * (if _ then _ else _), _, if _ then _ else _) else _) = _
  rw [if_pos h, if_neg (b_nt h2), if_neg (b_nt h2)]
theorem ltk_le (st : vV) (c s : Int32) : ∀ x, (ltF st c s x).2.1 ≤ x
  | 0 => Nat.le_refl 0
  | x + 1 => by
    have := ltk_le st c s x
    show (if _ then (_, _ + 1, _) else _).2.1 ≤ x + 1
    split
    · show (ltF st c s x).2.1 + 1 ≤ x + 1
      omega
    · omega
theorem ls_t {st : vV} {cell n : Nat} {v c : Int32} (h : (bl (ltF st c (nI n) 16).2.2).1 cell < v) : lsF st cell v c (n + 1) = lsF st cell v c n + nI 0 := by
  show _ + (if _ then _ else _) = _
  rw [if_pos h]
theorem ls_f {st : vV} {cell n : Nat} {v c : Int32} (h : ¬ (bl (ltF st c (nI n) 16).2.2).1 cell < v) : lsF st cell v c (n + 1) = lsF st cell v c n + (ltF st c (nI n) 16).1 := by
  show _ + (if _ then _ else _) = _
  rw [if_neg h]
theorem pwF_ne : ∀ n, n ≤ 16 → ¬ pwF n = 0 := by
  intro n hn
  have : ∀ k, k < 17 → ¬ pwF k = 0 := by decide +kernel
  exact this n (by omega)
theorem irem_lt {x y : Int32} (h : ¬ y = 0) : (irem x y).toInt.natAbs < y.toInt.natAbs := by
  have hy : y.toInt ≠ 0 := fun q => h (Int32.toInt_inj.mp (by rw [q]; rfl))
  unfold irem
  rw [rem_toInt, Int.natAbs_tmod]
  exact Nat.mod_lt _ (by omega)
def gcdV (a b : Int32) : Int32 := gcdI (b.toInt.natAbs + 1) a b
theorem gcd_step {r x y : Int32} {n : Nat} (h : ∃ n, y.toInt.natAbs < n ∧ r = gcdI n x y) (hy : ¬ y = 0) : ∃ n, (irem x y).toInt.natAbs < n ∧ r = gcdI n y (irem x y) := by
  obtain ⟨n, hn, e⟩ := h
  cases n with
  | zero => omega
  | succ n =>
    refine ⟨n, by have := irem_lt (x := x) hy; omega, ?_⟩
    rw [e]
    show (if y = 0 then x else _) = _
    rw [if_neg hy]
theorem gcd_end {r x y : Int32} (h : ∃ n, y.toInt.natAbs < n ∧ r = gcdI n x y) (hy : y = 0) : r = x := by
  obtain ⟨n, hn, e⟩ := h
  cases n with
  | zero => omega
  | succ n =>
    rw [e]
    show (if y = 0 then x else _) = _
    rw [if_pos hy]
noncomputable def lotsV (st : vV) (cell : Nat) (v c what : Int32) : Int32 :=
  if ¬ what = 0 then pwF (cntW st 16) / gcdV (lsF st cell v c (2 ^ cntW st 16)) (pwF (cntW st 16)) else lsF st cell v c (2 ^ cntW st 16) / gcdV (lsF st cell v c (2 ^ cntW st 16)) (pwF (cntW st 16))
theorem stN_s (st : vV) (n : Nat) : hourS (stN st n) = stN st (n + 1) := rfl
theorem clr_scs (G : mG) (X : Scr) (st : vV) (c : Nat) : va_up (scs G X st) 6 (clr (scs G X st 6) c) = scs G X (clr st c) := up6_scs G X st _
theorem cdn_0 : cdn 0 = nI 15 := by decide +kernel
theorem k_im1 (x : Int32) : x + Int32.ofInt (-1) = x + (-1) := by rw [show Int32.ofInt (-1) = (-1 : Int32) by decide +kernel]
noncomputable def brB (st : vV) : Nat → Int32
  | 0 => nI 0
  | n + 1 => hourB (stN st n)
theorem brB_s (st : vV) (n : Nat) : hourB (stN st n) = brB st (n + 1) := rfl
theorem brB_0 (st : vV) : brB st 0 = nI 0 := rfl
theorem stN_0 (st : vV) : stN st 0 = st := rfl
theorem brS_0 (G : mG) (f : vV) (lo : Int32) (a : vV) : scs G (f, lo, nI 0, a) (G 6) = scs G (f, lo, brB (G 6) 0, a) (stN (G 6) 0) := by rw [brB_0, stN_0]
theorem brS_s (G : mG) (f : vV) (lo : Int32) (a st : vV) (n : Nat) : scs G (f, lo, hourB (stN st n), a) (hourS (stN st n)) = scs G (f, lo, brB st (n + 1), a) (stN st (n + 1)) := by rw [brB_s, stN_s]
