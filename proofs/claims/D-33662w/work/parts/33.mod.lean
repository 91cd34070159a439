/-! ===== the reference: trees, the code ===== -/
theorem shl_b {a p : Nat} (ha : a ≤ 63) (hp : p ≤ 64) : a * p < 4294967296 := Nat.lt_of_le_of_lt (Nat.mul_le_mul ha hp) (by decide)
theorem allB_le {p : Nat → Bool} {m : Nat} (h : allB p m = false) : ∀ n, m ≤ n → allB p n = false := by
  intro n
  induction n with
  | zero =>
    intro hm
    have : m = 0 := by omega
    subst this
    exact h
  | succ n ih =>
    intro hm
    show (allB p n && p n) = false
    by_cases e : m = n + 1
    · subst e
      exact h
    · rw [ih (by omega)]
      rfl
def nearB (t v : Int32) : Bool := if t < sizI v then false else true
def ixM (x m k : Nat) : Nat := 8 * ((x / 8) * 2 ^ m + k / 2 ^ m) + (x % 8) * 2 ^ m + k % 2 ^ m
theorem ixM_lt {x L m k : Nat} (hx : x < 64) (hL : L ≤ 3) (hm : m < levM x L) (hk : k < 2 ^ (2 * m)) : 8 * ((x / 8) * 2 ^ m + k / 2 ^ m) + (x % 8) * 2 ^ m + k % 2 ^ m < 64 := by
  have h3 : m = 0 ∨ m = 1 ∨ m = 2 := by
    have : levM x L ≤ 3 := by
      unfold levM
      split <;> omega
    omega
  unfold levM rawLv at hm
  rcases h3 with rfl | rfl | rfl
  · omega
  · have : k < 4 := hk
    (repeat' split at hm) <;> omega
  · have : k < 16 := hk
    (repeat' split at hm) <;> omega
theorem and_pow {k m : Nat} (hk : k < 4294967296) (hm : m ≤ 2) : nI k &&& nI (1 * 2 ^ m - 1) = nI (k % 2 ^ m) := by
  have h3 : m = 0 ∨ m = 1 ∨ m = 2 := by omega
  rcases h3 with rfl | rfl | rfl
  · exact pk_andN hk 0 (by decide)
  · exact pk_andN hk 1 (by decide)
  · exact pk_andN hk 2 (by decide)
/-- the m-th layer below a cell is near 0 -/
def layQ (t : Int32) (f : Nat → Int32) (x m : Nat) : Nat → Bool := fun k => nearB t (f (ixM x m k))
def layB (t : Int32) (f : Nat → Int32) (x m : Nat) : Bool := allB (layQ t f x m) (2 ^ (2 * m))
def smlM (L : Nat) (t : Int32) (f : Nat → Int32) (x : Nat) : Bool := isDf L x && allB (layB t f x) (levM x L)
def hpB (L k : Nat) : Bool := if levM k L < L then true else false
def trB (L : Nat) (t : Int32) (f : Nat → Int32) (k : Nat) : Bool := if smlM L t f k = true then (if hpB L k = true then (if smlM L t f (8 * (k / 8 / 2) + k % 8 / 2) = true then false else true) else true) else false
def trN (L : Nat) (t : Int32) (f : Nat → Int32) : Nat → Int32 := fun k => bI (trB L t f k)
/-- the first place that has it -/
def firN (p : Nat → Bool) : Nat → Nat → Nat
  | 0, i => i
  | f + 1, i => if p i = true then i else firN p f (i + 1)
theorem firN_of' {p : Nat → Bool} {k : Nat} (hk : p k = true) : ∀ (f i : Nat), i ≤ k → (∀ j, i ≤ j → j < k → p j = false) → k < i + f → firN p f i = k := by
  intro f
  induction f with
  | zero => intro i h1 _ h2; omega
  | succ f ih =>
    intro i h1 h2 h3
    show (if p i = true then i else firN p f (i + 1)) = k
    by_cases e : i = k
    · subst e
      rw [if_pos hk]
    · have := h2 i (Nat.le_refl _) (by omega)
      rw [if_neg (by rw [this]; decide)]
      exact ih (i + 1) (by omega) (fun j a b => h2 j (by omega) b) (by omega)
theorem firN_of {p : Nat → Bool} {k f : Nat} (hk : p k = true) (h : ∀ j, j < k → p j = false) (hf : k < f) : firN p f 0 = k := firN_of' hk f 0 (Nat.zero_le _) (fun j _ b => h j b) (by omega)
/-- how many bits a number has, less one -/
def bbN (x : Int32) : Nat := firN (fun k => !(decide (0 < x >>> (nI (k + 1) &&& 31)))) 31 0
theorem bb31 (x : Int32) : ¬ 0 < x >>> (nI 31 &&& 31) := by
  have e : (x >>> (nI 31 &&& 31)).toInt = x.toInt >>> 31 := pk_shr x _ 31 (by decide)
  rw [Int32.lt_iff_toInt_lt, e]
  have h1 := Int32.toInt_lt x
  have h2 : x.toInt >>> 31 = x.toInt / 2147483648 := Int.shiftRight_eq_div_pow _ _
  rw [h2]
  show ¬ (0 : Int) < _
  omega
/-- how many parts that are 0 stand in a row from a place on -/
def zrN (f : Nat → Int32) (L p : Nat) : Nat := firN (fun n => if p + n < 64 then (if f (orT L (p + n)) = 0 then false else true) else true) 65 0
def tokV (f : Nat → Int32) (L p : Nat) : Int32 := if 0 < zrN f L p then nI (zrN f L p) else sizI (f (orT L p))
def tokH (f : Nat → Int32) (L p : Nat) : Nat := if 0 < zrN f L p then 1 else 2
def tokS (f : Nat → Int32) (L p : Nat) : Nat := if 0 < zrN f L p then zrN f L p else 1
theorem tokS_pos (f : Nat → Int32) (L p : Nat) : 1 ≤ tokS f L p := by
  unfold tokS
  split <;> omega
def tokL (f : Nat → Int32) (L p : Nat) : Nat := tokH f L p + 2 * bbN (tokV f L p) + 1
def lenC (f : Nat → Int32) (L p : Nat) : Nat := if p < 64 then tokL f L p + lenC f L (p + tokS f L p) else 0
termination_by 64 - p
decreasing_by
  have := tokS_pos f L p
  omega
theorem lenC_lt {f : Nat → Int32} {L p : Nat} (h : p < 64) : lenC f L p = tokL f L p + lenC f L (p + tokS f L p) := by
  rw [lenC, if_pos h]
theorem lenC_ge {f : Nat → Int32} {L p : Nat} (h : 64 ≤ p) : lenC f L p = 0 := by
  rw [lenC, if_neg (by omega)]
theorem bbN_le (x : Int32) : bbN x ≤ 30 := by
  have key : ∀ (f i : Nat), i + f = 31 → firN (fun k => !(decide (0 < x >>> (nI (k + 1) &&& 31)))) f i ≤ 30 ∨ (f = 0) := by
    intro f
    induction f with
    | zero => intro i _; exact Or.inr rfl
    | succ f ih =>
      intro i hi
      left
      show (if _ then _ else _) ≤ _
      split
      · omega
      · rename_i hn
        rcases ih (i + 1) (by omega) with h | h
        · exact h
        · subst h
          have : i = 30 := by omega
          subst this
          exact absurd (by simpa using bb31 x) hn
  rcases key 31 0 rfl with h | h
  · exact h
  · cases h
def bitV (n : Int32) (b : Nat) : Int32 := if b < bbN n then nI 0 else (n >>> (nI (2 * bbN n - b) &&& 31)) &&& nI 1
def tokB (f : Nat → Int32) (L p w : Nat) : Int32 := if w < tokH f L p then (if w = 0 then nI (tokH f L p - 1) else (if 0 ≤ f (orT L p) then nI 0 else nI 1)) else bitV (tokV f L p) (w - tokH f L p)
def bitS (f : Nat → Int32) (L w p : Nat) : Int32 := if p < 64 then (if w < tokL f L p then tokB f L p w else bitS f L (w - tokL f L p) (p + tokS f L p)) else -1
termination_by 64 - p
decreasing_by
  have := tokS_pos f L p
  omega
theorem and1 (x : Int32) : x &&& nI 1 = nI 0 ∨ x &&& nI 1 = nI 1 := by
  obtain ⟨j, hj, e⟩ := pk_andE x (m := nI 1) 1 (by decide)
  have : j = 0 ∨ j = 1 := by omega
  rcases this with rfl | rfl
  · exact Or.inl e
  · exact Or.inr e
theorem tokB_01 (f : Nat → Int32) (L p w : Nat) : tokB f L p w = nI 0 ∨ tokB f L p w = nI 1 := by
  unfold tokB tokH bitV
  repeat' split
  all_goals first | exact Or.inl rfl | exact Or.inr rfl | exact and1 _
theorem tokB_ne (f : Nat → Int32) (L p w : Nat) : ¬ tokB f L p w = -1 := by
  rcases tokB_01 f L p w with h | h <;> rw [h] <;> decide
theorem zrN_le (f : Nat → Int32) (L p : Nat) (h : p ≤ 64) : p + zrN f L p ≤ 64 := by
  have key : ∀ (g i : Nat), p + i ≤ 64 → 64 < p + i + g → p + firN (fun n => if p + n < 64 then (if f (orT L (p + n)) = 0 then false else true) else true) g i ≤ 64 := by
    intro g
    induction g with
    | zero => intro i h1 h2; omega
    | succ g ih =>
      intro i h1 h2
      show p + (if _ then _ else _) ≤ _
      split
      · exact h1
      · rename_i hn
        refine ih (i + 1) ?_ (by omega)
        have hn : ¬ (if p + i < 64 then (if f (orT L (p + i)) = 0 then false else true) else true) = true := hn
        by_cases e : p + i < 64
        · omega
        · rw [if_neg e] at hn
          exact absurd rfl hn
  exact key 65 0 (by omega) (by omega)
def runB (f : Nat → Int32) (L k : Nat) : Bool := if f (orT L k) = 0 then (if k = 0 then true else (if f (orT L (k - 1)) = 0 then false else true)) else false
def runI (f : Nat → Int32) (L : Nat) : Nat → Int32 := fun k => bI (runB f L k)
def zshI (f : Nat → Int32) : Nat → Int32 := fun k => bI (if f k = 0 then true else false)
theorem sml_eq {L : Nat} {t : Int32} {f : Nat → Int32} {x m : Nat} (h : m = levM x L) : bI (isDf L x && allB (layB t f x) m) = bI (smlM L t f x) := by
  rw [h]
  rfl
theorem nxt_f {q : Bool} {t : Int32} {f : Nat → Int32} {x m k : Nat} (c : (q && allB (layQ t f x m) k) = false) : nI 0 = bI (q && allB (layQ t f x m) (k + 1)) := by
  refine bI_of0 ?_
  show (q && (allB _ k && nearB _ _)) = false
  rw [← Bool.and_assoc, c]
  rfl
theorem nxt_n {q : Bool} {t : Int32} {f : Nat → Int32} {x m k : Nat} (c : (q && allB (layQ t f x m) k) = true) (c2 : t < sizI (f (ixM x m k))) : nI 0 = bI (q && allB (layQ t f x m) (k + 1)) := by
  refine bI_of0 ?_
  show (q && (allB _ k && nearB _ _)) = false
  rw [← Bool.and_assoc, c]
  simp only [layQ, nearB, c2, if_true, Bool.and_false]
theorem nxt_t {q : Bool} {t : Int32} {f : Nat → Int32} {x m k : Nat} (c : (q && allB (layQ t f x m) k) = true) (c2 : ¬ t < sizI (f (ixM x m k))) : nI 1 = bI (q && allB (layQ t f x m) (k + 1)) := by
  refine bI_of1 ?_
  show (q && (allB _ k && nearB _ _)) = true
  rw [← Bool.and_assoc, c]
  simp only [layQ, nearB, c2, if_false, Bool.and_true]
theorem sml_out {q : Bool} {p : Nat → Bool} {m n : Nat} (h : m ≤ n) (c : (q && allB p m) = false) : (q && allB p m) = (q && allB p n) := by
  rw [c]
  cases q with
  | false => rfl
  | true =>
    have : allB p m = false := c
    rw [allB_le this n h]
    rfl
theorem bb_30 {n : Int32} {k : Nat} (hk : k ≤ 30) (c : 0 < n >>> (nI (k + 1) &&& 31)) : k + 1 ≤ 30 := by
  rcases Nat.lt_or_ge k 30 with h | h
  · omega
  · have : k = 30 := by omega
    subst this
    exact absurd c (bb31 n)
theorem bb_nx {n : Int32} {k : Nat} (hj : ∀ j, j < k → 0 < n >>> (nI (j + 1) &&& 31)) (c : 0 < n >>> (nI (k + 1) &&& 31)) : ∀ j, j < k + 1 → 0 < n >>> (nI (j + 1) &&& 31) := by
  intro j h
  by_cases e : j = k
  · subst e
    exact c
  · exact hj j (by omega)
theorem bb_of {n : Int32} {k : Nat} (hk : k ≤ 30) (hj : ∀ j, j < k → 0 < n >>> (nI (j + 1) &&& 31)) (c : n >>> (nI (k + 1) &&& 31) ≤ 0) : bbN n = k := by
  refine firN_of (by simp only [decide_eq_false (Int32.not_lt.mpr c), Bool.not_false]) (fun j h => ?_) (by omega)
  simp only [decide_eq_true (hj j h), Bool.not_true]
theorem zr_nx {f : Nat → Int32} {L p n : Nat} (hj : ∀ j, j < n → p + j < 64 ∧ f (orT L (p + j)) = 0) (c : p + n < 64) (c2 : f (orT L (p + n)) = 0) : ∀ j, j < n + 1 → p + j < 64 ∧ f (orT L (p + j)) = 0 := by
  intro j h
  by_cases e : j = n
  · subst e
    exact ⟨c, c2⟩
  · exact hj j (by omega)
theorem zr_of {f : Nat → Int32} {L p n : Nat} (hn : p + n ≤ 64) (hj : ∀ j, j < n → p + j < 64 ∧ f (orT L (p + j)) = 0) (c : 64 ≤ p + n ∨ ¬ f (orT L (p + n)) = 0) : zrN f L p = n := by
  refine firN_of ?_ (fun j h => ?_) (by omega)
  · rcases c with c | c
    · rw [if_neg (by omega)]
    · rw [if_neg c]
      split <;> rfl
  · obtain ⟨a, b⟩ := hj j h
    rw [if_pos a, if_pos b]
theorem stp_le {f : Nat → Int32} {L p : Nat} (h : p ≤ 64) (c : p < 64) : p + (if 0 < zrN f L p then zrN f L p else 1) ≤ 64 := by
  have := zrN_le f L p h
  split <;> omega
def rm_X9_isSmall : Room := ({ frames := 3, cells := 0, slots := 0, locals := 70 } : Room)
set_option maxHeartbeats 400000 in
set_option maxRecDepth 100000 in
theorem t_X9_isSmall (l : Launch) (G : GG) (b0 sz : Nat) (h : Nat) (ad : Nat → Nat) (thr sts : Nat) (hs : Bool) (len at_ num many : Nat) (st pa : Nat → Int32) (x L : Nat) (t : Int32) (hxx : x < 64) (hL1 : 1 ≤ L) (hL : L ≤ 3) (hst : st 64 = nI L) : CT l yX9_isSmall cX9_isSmall 9 (some FieldType.boolean) (rm_X9_isSmall) G b0 [.ref h, .int (nI x), .int t] [oM h ad thr sts hs len at_ num many, aI G (ad 1) 68 st, aI G (ad 5) 64 pa] sz (Ri G (fun (r_ : Int32) (_ : Unit) => r_ = bI (smlM L t pa x)) (fun (_ : Unit) => [oM h ad thr sts hs len at_ num many, aI G (ad 1) 68 st, aI G (ad 5) 64 pa])) := by
  refine CT.go (by decide) (Nat.le_of_ble_eq_true rfl) (fun p e s m below meth c A ls AR QQ hx hb hr hlk hml hown hnm hts hE hA hAb hsz hP hD hS hl hQQ => ?_)
  have hK := hE.1
  have hown : s.vm.findClass RX9 = some m.cls := hown
  have hl : lv_has ls 9 [(0, .ref h), (1, .int (nI x)), (2, .int t)] := hl
  clear hsz
  have hlm := levM_in (x := x) hL1 hL
  refine lv_iload_n hx hb dX9_isSmall_0 rfl (lv_at hl 1 rfl) ?_
  refine lv_aload_n hx hb dX9_isSmall_1 rfl (lv_at hl 0 rfl) ?_
  refine va_get (D := G.1) (ci := 8) (v := .ref (ad 1)) (C := RX9) (T := TX9) (N := 21) hx hb hts in_X9 hown hK hP 0 rfl rfl 1 (by decide) (hts _ q1668) (fun _ h9 => h9) rfl dX9_isSmall_2 ?_
  refine lv_bipush (v := nI 64) hx hb dX9_isSmall_5 (by decide) ?_
  refine N_iald hx hb dX9_isSmall_7 hK hP 1 0 rfl rfl (by omega) (by omega) ?_
  refine top_i (y := nI L) (hst) ?_
  refine fin_i (ws' := (fun (_ : Unit) => [oM h ad thr sts hs len at_ num many, aI G (ad 1) 68 st, aI G (ad 5) 64 pa])) hA hS hP hD [] rfl [(false, 0), (false, 1), (false, 2)] (fun _ => rfl) (by decide) (run_S (As := [.int (nI x), .int (nI L)]) (rest := []) (n9 := 2) hx hb hml hown hts hE hAb hl.1 hS hP hD [] rfl (by decide) (t_X9_levelOf l G b0 _ x L (by omega) (by omega) (by omega)) (lw_S q1796 q1797 q129 q1798) ⟨by decide, by decide, by decide +kernel⟩ ⟨Nat.le_of_ble_eq_true rfl, Nat.le_of_ble_eq_true rfl⟩ ⟨by first | exact Nat.le_of_ble_eq_true rfl | (simp only [rm_X9_isSmall, rm_X9_levelOf]; omega), by first | exact Nat.le_of_ble_eq_true rfl | (simp only [rm_X9_isSmall, rm_X9_levelOf]; omega)⟩ dX9_isSmall_8 (Nat.le_of_ble_eq_true rfl) rfl rfl) (fun r_1 u_1 H locs h_1 hP hD hS => ?_)
  have hP : va_P G.1 vwCl [oM h ad thr sts hs len at_ num many, aI G (ad 1) 68 st, aI G (ad 5) 64 pa] _ := hP
  have hD : va_D A [oM h ad thr sts hs len at_ num many, aI G (ad 1) 68 st, aI G (ad 5) 64 pa] := hD
  have h_1 : r_1 = (nI (levM x L)) := h_1
  rw [h_1]
  refine lv_istore_n (lv' := [(3, .int (nI (levM x L))), (0, .ref h), (1, .int (nI x)), (2, .int t)]) hx hb dX9_isSmall_11 rfl hl (by decide) rfl (fun ls hl => ?_)
  refine lv_aload_n hx hb dX9_isSmall_12 rfl (lv_at hl 1 rfl) ?_
  refine lv_iload_n hx hb dX9_isSmall_13 rfl (lv_at hl 2 rfl) ?_
  refine fin_i (ws' := (fun (_ : Unit) => [oM h ad thr sts hs len at_ num many, aI G (ad 1) 68 st, aI G (ad 5) 64 pa])) hA hS hP hD [0, 1] rfl [(true, 0), (true, 1), (false, 2)] (fun _ => rfl) (by decide) (run_V (As := [.int (nI x)]) (rest := []) (n9 := 1) hx hb hml hown hts hE hAb hl.1 hS hP hD [0, 1] rfl (by decide) (t_X9_isDifference l G b0 _ h ad thr sts hs len at_ num many st x L (by omega) (by omega) (by omega) (by omega)) (lw_V q1789 q1791 qs67 q129 q1792) 0 rfl rfl ⟨rfl, by decide, by decide, by decide +kernel⟩ ⟨Nat.le_of_ble_eq_true rfl, Nat.le_of_ble_eq_true rfl⟩ ⟨by first | exact Nat.le_of_ble_eq_true rfl | (simp only [rm_X9_isSmall, rm_X9_isDifference]; omega), by first | exact Nat.le_of_ble_eq_true rfl | (simp only [rm_X9_isSmall, rm_X9_isDifference]; omega)⟩ dX9_isSmall_14 (Nat.le_of_ble_eq_true rfl) rfl rfl) (fun r_2 u_2 H locs h_2 hP hD hS => ?_)
  have hP : va_P G.1 vwCl [oM h ad thr sts hs len at_ num many, aI G (ad 1) 68 st, aI G (ad 5) 64 pa] _ := hP
  have hD : va_D A [oM h ad thr sts hs len at_ num many, aI G (ad 1) 68 st, aI G (ad 5) 64 pa] := hD
  have h_2 : r_2 = (bI (isDf L x)) := h_2
  rw [h_2]
  refine lv_istore (lv' := [(4, .int (bI (isDf L x))), (3, .int (nI (levM x L))), (0, .ref h), (1, .int (nI x)), (2, .int t)]) hx hb dX9_isSmall_17 hl (by decide) rfl (fun ls hl => ?_)
  refine lv_iconst (v := nI 0) hx hb dX9_isSmall_19 (by decide) ?_
  refine lv_istore (lv' := [(5, .int (nI 0)), (4, .int (bI (isDf L x))), (3, .int (nI (levM x L))), (0, .ref h), (1, .int (nI x)), (2, .int t)]) hx hb dX9_isSmall_20 hl (by decide) rfl (fun ls hl => ?_)
  have lp_22 : ∀ (n_22 : Nat) (m_ : Nat), (m_ ≤ levM x L) → (levM x L - m_) < n_22 → ∀ (H : Heap) (locs : List Loc) (ls : Array Slot), va_P G.1 vwCl [oM h ad thr sts hs len at_ num many, aI G (ad 1) 68 st, aI G (ad 5) 64 pa] H → va_D A [oM h ad thr sts hs len at_ num many, aI G (ad 1) 68 st, aI G (ad 5) 64 pa] → va_S A s.heap H locs → lv_has ls 9 [(0, .ref h), (1, .int (nI x)), (2, .int t), (3, .int (nI (levM x L))), (4, .int (bI (isDf L x && allB (layB t pa x) m_))), (5, .int (nI m_))] → W p l e (rm_X9_isSmall) s m AR below meth c H locs 0 0 QQ (F0 m 22 ls []) := by
    intro n_22
    induction n_22 with
    | zero => intro m_ hm hn_; exact absurd hn_ (Nat.not_lt_zero _)
    | succ n_22 ih_22 =>
      intro m_ hm hn_22 H locs ls hP hD hS hl
      have hm4 : 2 ^ m_ ≤ 8 ∧ 1 ≤ 2 ^ m_ := ⟨Nat.le_trans (Nat.pow_le_pow_right (by decide) (show m_ ≤ 3 by omega)) (by decide), Nat.one_le_two_pow⟩
      have hm6 : 2 ^ (2 * m_) ≤ 64 := Nat.le_trans (Nat.pow_le_pow_right (by decide) (show 2 * m_ ≤ 6 by omega)) (by decide)
      refine lv_iload hx hb dX9_isSmall_22 (lv_at hl 5 rfl) ?_
      refine lv_iload_n hx hb dX9_isSmall_24 rfl (lv_at hl 3 rfl) ?_
      refine N_icmp_ge (tgt := 125) hx hb dX9_isSmall_25 (by decide) (by omega) (by omega) (fun c_25 => ?_) (fun c_25 => ?_)
      · skip
        refine lv_iload hx hb dX9_isSmall_125 (lv_at hl 4 rfl) ?_
        rw [hQQ]
        exact rt_z hx hb hr hlk (by first | exact bI_nar _ | rfl) (()) dX9_isSmall_127 hP hD hS (by first | exact Nat.le_of_ble_eq_true rfl | (simp only [rm_X9_isSmall]; omega)) (by first | exact Nat.le_of_ble_eq_true rfl | (simp only [rm_X9_isSmall]; omega)) (by first | exact sml_eq (Nat.le_antisymm hm c_25) | exact congrArg bI (sml_out (by omega) c_30))
      · skip
        refine lv_iload hx hb dX9_isSmall_28 (lv_at hl 4 rfl) ?_
        refine B_if_eq (tgt := 125) hx hb dX9_isSmall_30 (by decide) (fun c_30 => ?_) (fun c_30 => ?_)
        · skip
          refine lv_iload hx hb dX9_isSmall_125 (lv_at hl 4 rfl) ?_
          rw [hQQ]
          exact rt_z hx hb hr hlk (by first | exact bI_nar _ | rfl) (()) dX9_isSmall_127 hP hD hS (by first | exact Nat.le_of_ble_eq_true rfl | (simp only [rm_X9_isSmall]; omega)) (by first | exact Nat.le_of_ble_eq_true rfl | (simp only [rm_X9_isSmall]; omega)) (by first | exact sml_eq (Nat.le_antisymm hm c_25) | exact congrArg bI (sml_out (by omega) c_30))
        · skip
          refine lv_iload_n hx hb dX9_isSmall_33 rfl (lv_at hl 1 rfl) ?_
          refine lv_bipush (v := nI 8) hx hb dX9_isSmall_34 (by decide) ?_
          refine N_idiv hx hb dX9_isSmall_36 (by omega) (by omega) (by omega) ?_
          refine lv_iload hx hb dX9_isSmall_37 (lv_at hl 5 rfl) ?_
          refine N_ishl hx hb dX9_isSmall_39 (by first | omega | exact shl_b (by omega) (by omega)) (by first | omega | exact shl_b (by omega) (by omega)) ?_
          refine lv_istore (lv' := [(6, .int (nI ((x / 8) * 2 ^ m_))), (0, .ref h), (1, .int (nI x)), (2, .int t), (3, .int (nI (levM x L))), (4, .int (bI (isDf L x && allB (layB t pa x) m_))), (5, .int (nI m_))]) hx hb dX9_isSmall_40 hl (by decide) rfl (fun ls hl => ?_)
          refine lv_iload_n hx hb dX9_isSmall_42 rfl (lv_at hl 2 rfl) ?_
          refine lv_bipush (v := nI 8) hx hb dX9_isSmall_43 (by decide) ?_
          refine N_irem hx hb dX9_isSmall_45 (by omega) (by omega) (by omega) ?_
          refine lv_iload hx hb dX9_isSmall_46 (lv_at hl 6 rfl) ?_
          refine N_ishl hx hb dX9_isSmall_48 (by first | omega | exact shl_b (by omega) (by omega)) (by first | omega | exact shl_b (by omega) (by omega)) ?_
          refine lv_istore (lv' := [(7, .int (nI ((x % 8) * 2 ^ m_))), (6, .int (nI ((x / 8) * 2 ^ m_))), (0, .ref h), (1, .int (nI x)), (2, .int t), (3, .int (nI (levM x L))), (4, .int (bI (isDf L x && allB (layB t pa x) m_))), (5, .int (nI m_))]) hx hb dX9_isSmall_49 hl (by decide) rfl (fun ls hl => ?_)
          refine lv_iconst (v := nI 0) hx hb dX9_isSmall_51 (by decide) ?_
          refine lv_istore (lv' := [(8, .int (nI 0)), (7, .int (nI ((x % 8) * 2 ^ m_))), (6, .int (nI ((x / 8) * 2 ^ m_))), (0, .ref h), (1, .int (nI x)), (2, .int t), (3, .int (nI (levM x L))), (4, .int (bI (isDf L x && allB (layB t pa x) m_))), (5, .int (nI m_))]) hx hb dX9_isSmall_52 hl (by decide) rfl (fun ls hl => ?_)
          have lp_54 : ∀ (n_54 : Nat) (k : Nat), (k ≤ 2 ^ (2 * m_)) → (2 ^ (2 * m_) - k) < n_54 → ∀ (H : Heap) (locs : List Loc) (ls : Array Slot), va_P G.1 vwCl [oM h ad thr sts hs len at_ num many, aI G (ad 1) 68 st, aI G (ad 5) 64 pa] H → va_D A [oM h ad thr sts hs len at_ num many, aI G (ad 1) 68 st, aI G (ad 5) 64 pa] → va_S A s.heap H locs → lv_has ls 9 [(0, .ref h), (1, .int (nI x)), (2, .int t), (3, .int (nI (levM x L))), (4, .int (bI ((isDf L x && allB (layB t pa x) m_) && allB (layQ t pa x m_) k))), (5, .int (nI m_)), (6, .int (nI ((x / 8) * 2 ^ m_))), (7, .int (nI ((x % 8) * 2 ^ m_))), (8, .int (nI k))] → W p l e (rm_X9_isSmall) s m AR below meth c H locs 0 0 QQ (F0 m 54 ls []) := by
            intro n_54
            induction n_54 with
            | zero => intro k hk hn_; exact absurd hn_ (Nat.not_lt_zero _)
            | succ n_54 ih_54 =>
              intro k hk hn_54 H locs ls hP hD hS hl
              refine lv_iload hx hb dX9_isSmall_54 (lv_at hl 8 rfl) ?_
              refine lv_iconst (v := nI 1) hx hb dX9_isSmall_56 (by decide) ?_
              refine lv_iconst (v := nI 2) hx hb dX9_isSmall_57 (by decide) ?_
              refine lv_iload hx hb dX9_isSmall_58 (lv_at hl 5 rfl) ?_
              refine N_imul hx hb dX9_isSmall_60 ?_
              refine N_ishl hx hb dX9_isSmall_61 (by first | omega | exact shl_b (by omega) (by omega)) (by first | omega | exact shl_b (by omega) (by omega)) ?_
              refine N_icmp_ge (tgt := 119) hx hb dX9_isSmall_62 (by decide) (by first | omega | (simp only [Nat.one_mul]; omega)) (by first | omega | (simp only [Nat.one_mul]; omega)) (fun c_62 => ?_) (fun c_62 => ?_)
              · skip
                have ek_ : k = 2 ^ (2 * m_) := by omega
                rw [ek_] at hl
                have hl : lv_has ls 9 [(0, .ref h), (1, .int (nI x)), (2, .int t), (3, .int (nI (levM x L))), (4, .int (bI ((isDf L x && allB (layB t pa x) m_) && layB t pa x m_))), (5, .int (nI m_)), (6, .int (nI ((x / 8) * 2 ^ m_))), (7, .int (nI ((x % 8) * 2 ^ m_))), (8, .int (nI (2 ^ (2 * m_))))] := hl
                refine N_iinc (a := m_) (b := 1) (k9 := 5) (lv' := [(5, .int (nI (m_ + 1))), (0, .ref h), (1, .int (nI x)), (2, .int t), (3, .int (nI (levM x L))), (4, .int (bI ((isDf L x && allB (layB t pa x) m_) && layB t pa x m_))), (6, .int (nI ((x / 8) * 2 ^ m_))), (7, .int (nI ((x % 8) * 2 ^ m_))), (8, .int (nI (2 ^ (2 * m_))))]) hx hb dX9_isSmall_119 hl rfl rfl (by decide) rfl (fun ls hl => ?_)
                refine lv_goto (tgt := 22) hx hb dX9_isSmall_122 (by decide) ?_
                have hl : lv_has ls 9 [(0, .ref h), (1, .int (nI x)), (2, .int t), (3, .int (nI (levM x L))), (4, .int (bI ((isDf L x && allB (layB t pa x) m_) && layB t pa x m_))), (5, .int (nI (m_ + 1)))] := lv_sub hl [1, 2, 3, 4, 5, 0] rfl
                have e_3 : (bI ((isDf L x && allB (layB t pa x) m_) && layB t pa x m_)) = (bI (isDf L x && allB (layB t pa x) (m_ + 1))) := by exact congrArg bI (Bool.and_assoc _ _ _)
                rw [e_3] at hl
                have hl : lv_has ls 9 [(0, .ref h), (1, .int (nI x)), (2, .int t), (3, .int (nI (levM x L))), (4, .int (bI (isDf L x && allB (layB t pa x) (m_ + 1)))), (5, .int (nI (m_ + 1)))] := hl
                exact ih_22 (m_ + 1) (by omega) (by omega) _ _ _ hP hD hS hl
              · skip
                refine lv_iload hx hb dX9_isSmall_65 (lv_at hl 4 rfl) ?_
                refine B_if_eq (tgt := 110) hx hb dX9_isSmall_67 (by decide) (fun c_67 => ?_) (fun c_67 => ?_)
                · skip
                  refine lv_iconst (v := nI 0) hx hb dX9_isSmall_110 (by decide) ?_
                  refine lv_istore (lv' := [(4, .int (nI 0)), (0, .ref h), (1, .int (nI x)), (2, .int t), (3, .int (nI (levM x L))), (5, .int (nI m_)), (6, .int (nI ((x / 8) * 2 ^ m_))), (7, .int (nI ((x % 8) * 2 ^ m_))), (8, .int (nI k))]) hx hb dX9_isSmall_111 hl (by decide) rfl (fun ls hl => ?_)
                  refine N_iinc (a := k) (b := 1) (k9 := 8) (lv' := [(8, .int (nI (k + 1))), (4, .int (nI 0)), (0, .ref h), (1, .int (nI x)), (2, .int t), (3, .int (nI (levM x L))), (5, .int (nI m_)), (6, .int (nI ((x / 8) * 2 ^ m_))), (7, .int (nI ((x % 8) * 2 ^ m_)))]) hx hb dX9_isSmall_113 hl rfl rfl (by decide) rfl (fun ls hl => ?_)
                  refine lv_goto (tgt := 54) hx hb dX9_isSmall_116 (by decide) ?_
                  have hl : lv_has ls 9 [(0, .ref h), (1, .int (nI x)), (2, .int t), (3, .int (nI (levM x L))), (4, .int (nI 0)), (5, .int (nI m_)), (6, .int (nI ((x / 8) * 2 ^ m_))), (7, .int (nI ((x % 8) * 2 ^ m_))), (8, .int (nI (k + 1)))] := lv_sub hl [2, 3, 4, 5, 1, 6, 7, 8, 0] rfl
                  have e_4 : (nI 0) = (bI ((isDf L x && allB (layB t pa x) m_) && allB (layQ t pa x m_) (k + 1))) := by first | exact congrArg bI (by rw [Bool.and_assoc]; exact cntB_and _ _) | exact nxt_f c_67 | exact nxt_n c_67 c_103 | exact nxt_t c_67 c_103
                  rw [e_4] at hl
                  have hl : lv_has ls 9 [(0, .ref h), (1, .int (nI x)), (2, .int t), (3, .int (nI (levM x L))), (4, .int (bI ((isDf L x && allB (layB t pa x) m_) && allB (layQ t pa x m_) (k + 1)))), (5, .int (nI m_)), (6, .int (nI ((x / 8) * 2 ^ m_))), (7, .int (nI ((x % 8) * 2 ^ m_))), (8, .int (nI (k + 1)))] := hl
                  exact ih_54 (k + 1) (by omega) (by omega) _ _ _ hP hD hS hl
                · skip
                  refine lv_aload_n hx hb dX9_isSmall_70 rfl (lv_at hl 0 rfl) ?_
                  refine va_get (D := G.1) (ci := 8) (v := .ref (ad 5)) (C := RX9) (T := TX9) (N := 21) hx hb hts in_X9 hown hK hP 0 rfl rfl 8 (by decide) (hts _ q1675) (fun _ h9 => h9) rfl dX9_isSmall_71 ?_
                  refine lv_bipush (v := nI 8) hx hb dX9_isSmall_74 (by decide) ?_
                  refine lv_iload hx hb dX9_isSmall_76 (lv_at hl 6 rfl) ?_
                  refine lv_iload hx hb dX9_isSmall_78 (lv_at hl 8 rfl) ?_
                  refine lv_iload hx hb dX9_isSmall_80 (lv_at hl 5 rfl) ?_
                  refine N_ishr hx hb dX9_isSmall_82 (by first | omega | exact shl_b (by omega) (by omega)) (by first | omega | exact shl_b (by omega) (by omega)) ?_
                  refine N_iadd hx hb dX9_isSmall_83 ?_
                  refine N_imul hx hb dX9_isSmall_84 ?_
                  refine lv_iload hx hb dX9_isSmall_85 (lv_at hl 7 rfl) ?_
                  refine N_iadd hx hb dX9_isSmall_87 ?_
                  refine lv_iload hx hb dX9_isSmall_88 (lv_at hl 8 rfl) ?_
                  refine lv_iconst (v := nI 1) hx hb dX9_isSmall_90 (by decide) ?_
                  refine lv_iload hx hb dX9_isSmall_91 (lv_at hl 5 rfl) ?_
                  refine N_ishl hx hb dX9_isSmall_93 (by first | omega | exact shl_b (by omega) (by omega)) (by first | omega | exact shl_b (by omega) (by omega)) ?_
                  refine lv_iconst (v := nI 1) hx hb dX9_isSmall_94 (by decide) ?_
                  refine N_isub hx hb dX9_isSmall_95 (by omega) ?_
                  refine lv_iand hx hb dX9_isSmall_96 (top_i (and_pow (by omega) (by omega)) ?_)
                  refine N_iadd hx hb dX9_isSmall_97 ?_
                  refine N_iald hx hb dX9_isSmall_98 hK hP 2 0 rfl rfl (by have := ixM_lt (k := k) hxx hL (by omega) (by omega); omega) (by omega) ?_
                  refine fin_i (ws' := (fun (_ : Unit) => [oM h ad thr sts hs len at_ num many, aI G (ad 1) 68 st, aI G (ad 5) 64 pa])) hA hS hP hD [] rfl [(false, 0), (false, 1), (false, 2)] (fun _ => rfl) (by decide) (run_S (As := [.int (pa (((8 * (((x / 8) * 2 ^ m_) + (k / 2 ^ m_))) + ((x % 8) * 2 ^ m_)) + (k % 2 ^ m_)))]) (rest := []) (n9 := 1) hx hb hml hown hts hE hAb hl.1 hS hP hD [] rfl (by decide) (t_X9_size l G b0 _ (pa (((8 * (((x / 8) * 2 ^ m_) + (k / 2 ^ m_))) + ((x % 8) * 2 ^ m_)) + (k % 2 ^ m_))) ) (lw_S q1799 q1800 q129 q1801) ⟨by decide, by decide, by decide +kernel⟩ ⟨Nat.le_of_ble_eq_true rfl, Nat.le_of_ble_eq_true rfl⟩ ⟨by first | exact Nat.le_of_ble_eq_true rfl | (simp only [rm_X9_isSmall, rm_X9_size]; omega), by first | exact Nat.le_of_ble_eq_true rfl | (simp only [rm_X9_isSmall, rm_X9_size]; omega)⟩ dX9_isSmall_99 (Nat.le_of_ble_eq_true rfl) rfl rfl) (fun r_5 u_5 H locs h_5 hP hD hS => ?_)
                  have hP : va_P G.1 vwCl [oM h ad thr sts hs len at_ num many, aI G (ad 1) 68 st, aI G (ad 5) 64 pa] _ := hP
                  have hD : va_D A [oM h ad thr sts hs len at_ num many, aI G (ad 1) 68 st, aI G (ad 5) 64 pa] := hD
                  have h_5 : r_5 = (sizI (pa (((8 * (((x / 8) * 2 ^ m_) + (k / 2 ^ m_))) + ((x % 8) * 2 ^ m_)) + (k % 2 ^ m_)))) := h_5
                  rw [h_5]
                  refine lv_iload_n hx hb dX9_isSmall_102 rfl (lv_at hl 2 rfl) ?_
                  refine lv_icmp_gt (tgt := 110) hx hb dX9_isSmall_103 (by decide) (fun c_103 => ?_) (fun c_103 => ?_)
                  · skip
                    refine lv_iconst (v := nI 0) hx hb dX9_isSmall_110 (by decide) ?_
                    refine lv_istore (lv' := [(4, .int (nI 0)), (0, .ref h), (1, .int (nI x)), (2, .int t), (3, .int (nI (levM x L))), (5, .int (nI m_)), (6, .int (nI ((x / 8) * 2 ^ m_))), (7, .int (nI ((x % 8) * 2 ^ m_))), (8, .int (nI k))]) hx hb dX9_isSmall_111 hl (by decide) rfl (fun ls hl => ?_)
                    refine N_iinc (a := k) (b := 1) (k9 := 8) (lv' := [(8, .int (nI (k + 1))), (4, .int (nI 0)), (0, .ref h), (1, .int (nI x)), (2, .int t), (3, .int (nI (levM x L))), (5, .int (nI m_)), (6, .int (nI ((x / 8) * 2 ^ m_))), (7, .int (nI ((x % 8) * 2 ^ m_)))]) hx hb dX9_isSmall_113 hl rfl rfl (by decide) rfl (fun ls hl => ?_)
                    refine lv_goto (tgt := 54) hx hb dX9_isSmall_116 (by decide) ?_
                    have hl : lv_has ls 9 [(0, .ref h), (1, .int (nI x)), (2, .int t), (3, .int (nI (levM x L))), (4, .int (nI 0)), (5, .int (nI m_)), (6, .int (nI ((x / 8) * 2 ^ m_))), (7, .int (nI ((x % 8) * 2 ^ m_))), (8, .int (nI (k + 1)))] := lv_sub hl [2, 3, 4, 5, 1, 6, 7, 8, 0] rfl
                    have e_6 : (nI 0) = (bI ((isDf L x && allB (layB t pa x) m_) && allB (layQ t pa x m_) (k + 1))) := by first | exact congrArg bI (by rw [Bool.and_assoc]; exact cntB_and _ _) | exact nxt_f c_67 | exact nxt_n c_67 c_103 | exact nxt_t c_67 c_103
                    rw [e_6] at hl
                    have hl : lv_has ls 9 [(0, .ref h), (1, .int (nI x)), (2, .int t), (3, .int (nI (levM x L))), (4, .int (bI ((isDf L x && allB (layB t pa x) m_) && allB (layQ t pa x m_) (k + 1)))), (5, .int (nI m_)), (6, .int (nI ((x / 8) * 2 ^ m_))), (7, .int (nI ((x % 8) * 2 ^ m_))), (8, .int (nI (k + 1)))] := hl
                    exact ih_54 (k + 1) (by omega) (by omega) _ _ _ hP hD hS hl
                  · skip
                    refine lv_iconst (v := nI 1) hx hb dX9_isSmall_106 (by decide) ?_
                    refine lv_goto (tgt := 111) hx hb dX9_isSmall_107 (by decide) ?_
                    refine lv_istore (lv' := [(4, .int (nI 1)), (0, .ref h), (1, .int (nI x)), (2, .int t), (3, .int (nI (levM x L))), (5, .int (nI m_)), (6, .int (nI ((x / 8) * 2 ^ m_))), (7, .int (nI ((x % 8) * 2 ^ m_))), (8, .int (nI k))]) hx hb dX9_isSmall_111 hl (by decide) rfl (fun ls hl => ?_)
                    refine N_iinc (a := k) (b := 1) (k9 := 8) (lv' := [(8, .int (nI (k + 1))), (4, .int (nI 1)), (0, .ref h), (1, .int (nI x)), (2, .int t), (3, .int (nI (levM x L))), (5, .int (nI m_)), (6, .int (nI ((x / 8) * 2 ^ m_))), (7, .int (nI ((x % 8) * 2 ^ m_)))]) hx hb dX9_isSmall_113 hl rfl rfl (by decide) rfl (fun ls hl => ?_)
                    refine lv_goto (tgt := 54) hx hb dX9_isSmall_116 (by decide) ?_
                    have hl : lv_has ls 9 [(0, .ref h), (1, .int (nI x)), (2, .int t), (3, .int (nI (levM x L))), (4, .int (nI 1)), (5, .int (nI m_)), (6, .int (nI ((x / 8) * 2 ^ m_))), (7, .int (nI ((x % 8) * 2 ^ m_))), (8, .int (nI (k + 1)))] := lv_sub hl [2, 3, 4, 5, 1, 6, 7, 8, 0] rfl
                    have e_7 : (nI 1) = (bI ((isDf L x && allB (layB t pa x) m_) && allB (layQ t pa x m_) (k + 1))) := by first | exact congrArg bI (by rw [Bool.and_assoc]; exact cntB_and _ _) | exact nxt_f c_67 | exact nxt_n c_67 c_103 | exact nxt_t c_67 c_103
                    rw [e_7] at hl
                    have hl : lv_has ls 9 [(0, .ref h), (1, .int (nI x)), (2, .int t), (3, .int (nI (levM x L))), (4, .int (bI ((isDf L x && allB (layB t pa x) m_) && allB (layQ t pa x m_) (k + 1)))), (5, .int (nI m_)), (6, .int (nI ((x / 8) * 2 ^ m_))), (7, .int (nI ((x % 8) * 2 ^ m_))), (8, .int (nI (k + 1)))] := hl
                    exact ih_54 (k + 1) (by omega) (by omega) _ _ _ hP hD hS hl
          have hl : lv_has ls 9 [(0, .ref h), (1, .int (nI x)), (2, .int t), (3, .int (nI (levM x L))), (4, .int (bI (isDf L x && allB (layB t pa x) m_))), (5, .int (nI m_)), (6, .int (nI ((x / 8) * 2 ^ m_))), (7, .int (nI ((x % 8) * 2 ^ m_))), (8, .int (nI 0))] := lv_sub hl [3, 4, 5, 6, 7, 8, 2, 1, 0] rfl
          have e_8 : (bI (isDf L x && allB (layB t pa x) m_)) = (bI ((isDf L x && allB (layB t pa x) m_) && allB (layQ t pa x m_) 0)) := by exact congrArg bI (Bool.and_true _).symm
          rw [e_8] at hl
          have hl : lv_has ls 9 [(0, .ref h), (1, .int (nI x)), (2, .int t), (3, .int (nI (levM x L))), (4, .int (bI ((isDf L x && allB (layB t pa x) m_) && allB (layQ t pa x m_) 0))), (5, .int (nI m_)), (6, .int (nI ((x / 8) * 2 ^ m_))), (7, .int (nI ((x % 8) * 2 ^ m_))), (8, .int (nI 0))] := hl
          exact lp_54 _ 0 (by exact Nat.zero_le _) (Nat.lt_succ_self _) _ _ _ hP hD hS hl
  have hl : lv_has ls 9 [(0, .ref h), (1, .int (nI x)), (2, .int t), (3, .int (nI (levM x L))), (4, .int (bI (isDf L x))), (5, .int (nI 0))] := lv_sub hl [3, 4, 5, 2, 1, 0] rfl
  have e_9 : (bI (isDf L x)) = (bI (isDf L x && allB (layB t pa x) 0)) := by exact congrArg bI (Bool.and_true _).symm
  rw [e_9] at hl
  have hl : lv_has ls 9 [(0, .ref h), (1, .int (nI x)), (2, .int t), (3, .int (nI (levM x L))), (4, .int (bI (isDf L x && allB (layB t pa x) 0))), (5, .int (nI 0))] := hl
  exact lp_22 _ 0 (by omega) (Nat.lt_succ_self _) _ _ _ hP hD hS hl
def rm_X9_treesBy : Room := ({ frames := 4, cells := 0, slots := 0, locals := 98 } : Room)
set_option maxHeartbeats 400000 in
set_option maxRecDepth 100000 in
theorem t_X9_treesBy (l : Launch) (G : GG) (b0 sz : Nat) (h : Nat) (ad : Nat → Nat) (thr sts : Nat) (hs : Bool) (len at_ num many : Nat) (st pa li : Nat → Int32) (L : Nat) (t : Int32) (hL1 : 1 ≤ L) (hL : L ≤ 3) (hst : st 64 = nI L) : CT l yX9_treesBy cX9_treesBy 6 (some FieldType.int) (rm_X9_treesBy) G b0 [.ref h, .int t] [oM h ad thr sts hs len at_ num many, aI G (ad 1) 68 st, aI G (ad 5) 64 pa, aI G (ad 7) 8 li] sz (Ri G (fun (r_ : Int32) (u : Nat → Int32) => r_ = l_sum (trN L t (splitP st L)) 64) (fun (u : Nat → Int32) => [oM h ad thr sts hs len at_ num many, aI G (ad 1) 68 st, aI G (ad 5) 64 (splitP st L), aI G (ad 7) 8 u])) := by
  refine CT.go (by decide) (Nat.le_of_ble_eq_true rfl) (fun p e s m below meth c A ls AR QQ hx hb hr hlk hml hown hnm hts hE hA hAb hsz hP hD hS hl hQQ => ?_)
  have hK := hE.1
  have hown : s.vm.findClass RX9 = some m.cls := hown
  have hl : lv_has ls 6 [(0, .ref h), (1, .int t)] := hl
  clear hsz
  refine lv_aload_n hx hb dX9_treesBy_0 rfl (lv_at hl 0 rfl) ?_
  refine fin_v (ws' := (fun (u_1 : Nat → Int32) => [oM h ad thr sts hs len at_ num many, aI G (ad 1) 68 st, aI G (ad 5) 64 (splitP st L), aI G (ad 7) 8 u_1])) hA hS hP hD [0, 1, 2, 3] rfl [(true, 0), (true, 1), (true, 2), (true, 3)] (fun _ => rfl) (by decide) (run_V (As := []) (rest := []) (n9 := 0) hx hb hml hown hts hE hAb hl.1 hS hP hD [0, 1, 2, 3] rfl (by decide) (t_X9_split l G b0 _ h ad thr sts hs len at_ num many st pa li L (by omega) (by omega) (by omega)) (lw_V q1777 q1779 qs64 q129 q1780) 0 rfl rfl ⟨rfl, by decide, by decide, by decide +kernel⟩ ⟨Nat.le_of_ble_eq_true rfl, Nat.le_of_ble_eq_true rfl⟩ ⟨by first | exact Nat.le_of_ble_eq_true rfl | (simp only [rm_X9_treesBy, rm_X9_split]; omega), by first | exact Nat.le_of_ble_eq_true rfl | (simp only [rm_X9_treesBy, rm_X9_split]; omega)⟩ dX9_treesBy_1 (Nat.le_of_ble_eq_true rfl) rfl rfl) (fun u_1 H locs h_1 hP hD hS => ?_)
  have hP : va_P G.1 vwCl [oM h ad thr sts hs len at_ num many, aI G (ad 1) 68 st, aI G (ad 5) 64 (splitP st L), aI G (ad 7) 8 u_1] _ := hP
  have hD : va_D A [oM h ad thr sts hs len at_ num many, aI G (ad 1) 68 st, aI G (ad 5) 64 (splitP st L), aI G (ad 7) 8 u_1] := hD
  refine lv_iconst (v := nI 0) hx hb dX9_treesBy_4 (by decide) ?_
  refine lv_istore_n (lv' := [(2, .int (nI 0)), (0, .ref h), (1, .int t)]) hx hb dX9_treesBy_5 rfl hl (by decide) rfl (fun ls hl => ?_)
  refine lv_iconst (v := nI 0) hx hb dX9_treesBy_6 (by decide) ?_
  refine lv_istore_n (lv' := [(3, .int (nI 0)), (2, .int (nI 0)), (0, .ref h), (1, .int t)]) hx hb dX9_treesBy_7 rfl hl (by decide) rfl (fun ls hl => ?_)
  have lp_8 : ∀ (n_8 : Nat) (k : Nat), (k ≤ 64) → (64 - k) < n_8 → ∀ (H : Heap) (locs : List Loc) (ls : Array Slot), va_P G.1 vwCl [oM h ad thr sts hs len at_ num many, aI G (ad 1) 68 st, aI G (ad 5) 64 (splitP st L), aI G (ad 7) 8 u_1] H → va_D A [oM h ad thr sts hs len at_ num many, aI G (ad 1) 68 st, aI G (ad 5) 64 (splitP st L), aI G (ad 7) 8 u_1] → va_S A s.heap H locs → lv_has ls 6 [(0, .ref h), (1, .int t), (2, .int (l_sum (trN L t (splitP st L)) k)), (3, .int (nI k))] → W p l e (rm_X9_treesBy) s m AR below meth c H locs 0 0 QQ (F0 m 8 ls []) := by
    intro n_8
    induction n_8 with
    | zero => intro k hk hn_; exact absurd hn_ (Nat.not_lt_zero _)
    | succ n_8 ih_8 =>
      intro k hk hn_8 H locs ls hP hD hS hl
      refine lv_iload_n hx hb dX9_treesBy_8 rfl (lv_at hl 3 rfl) ?_
      refine lv_bipush (v := nI 64) hx hb dX9_treesBy_9 (by decide) ?_
      refine N_icmp_ge (tgt := 98) hx hb dX9_treesBy_11 (by decide) (by omega) (by omega) (fun c_11 => ?_) (fun c_11 => ?_)
      · skip
        obtain rfl : k = 64 := by omega
        refine lv_iload_n hx hb dX9_treesBy_98 rfl (lv_at hl 2 rfl) ?_
        rw [hQQ]
        exact rt_i hx hb hr hlk  u_1 dX9_treesBy_99 hP hD hS (by first | exact Nat.le_of_ble_eq_true rfl | (simp only [rm_X9_treesBy]; omega)) (by first | exact Nat.le_of_ble_eq_true rfl | (simp only [rm_X9_treesBy]; omega)) (by rfl)
      · skip
        refine lv_iload_n hx hb dX9_treesBy_14 rfl (lv_at hl 3 rfl) ?_
        refine lv_aload_n hx hb dX9_treesBy_15 rfl (lv_at hl 0 rfl) ?_
        refine va_get (D := G.1) (ci := 8) (v := .ref (ad 1)) (C := RX9) (T := TX9) (N := 21) hx hb hts in_X9 hown hK hP 0 rfl rfl 1 (by decide) (hts _ q1668) (fun _ h9 => h9) rfl dX9_treesBy_16 ?_
        refine lv_bipush (v := nI 64) hx hb dX9_treesBy_19 (by decide) ?_
        refine N_iald hx hb dX9_treesBy_21 hK hP 1 0 rfl rfl (by omega) (by omega) ?_
        refine top_i (y := nI L) (hst) ?_
        refine fin_i (ws' := (fun (_ : Unit) => [oM h ad thr sts hs len at_ num many, aI G (ad 1) 68 st, aI G (ad 5) 64 (splitP st L), aI G (ad 7) 8 u_1])) hA hS hP hD [] rfl [(false, 0), (false, 1), (false, 2), (false, 3)] (fun _ => rfl) (by decide) (run_S (As := [.int (nI k), .int (nI L)]) (rest := []) (n9 := 2) hx hb hml hown hts hE hAb hl.1 hS hP hD [] rfl (by decide) (t_X9_levelOf l G b0 _ k L (by omega) (by omega) (by omega)) (lw_S q1796 q1797 q129 q1798) ⟨by decide, by decide, by decide +kernel⟩ ⟨Nat.le_of_ble_eq_true rfl, Nat.le_of_ble_eq_true rfl⟩ ⟨by first | exact Nat.le_of_ble_eq_true rfl | (simp only [rm_X9_treesBy, rm_X9_levelOf]; omega), by first | exact Nat.le_of_ble_eq_true rfl | (simp only [rm_X9_treesBy, rm_X9_levelOf]; omega)⟩ dX9_treesBy_22 (Nat.le_of_ble_eq_true rfl) rfl rfl) (fun r_2 u_2 H locs h_2 hP hD hS => ?_)
        have hP : va_P G.1 vwCl [oM h ad thr sts hs len at_ num many, aI G (ad 1) 68 st, aI G (ad 5) 64 (splitP st L), aI G (ad 7) 8 u_1] _ := hP
        have hD : va_D A [oM h ad thr sts hs len at_ num many, aI G (ad 1) 68 st, aI G (ad 5) 64 (splitP st L), aI G (ad 7) 8 u_1] := hD
        have h_2 : r_2 = (nI (levM k L)) := h_2
        rw [h_2]
        refine lv_aload_n hx hb dX9_treesBy_25 rfl (lv_at hl 0 rfl) ?_
        refine va_get (D := G.1) (ci := 8) (v := .ref (ad 1)) (C := RX9) (T := TX9) (N := 21) hx hb hts in_X9 hown hK hP 0 rfl rfl 1 (by decide) (hts _ q1668) (fun _ h9 => h9) rfl dX9_treesBy_26 ?_
        refine lv_bipush (v := nI 64) hx hb dX9_treesBy_29 (by decide) ?_
        refine N_iald hx hb dX9_treesBy_31 hK hP 1 0 rfl rfl (by omega) (by omega) ?_
        refine top_i (y := nI L) (hst) ?_
        have hlk := levM_in (x := k) hL1 hL
        have K_32 : ∀ (v_3 : Bool) (_ : v_3 = if (levM k L) < L then true else false) (H : Heap) (locs : List Loc) (ls : Array Slot), va_P G.1 vwCl [oM h ad thr sts hs len at_ num many, aI G (ad 1) 68 st, aI G (ad 5) 64 (splitP st L), aI G (ad 7) 8 u_1] H → va_D A [oM h ad thr sts hs len at_ num many, aI G (ad 1) 68 st, aI G (ad 5) 64 (splitP st L), aI G (ad 7) 8 u_1] → va_S A s.heap H locs → lv_has ls 6 [(0, .ref h), (1, .int t), (2, .int (l_sum (trN L t (splitP st L)) k)), (3, .int (nI k))] → W p l e (rm_X9_treesBy) s m AR below meth c H locs 0 0 QQ (F0 m 40 ls [.int (bI v_3)]) := by
          intro v_3 e_v_3 H locs ls hP hD hS hl
          subst e_v_3
          refine lv_istore (lv' := [(4, .int (bI (if (levM k L) < L then true else false))), (0, .ref h), (1, .int t), (2, .int (l_sum (trN L t (splitP st L)) k)), (3, .int (nI k))]) hx hb dX9_treesBy_40 hl (by decide) rfl (fun ls hl => ?_)
          have hl : lv_has ls 6 [(4, .int (bI (hpB L k))), (0, .ref h), (1, .int t), (2, .int (l_sum (trN L t (splitP st L)) k)), (3, .int (nI k))] := hl
          refine lv_bipush (v := nI 8) hx hb dX9_treesBy_42 (by decide) ?_
          refine lv_iload_n hx hb dX9_treesBy_44 rfl (lv_at hl 4 rfl) ?_
          refine lv_bipush (v := nI 8) hx hb dX9_treesBy_45 (by decide) ?_
          refine N_idiv hx hb dX9_treesBy_47 (by omega) (by omega) (by omega) ?_
          refine lv_iconst (v := nI 2) hx hb dX9_treesBy_48 (by decide) ?_
          refine N_idiv hx hb dX9_treesBy_49 (by omega) (by omega) (by omega) ?_
          refine N_imul hx hb dX9_treesBy_50 ?_
          refine lv_iload_n hx hb dX9_treesBy_51 rfl (lv_at hl 4 rfl) ?_
          refine lv_bipush (v := nI 8) hx hb dX9_treesBy_52 (by decide) ?_
          refine N_irem hx hb dX9_treesBy_54 (by omega) (by omega) (by omega) ?_
          refine lv_iconst (v := nI 2) hx hb dX9_treesBy_55 (by decide) ?_
          refine N_idiv hx hb dX9_treesBy_56 (by omega) (by omega) (by omega) ?_
          refine N_iadd hx hb dX9_treesBy_57 ?_
          refine lv_istore (lv' := [(5, .int (nI ((8 * ((k / 8) / 2)) + ((k % 8) / 2)))), (4, .int (bI (hpB L k))), (0, .ref h), (1, .int t), (2, .int (l_sum (trN L t (splitP st L)) k)), (3, .int (nI k))]) hx hb dX9_treesBy_58 hl (by decide) rfl (fun ls hl => ?_)
          refine lv_iload_n hx hb dX9_treesBy_60 rfl (lv_at hl 4 rfl) ?_
          refine lv_aload_n hx hb dX9_treesBy_61 rfl (lv_at hl 2 rfl) ?_
          refine lv_iload_n hx hb dX9_treesBy_62 rfl (lv_at hl 5 rfl) ?_
          refine lv_iload_n hx hb dX9_treesBy_63 rfl (lv_at hl 3 rfl) ?_
          refine fin_i (ws' := (fun (_ : Unit) => [oM h ad thr sts hs len at_ num many, aI G (ad 1) 68 st, aI G (ad 5) 64 (splitP st L), aI G (ad 7) 8 u_1])) hA hS hP hD [0, 1, 2] rfl [(true, 0), (true, 1), (true, 2), (false, 3)] (fun _ => rfl) (by decide) (run_V (As := [.int (nI k), .int t]) (rest := [.int (l_sum (trN L t (splitP st L)) k)]) (n9 := 2) hx hb hml hown hts hE hAb hl.1 hS hP hD [0, 1, 2] rfl (by decide) (t_X9_isSmall l G b0 _ h ad thr sts hs len at_ num many st (splitP st L) k L t (by omega) (by omega) (by omega) (by omega)) (lw_V q1861 q1863 qs77 q129 q1864) 0 rfl rfl ⟨rfl, by decide, by decide, by decide +kernel⟩ ⟨Nat.le_of_ble_eq_true rfl, Nat.le_of_ble_eq_true rfl⟩ ⟨by first | exact Nat.le_of_ble_eq_true rfl | (simp only [rm_X9_treesBy, rm_X9_isSmall]; omega), by first | exact Nat.le_of_ble_eq_true rfl | (simp only [rm_X9_treesBy, rm_X9_isSmall]; omega)⟩ dX9_treesBy_64 (Nat.le_of_ble_eq_true rfl) rfl rfl) (fun r_4 u_4 H locs h_4 hP hD hS => ?_)
          have hP : va_P G.1 vwCl [oM h ad thr sts hs len at_ num many, aI G (ad 1) 68 st, aI G (ad 5) 64 (splitP st L), aI G (ad 7) 8 u_1] _ := hP
          have hD : va_D A [oM h ad thr sts hs len at_ num many, aI G (ad 1) 68 st, aI G (ad 5) 64 (splitP st L), aI G (ad 7) 8 u_1] := hD
          have h_4 : r_4 = (bI (smlM L t (splitP st L) k)) := h_4
          rw [h_4]
          have K_67 : ∀ (v_5 : Bool) (_ : v_5 = if (smlM L t (splitP st L) k) = true then (if (hpB L k) = true then (if (smlM L t (splitP st L) ((8 * ((k / 8) / 2)) + ((k % 8) / 2))) = true then false else true) else true) else false) (H : Heap) (locs : List Loc) (ls : Array Slot), va_P G.1 vwCl [oM h ad thr sts hs len at_ num many, aI G (ad 1) 68 st, aI G (ad 5) 64 (splitP st L), aI G (ad 7) 8 u_1] H → va_D A [oM h ad thr sts hs len at_ num many, aI G (ad 1) 68 st, aI G (ad 5) 64 (splitP st L), aI G (ad 7) 8 u_1] → va_S A s.heap H locs → lv_has ls 6 [(5, .int (nI ((8 * ((k / 8) / 2)) + ((k % 8) / 2)))), (4, .int (bI (hpB L k))), (0, .ref h), (1, .int t), (2, .int (l_sum (trN L t (splitP st L)) k)), (3, .int (nI k))] → W p l e (rm_X9_treesBy) s m AR below meth c H locs 0 0 QQ (F0 m 90 ls [.int (bI v_5), .int (l_sum (trN L t (splitP st L)) k)]) := by
            intro v_5 e_v_5 H locs ls hP hD hS hl
            subst e_v_5
            refine lv_iadd hx hb dX9_treesBy_90 ?_
            refine lv_istore_n (lv' := [(2, .int ((l_sum (trN L t (splitP st L)) k) + (bI (if (smlM L t (splitP st L) k) = true then (if (hpB L k) = true then (if (smlM L t (splitP st L) ((8 * ((k / 8) / 2)) + ((k % 8) / 2))) = true then false else true) else true) else false)))), (5, .int (nI ((8 * ((k / 8) / 2)) + ((k % 8) / 2)))), (4, .int (bI (hpB L k))), (0, .ref h), (1, .int t), (3, .int (nI k))]) hx hb dX9_treesBy_91 rfl hl (by decide) rfl (fun ls hl => ?_)
            refine N_iinc (a := k) (b := 1) (k9 := 5) (lv' := [(3, .int (nI (k + 1))), (2, .int ((l_sum (trN L t (splitP st L)) k) + (bI (if (smlM L t (splitP st L) k) = true then (if (hpB L k) = true then (if (smlM L t (splitP st L) ((8 * ((k / 8) / 2)) + ((k % 8) / 2))) = true then false else true) else true) else false)))), (5, .int (nI ((8 * ((k / 8) / 2)) + ((k % 8) / 2)))), (4, .int (bI (hpB L k))), (0, .ref h), (1, .int t)]) hx hb dX9_treesBy_92 hl rfl rfl (by decide) rfl (fun ls hl => ?_)
            refine lv_goto (tgt := 8) hx hb dX9_treesBy_95 (by decide) ?_
            have hl : lv_has ls 6 [(0, .ref h), (1, .int t), (2, .int ((l_sum (trN L t (splitP st L)) k) + (bI (if (smlM L t (splitP st L) k) = true then (if (hpB L k) = true then (if (smlM L t (splitP st L) ((8 * ((k / 8) / 2)) + ((k % 8) / 2))) = true then false else true) else true) else false)))), (3, .int (nI (k + 1)))] := lv_sub hl [4, 5, 1, 0] rfl
            have e_6 : ((l_sum (trN L t (splitP st L)) k) + (bI (if (smlM L t (splitP st L) k) = true then (if (hpB L k) = true then (if (smlM L t (splitP st L) ((8 * ((k / 8) / 2)) + ((k % 8) / 2))) = true then false else true) else true) else false))) = (l_sum (trN L t (splitP st L)) (k + 1)) := by rfl
            rw [e_6] at hl
            have hl : lv_has ls 6 [(0, .ref h), (1, .int t), (2, .int (l_sum (trN L t (splitP st L)) (k + 1))), (3, .int (nI (k + 1)))] := hl
            exact ih_8 (k + 1) (by omega) (by omega) _ _ _ hP hD hS hl
          refine B_if_eq (tgt := 89) hx hb dX9_treesBy_67 (by decide) (fun c_67 => ?_) (fun c_67 => ?_)
          · skip
            refine lv_iconst (v := nI 0) hx hb dX9_treesBy_89 (by decide) ?_
            exact K_67 false (by first | rfl | (try rw [if_neg (ne_true_of_eq_false c_67)]) | simp_all) _ _ _ hP hD hS (lv_sub hl [0, 1, 2, 3, 4, 5] rfl)
          · skip
            refine lv_iload hx hb dX9_treesBy_70 (lv_at hl 1 rfl) ?_
            refine B_if_eq (tgt := 85) hx hb dX9_treesBy_72 (by decide) (fun c_72 => ?_) (fun c_72 => ?_)
            · skip
              refine lv_iconst (v := nI 1) hx hb dX9_treesBy_85 (by decide) ?_
              refine lv_goto (tgt := 90) hx hb dX9_treesBy_86 (by decide) ?_
              exact K_67 true (by first | rfl | (try rw [if_pos c_67]; try rw [if_neg (ne_true_of_eq_false c_72)]) | simp_all) _ _ _ hP hD hS (lv_sub hl [0, 1, 2, 3, 4, 5] rfl)
            · skip
              refine lv_aload_n hx hb dX9_treesBy_75 rfl (lv_at hl 2 rfl) ?_
              refine lv_iload hx hb dX9_treesBy_76 (lv_at hl 0 rfl) ?_
              refine lv_iload_n hx hb dX9_treesBy_78 rfl (lv_at hl 3 rfl) ?_
              refine fin_i (ws' := (fun (_ : Unit) => [oM h ad thr sts hs len at_ num many, aI G (ad 1) 68 st, aI G (ad 5) 64 (splitP st L), aI G (ad 7) 8 u_1])) hA hS hP hD [0, 1, 2] rfl [(true, 0), (true, 1), (true, 2), (false, 3)] (fun _ => rfl) (by decide) (run_V (As := [.int (nI ((8 * ((k / 8) / 2)) + ((k % 8) / 2))), .int t]) (rest := [.int (l_sum (trN L t (splitP st L)) k)]) (n9 := 2) hx hb hml hown hts hE hAb hl.1 hS hP hD [0, 1, 2] rfl (by decide) (t_X9_isSmall l G b0 _ h ad thr sts hs len at_ num many st (splitP st L) ((8 * ((k / 8) / 2)) + ((k % 8) / 2)) L t (by omega) (by omega) (by omega) (by omega)) (lw_V q1861 q1863 qs77 q129 q1864) 0 rfl rfl ⟨rfl, by decide, by decide, by decide +kernel⟩ ⟨Nat.le_of_ble_eq_true rfl, Nat.le_of_ble_eq_true rfl⟩ ⟨by first | exact Nat.le_of_ble_eq_true rfl | (simp only [rm_X9_treesBy, rm_X9_isSmall]; omega), by first | exact Nat.le_of_ble_eq_true rfl | (simp only [rm_X9_treesBy, rm_X9_isSmall]; omega)⟩ dX9_treesBy_79 (Nat.le_of_ble_eq_true rfl) rfl rfl) (fun r_7 u_7 H locs h_7 hP hD hS => ?_)
              have hP : va_P G.1 vwCl [oM h ad thr sts hs len at_ num many, aI G (ad 1) 68 st, aI G (ad 5) 64 (splitP st L), aI G (ad 7) 8 u_1] _ := hP
              have hD : va_D A [oM h ad thr sts hs len at_ num many, aI G (ad 1) 68 st, aI G (ad 5) 64 (splitP st L), aI G (ad 7) 8 u_1] := hD
              have h_7 : r_7 = (bI (smlM L t (splitP st L) ((8 * ((k / 8) / 2)) + ((k % 8) / 2)))) := h_7
              rw [h_7]
              refine B_if_ne (tgt := 89) hx hb dX9_treesBy_82 (by decide) (fun c_82 => ?_) (fun c_82 => ?_)
              · skip
                refine lv_iconst (v := nI 0) hx hb dX9_treesBy_89 (by decide) ?_
                exact K_67 false (by first | rfl | (try rw [if_pos c_67]; try rw [if_pos c_72]; try rw [if_pos c_82]) | simp_all) _ _ _ hP hD hS (lv_sub hl [0, 1, 2, 3, 4, 5] rfl)
              · skip
                refine lv_iconst (v := nI 1) hx hb dX9_treesBy_85 (by decide) ?_
                refine lv_goto (tgt := 90) hx hb dX9_treesBy_86 (by decide) ?_
                exact K_67 true (by first | rfl | (try rw [if_pos c_67]; try rw [if_pos c_72]; try rw [if_neg (ne_true_of_eq_false c_82)]) | simp_all) _ _ _ hP hD hS (lv_sub hl [0, 1, 2, 3, 4, 5] rfl)
        refine N_icmp_ge (tgt := 39) hx hb dX9_treesBy_32 (by decide) (by omega) (by omega) (fun c_32 => ?_) (fun c_32 => ?_)
        · skip
          refine lv_iconst (v := nI 0) hx hb dX9_treesBy_39 (by decide) ?_
          exact K_32 false (by first | rfl | (try rw [if_neg (Nat.not_lt.mpr c_32)]) | simp_all) _ _ _ hP hD hS (lv_sub hl [0, 1, 2, 3] rfl)
        · skip
          refine lv_iconst (v := nI 1) hx hb dX9_treesBy_35 (by decide) ?_
          refine lv_goto (tgt := 40) hx hb dX9_treesBy_36 (by decide) ?_
          exact K_32 true (by first | rfl | (try rw [if_pos c_32]) | simp_all) _ _ _ hP hD hS (lv_sub hl [0, 1, 2, 3] rfl)
  have hl : lv_has ls 6 [(0, .ref h), (1, .int t), (2, .int (nI 0)), (3, .int (nI 0))] := lv_sub hl [2, 3, 1, 0] rfl
  have e_8 : (nI 0) = (l_sum (trN L t (splitP st L)) 0) := by rfl
  rw [e_8] at hl
  have hl : lv_has ls 6 [(0, .ref h), (1, .int t), (2, .int (l_sum (trN L t (splitP st L)) 0)), (3, .int (nI 0))] := hl
  exact lp_8 _ 0 (by omega) (Nat.lt_succ_self _) _ _ _ hP hD hS hl
def rm_X9_bitsBehind : Room := ({ frames := 0, cells := 0, slots := 0, locals := 0 } : Room)
set_option maxHeartbeats 400000 in
set_option maxRecDepth 100000 in
theorem t_X9_bitsBehind (l : Launch) (G : GG) (b0 sz : Nat) (n : Int32) : CT l yX9_bitsBehind cX9_bitsBehind 2 (some FieldType.int) (rm_X9_bitsBehind) G b0 [.int n] [] sz (Ri G (fun (r_ : Int32) (_ : Unit) => r_ = nI (bbN n)) (fun (_ : Unit) => [])) := by
  refine CT.go (by decide) (Nat.le_of_ble_eq_true rfl) (fun p e s m below meth c A ls AR QQ hx hb hr hlk hml hown hnm hts hE hA hAb hsz hP hD hS hl hQQ => ?_)
  have hK := hE.1
  have hown : s.vm.findClass RX9 = some m.cls := hown
  have hl : lv_has ls 2 [(0, .int n)] := hl
  clear hsz
  refine lv_iconst (v := nI 0) hx hb dX9_bitsBehind_0 (by decide) ?_
  refine lv_istore_n (lv' := [(1, .int (nI 0)), (0, .int n)]) hx hb dX9_bitsBehind_1 rfl hl (by decide) rfl (fun ls hl => ?_)
  have lp_2 : ∀ (n_2 : Nat) (k : Nat), (k ≤ 30) → (∀ j, j < k → 0 < n >>> (nI (j + 1) &&& 31)) → (31 - k) < n_2 → ∀ (H : Heap) (locs : List Loc) (ls : Array Slot), va_P G.1 vwCl [] H → va_D A [] → va_S A s.heap H locs → lv_has ls 2 [(0, .int n), (1, .int (nI k))] → W p l e (rm_X9_bitsBehind) s m AR below meth c H locs 0 0 QQ (F0 m 2 ls []) := by
    intro n_2
    induction n_2 with
    | zero => intro k hk hj hn_; exact absurd hn_ (Nat.not_lt_zero _)
    | succ n_2 ih_2 =>
      intro k hk hj hn_2 H locs ls hP hD hS hl
      refine lv_iload_n hx hb dX9_bitsBehind_2 rfl (lv_at hl 0 rfl) ?_
      refine lv_iload_n hx hb dX9_bitsBehind_3 rfl (lv_at hl 1 rfl) ?_
      refine lv_iconst (v := nI 1) hx hb dX9_bitsBehind_4 (by decide) ?_
      refine N_iadd hx hb dX9_bitsBehind_5 ?_
      refine lv_ishr hx hb dX9_bitsBehind_6 ?_
      refine lv_if_le (tgt := 16) hx hb dX9_bitsBehind_7 (by decide) (fun c_7 => ?_) (fun c_7 => ?_)
      · skip
        refine lv_iload_n hx hb dX9_bitsBehind_16 rfl (lv_at hl 1 rfl) ?_
        rw [hQQ]
        exact rt_i hx hb hr hlk  (()) dX9_bitsBehind_17 hP hD hS (by first | exact Nat.le_of_ble_eq_true rfl | (simp only [rm_X9_bitsBehind]; omega)) (by first | exact Nat.le_of_ble_eq_true rfl | (simp only [rm_X9_bitsBehind]; omega)) (by exact congrArg nI (bb_of hk hj c_7).symm)
      · skip
        refine N_iinc (a := k) (b := 1) (k9 := 1) (lv' := [(1, .int (nI (k + 1))), (0, .int n)]) hx hb dX9_bitsBehind_10 hl rfl rfl (by decide) rfl (fun ls hl => ?_)
        refine lv_goto (tgt := 2) hx hb dX9_bitsBehind_13 (by decide) ?_
        have hl : lv_has ls 2 [(0, .int n), (1, .int (nI (k + 1)))] := lv_sub hl [1, 0] rfl
        exact ih_2 (k + 1) (by exact bb_30 hk (Int32.not_le.mp c_7)) (by exact fun j h9 => bb_nx hj (Int32.not_le.mp c_7) j h9) (by have := bb_30 hk (Int32.not_le.mp c_7); omega) _ _ _ hP hD hS hl
  have hl : lv_has ls 2 [(0, .int n), (1, .int (nI 0))] := lv_sub hl [1, 0] rfl
  exact lp_2 _ 0 (by omega) (by intro j hj; omega) (Nat.lt_succ_self _) _ _ _ hP hD hS hl
def rm_X9_zerosFrom : Room := ({ frames := 0, cells := 0, slots := 0, locals := 0 } : Room)
set_option maxHeartbeats 400000 in
set_option maxRecDepth 100000 in
theorem t_X9_zerosFrom (l : Launch) (G : GG) (b0 sz : Nat) (h : Nat) (ad : Nat → Nat) (thr sts : Nat) (hs : Bool) (len at_ num many : Nat) (pa : Nat → Int32) (p_ L : Nat) (hp : p_ ≤ 64) (hL1 : 1 ≤ L) (hL : L ≤ 3) : CT l yX9_zerosFrom cX9_zerosFrom 3 (some FieldType.int) (rm_X9_zerosFrom) G b0 [.ref h, .int (nI p_)] [oM h ad thr sts hs len at_ num many, aI G (ad 5) 64 pa, aI G (ad 8) 64 (nF (orT L))] sz (Ri G (fun (r_ : Int32) (_ : Unit) => r_ = nI (zrN pa L p_)) (fun (_ : Unit) => [oM h ad thr sts hs len at_ num many, aI G (ad 5) 64 pa, aI G (ad 8) 64 (nF (orT L))])) := by
  refine CT.go (by decide) (Nat.le_of_ble_eq_true rfl) (fun p e s m below meth c A ls AR QQ hx hb hr hlk hml hown hnm hts hE hA hAb hsz hP hD hS hl hQQ => ?_)
  have hK := hE.1
  have hown : s.vm.findClass RX9 = some m.cls := hown
  have hl : lv_has ls 3 [(0, .ref h), (1, .int (nI p_))] := hl
  clear hsz
  have hpo := (pl_or hL1 hL).1
  refine lv_iconst (v := nI 0) hx hb dX9_zerosFrom_0 (by decide) ?_
  refine lv_istore_n (lv' := [(2, .int (nI 0)), (0, .ref h), (1, .int (nI p_))]) hx hb dX9_zerosFrom_1 rfl hl (by decide) rfl (fun ls hl => ?_)
  have lp_2 : ∀ (n_2 : Nat) (n : Nat), (p_ + n ≤ 64) → (∀ j, j < n → p_ + j < 64 ∧ pa (orT L (p_ + j)) = 0) → (65 - n) < n_2 → ∀ (H : Heap) (locs : List Loc) (ls : Array Slot), va_P G.1 vwCl [oM h ad thr sts hs len at_ num many, aI G (ad 5) 64 pa, aI G (ad 8) 64 (nF (orT L))] H → va_D A [oM h ad thr sts hs len at_ num many, aI G (ad 5) 64 pa, aI G (ad 8) 64 (nF (orT L))] → va_S A s.heap H locs → lv_has ls 3 [(0, .ref h), (1, .int (nI p_)), (2, .int (nI n))] → W p l e (rm_X9_zerosFrom) s m AR below meth c H locs 0 0 QQ (F0 m 2 ls []) := by
    intro n_2
    induction n_2 with
    | zero => intro n hn hj hn_; exact absurd hn_ (Nat.not_lt_zero _)
    | succ n_2 ih_2 =>
      intro n hn hj hn_2 H locs ls hP hD hS hl
      refine lv_iload_n hx hb dX9_zerosFrom_2 rfl (lv_at hl 1 rfl) ?_
      refine lv_iload_n hx hb dX9_zerosFrom_3 rfl (lv_at hl 2 rfl) ?_
      refine N_iadd hx hb dX9_zerosFrom_4 ?_
      refine lv_bipush (v := nI 64) hx hb dX9_zerosFrom_5 (by decide) ?_
      refine N_icmp_ge (tgt := 32) hx hb dX9_zerosFrom_7 (by decide) (by omega) (by omega) (fun c_7 => ?_) (fun c_7 => ?_)
      · skip
        refine lv_iload_n hx hb dX9_zerosFrom_32 rfl (lv_at hl 2 rfl) ?_
        rw [hQQ]
        exact rt_i hx hb hr hlk  (()) dX9_zerosFrom_33 hP hD hS (by first | exact Nat.le_of_ble_eq_true rfl | (simp only [rm_X9_zerosFrom]; omega)) (by first | exact Nat.le_of_ble_eq_true rfl | (simp only [rm_X9_zerosFrom]; omega)) (by first | exact congrArg nI (zr_of hn hj (Or.inl c_7)).symm | exact congrArg nI (zr_of hn hj (Or.inr c_23)).symm)
      · skip
        refine lv_aload_n hx hb dX9_zerosFrom_10 rfl (lv_at hl 0 rfl) ?_
        refine va_get (D := G.1) (ci := 8) (v := .ref (ad 5)) (C := RX9) (T := TX9) (N := 21) hx hb hts in_X9 hown hK hP 0 rfl rfl 8 (by decide) (hts _ q1675) (fun _ h9 => h9) rfl dX9_zerosFrom_11 ?_
        refine lv_aload_n hx hb dX9_zerosFrom_14 rfl (lv_at hl 0 rfl) ?_
        refine va_get (D := G.1) (ci := 8) (v := .ref (ad 8)) (C := RX9) (T := TX9) (N := 21) hx hb hts in_X9 hown hK hP 0 rfl rfl 11 (by decide) (hts _ q1678) (fun _ h9 => h9) rfl dX9_zerosFrom_15 ?_
        refine lv_iload_n hx hb dX9_zerosFrom_18 rfl (lv_at hl 1 rfl) ?_
        refine lv_iload_n hx hb dX9_zerosFrom_19 rfl (lv_at hl 2 rfl) ?_
        refine N_iadd hx hb dX9_zerosFrom_20 ?_
        refine N_iald hx hb dX9_zerosFrom_21 hK hP 2 0 rfl rfl (by omega) (by omega) ?_
        refine top_i (y := nI ((orT L) (p_ + n))) rfl ?_
        refine N_iald hx hb dX9_zerosFrom_22 hK hP 1 0 rfl rfl (by exact (hpo _ (by omega)).1) (by omega) ?_
        refine lv_if_ne (tgt := 32) hx hb dX9_zerosFrom_23 (by decide) (fun c_23 => ?_) (fun c_23 => ?_)
        · skip
          refine lv_iload_n hx hb dX9_zerosFrom_32 rfl (lv_at hl 2 rfl) ?_
          rw [hQQ]
          exact rt_i hx hb hr hlk  (()) dX9_zerosFrom_33 hP hD hS (by first | exact Nat.le_of_ble_eq_true rfl | (simp only [rm_X9_zerosFrom]; omega)) (by first | exact Nat.le_of_ble_eq_true rfl | (simp only [rm_X9_zerosFrom]; omega)) (by first | exact congrArg nI (zr_of hn hj (Or.inl c_7)).symm | exact congrArg nI (zr_of hn hj (Or.inr c_23)).symm)
        · skip
          refine N_iinc (a := n) (b := 1) (k9 := 2) (lv' := [(2, .int (nI (n + 1))), (0, .ref h), (1, .int (nI p_))]) hx hb dX9_zerosFrom_26 hl rfl rfl (by decide) rfl (fun ls hl => ?_)
          refine lv_goto (tgt := 2) hx hb dX9_zerosFrom_29 (by decide) ?_
          have hl : lv_has ls 3 [(0, .ref h), (1, .int (nI p_)), (2, .int (nI (n + 1)))] := lv_sub hl [1, 2, 0] rfl
          exact ih_2 (n + 1) (by omega) (by exact fun j h9 => zr_nx hj c_7 c_23 j h9) (by omega) _ _ _ hP hD hS hl
  have hl : lv_has ls 3 [(0, .ref h), (1, .int (nI p_)), (2, .int (nI 0))] := lv_sub hl [1, 2, 0] rfl
  exact lp_2 _ 0 (by omega) (by intro j hj; omega) (Nat.lt_succ_self _) _ _ _ hP hD hS hl
def rm_X9_lengthOfCode : Room := ({ frames := 1, cells := 0, slots := 0, locals := 22 } : Room)
set_option maxHeartbeats 400000 in
set_option maxRecDepth 100000 in
theorem t_X9_lengthOfCode (l : Launch) (G : GG) (b0 sz : Nat) (h : Nat) (ad : Nat → Nat) (thr sts : Nat) (hs : Bool) (len at_ num many : Nat) (pa : Nat → Int32) (L : Nat) (hL1 : 1 ≤ L) (hL : L ≤ 3) : CT l yX9_lengthOfCode cX9_lengthOfCode 5 (some FieldType.int) (rm_X9_lengthOfCode) G b0 [.ref h] [oM h ad thr sts hs len at_ num many, aI G (ad 5) 64 pa, aI G (ad 8) 64 (nF (orT L))] sz (Ri G (fun (r_ : Int32) (_ : Unit) => r_ = nI (lenC pa L 0)) (fun (_ : Unit) => [oM h ad thr sts hs len at_ num many, aI G (ad 5) 64 pa, aI G (ad 8) 64 (nF (orT L))])) := by
  refine CT.go (by decide) (Nat.le_of_ble_eq_true rfl) (fun p e s m below meth c A ls AR QQ hx hb hr hlk hml hown hnm hts hE hA hAb hsz hP hD hS hl hQQ => ?_)
  have hK := hE.1
  have hown : s.vm.findClass RX9 = some m.cls := hown
  have hl : lv_has ls 5 [(0, .ref h)] := hl
  clear hsz
  have hpo := (pl_or hL1 hL).1
  refine lv_iconst (v := nI 0) hx hb dX9_lengthOfCode_0 (by decide) ?_
  refine lv_istore_n (lv' := [(1, .int (nI 0)), (0, .ref h)]) hx hb dX9_lengthOfCode_1 rfl hl (by decide) rfl (fun ls hl => ?_)
  refine lv_iconst (v := nI 0) hx hb dX9_lengthOfCode_2 (by decide) ?_
  refine lv_istore_n (lv' := [(2, .int (nI 0)), (1, .int (nI 0)), (0, .ref h)]) hx hb dX9_lengthOfCode_3 rfl hl (by decide) rfl (fun ls hl => ?_)
  have lp_4 : ∀ (n_4 : Nat) (p_ q_ : Nat), (p_ ≤ 64) → (q_ + lenC pa L p_ = lenC pa L 0) → (64 - p_) < n_4 → ∀ (H : Heap) (locs : List Loc) (ls : Array Slot), va_P G.1 vwCl [oM h ad thr sts hs len at_ num many, aI G (ad 5) 64 pa, aI G (ad 8) 64 (nF (orT L))] H → va_D A [oM h ad thr sts hs len at_ num many, aI G (ad 5) 64 pa, aI G (ad 8) 64 (nF (orT L))] → va_S A s.heap H locs → lv_has ls 5 [(0, .ref h), (1, .int (nI q_)), (2, .int (nI p_))] → W p l e (rm_X9_lengthOfCode) s m AR below meth c H locs 0 0 QQ (F0 m 4 ls []) := by
    intro n_4
    induction n_4 with
    | zero => intro p_ q_ hp hq hn_; exact absurd hn_ (Nat.not_lt_zero _)
    | succ n_4 ih_4 =>
      intro p_ q_ hp hq hn_4 H locs ls hP hD hS hl
      refine lv_iload_n hx hb dX9_lengthOfCode_4 rfl (lv_at hl 2 rfl) ?_
      refine lv_bipush (v := nI 64) hx hb dX9_lengthOfCode_5 (by decide) ?_
      refine N_icmp_ge (tgt := 77) hx hb dX9_lengthOfCode_7 (by decide) (by omega) (by omega) (fun c_7 => ?_) (fun c_7 => ?_)
      · skip
        refine lv_iload_n hx hb dX9_lengthOfCode_77 rfl (lv_at hl 1 rfl) ?_
        rw [hQQ]
        exact rt_i hx hb hr hlk  (()) dX9_lengthOfCode_78 hP hD hS (by first | exact Nat.le_of_ble_eq_true rfl | (simp only [rm_X9_lengthOfCode]; omega)) (by first | exact Nat.le_of_ble_eq_true rfl | (simp only [rm_X9_lengthOfCode]; omega)) (by rw [← hq, lenC_ge c_7, Nat.add_zero])
      · skip
        refine lv_aload_n hx hb dX9_lengthOfCode_10 rfl (lv_at hl 0 rfl) ?_
        refine lv_iload_n hx hb dX9_lengthOfCode_11 rfl (lv_at hl 2 rfl) ?_
        refine fin_i (ws' := (fun (_ : Unit) => [oM h ad thr sts hs len at_ num many, aI G (ad 5) 64 pa, aI G (ad 8) 64 (nF (orT L))])) hA hS hP hD [0, 1, 2] rfl [(true, 0), (true, 1), (true, 2)] (fun _ => rfl) (by decide) (run_V (As := [.int (nI p_)]) (rest := []) (n9 := 1) hx hb hml hown hts hE hAb hl.1 hS hP hD [0, 1, 2] rfl (by decide) (t_X9_zerosFrom l G b0 _ h ad thr sts hs len at_ num many pa p_ L (by omega) (by omega) (by omega)) (lw_V q1895 q1897 qs81 q129 q1898) 0 rfl rfl ⟨rfl, by decide, by decide, by decide +kernel⟩ ⟨Nat.le_of_ble_eq_true rfl, Nat.le_of_ble_eq_true rfl⟩ ⟨by first | exact Nat.le_of_ble_eq_true rfl | (simp only [rm_X9_lengthOfCode, rm_X9_zerosFrom]; omega), by first | exact Nat.le_of_ble_eq_true rfl | (simp only [rm_X9_lengthOfCode, rm_X9_zerosFrom]; omega)⟩ dX9_lengthOfCode_12 (Nat.le_of_ble_eq_true rfl) rfl rfl) (fun r_1 u_1 H locs h_1 hP hD hS => ?_)
        have hP : va_P G.1 vwCl [oM h ad thr sts hs len at_ num many, aI G (ad 5) 64 pa, aI G (ad 8) 64 (nF (orT L))] _ := hP
        have hD : va_D A [oM h ad thr sts hs len at_ num many, aI G (ad 5) 64 pa, aI G (ad 8) 64 (nF (orT L))] := hD
        have h_1 : r_1 = (nI (zrN pa L p_)) := h_1
        rw [h_1]
        refine lv_istore_n (lv' := [(3, .int (nI (zrN pa L p_))), (0, .ref h), (1, .int (nI q_)), (2, .int (nI p_))]) hx hb dX9_lengthOfCode_15 rfl hl (by decide) rfl (fun ls hl => ?_)
        have hzr := zrN_le pa L p_ hp
        refine lv_iload_n hx hb dX9_lengthOfCode_16 rfl (lv_at hl 0 rfl) ?_
        have K_17 : ∀ (v_2 : Int32) (_ : v_2 = if 0 < (zrN pa L p_) then (nI (zrN pa L p_)) else (sizI (pa ((orT L) p_)))) (H : Heap) (locs : List Loc) (ls : Array Slot), va_P G.1 vwCl [oM h ad thr sts hs len at_ num many, aI G (ad 5) 64 pa, aI G (ad 8) 64 (nF (orT L))] H → va_D A [oM h ad thr sts hs len at_ num many, aI G (ad 5) 64 pa, aI G (ad 8) 64 (nF (orT L))] → va_S A s.heap H locs → lv_has ls 5 [(3, .int (nI (zrN pa L p_))), (0, .ref h), (1, .int (nI q_)), (2, .int (nI p_))] → W p l e (rm_X9_lengthOfCode) s m AR below meth c H locs 0 0 QQ (F0 m 38 ls [.int v_2]) := by
          intro v_2 e_v_2 H locs ls hP hD hS hl
          subst e_v_2
          refine lv_istore (lv' := [(4, .int (if 0 < (zrN pa L p_) then (nI (zrN pa L p_)) else (sizI (pa ((orT L) p_))))), (3, .int (nI (zrN pa L p_))), (0, .ref h), (1, .int (nI q_)), (2, .int (nI p_))]) hx hb dX9_lengthOfCode_38 hl (by decide) rfl (fun ls hl => ?_)
          refine lv_iload_n hx hb dX9_lengthOfCode_40 rfl (lv_at hl 3 rfl) ?_
          refine lv_iload_n hx hb dX9_lengthOfCode_41 rfl (lv_at hl 1 rfl) ?_
          have K_42 : ∀ (v_3 : Nat) (_ : v_3 = if 0 < (zrN pa L p_) then 1 else 2) (H : Heap) (locs : List Loc) (ls : Array Slot), va_P G.1 vwCl [oM h ad thr sts hs len at_ num many, aI G (ad 5) 64 pa, aI G (ad 8) 64 (nF (orT L))] H → va_D A [oM h ad thr sts hs len at_ num many, aI G (ad 5) 64 pa, aI G (ad 8) 64 (nF (orT L))] → va_S A s.heap H locs → lv_has ls 5 [(4, .int (if 0 < (zrN pa L p_) then (nI (zrN pa L p_)) else (sizI (pa ((orT L) p_))))), (3, .int (nI (zrN pa L p_))), (0, .ref h), (1, .int (nI q_)), (2, .int (nI p_))] → W p l e (rm_X9_lengthOfCode) s m AR below meth c H locs 0 0 QQ (F0 m 50 ls [.int (nI v_3), .int (nI q_)]) := by
            intro v_3 e_v_3 H locs ls hP hD hS hl
            subst e_v_3
            refine lv_iconst (v := nI 2) hx hb dX9_lengthOfCode_50 (by decide) ?_
            refine lv_iload hx hb dX9_lengthOfCode_51 (lv_at hl 0 rfl) ?_
            refine fin_i (ws' := (fun (_ : Unit) => [oM h ad thr sts hs len at_ num many, aI G (ad 5) 64 pa, aI G (ad 8) 64 (nF (orT L))])) hA hS hP hD [] rfl [(false, 0), (false, 1), (false, 2)] (fun _ => rfl) (by decide) (run_S (As := [.int (if 0 < (zrN pa L p_) then (nI (zrN pa L p_)) else (sizI (pa ((orT L) p_))))]) (rest := [.int (nI 2), .int (nI (if 0 < (zrN pa L p_) then 1 else 2)), .int (nI q_)]) (n9 := 1) hx hb hml hown hts hE hAb hl.1 hS hP hD [] rfl (by decide) (t_X9_bitsBehind l G b0 _ (if 0 < (zrN pa L p_) then (nI (zrN pa L p_)) else (sizI (pa ((orT L) p_)))) ) (lw_S q1899 q1900 q129 q1901) ⟨by decide, by decide, by decide +kernel⟩ ⟨Nat.le_of_ble_eq_true rfl, Nat.le_of_ble_eq_true rfl⟩ ⟨by first | exact Nat.le_of_ble_eq_true rfl | (simp only [rm_X9_lengthOfCode, rm_X9_bitsBehind]; omega), by first | exact Nat.le_of_ble_eq_true rfl | (simp only [rm_X9_lengthOfCode, rm_X9_bitsBehind]; omega)⟩ dX9_lengthOfCode_53 (Nat.le_of_ble_eq_true rfl) rfl rfl) (fun r_4 u_4 H locs h_4 hP hD hS => ?_)
            have hP : va_P G.1 vwCl [oM h ad thr sts hs len at_ num many, aI G (ad 5) 64 pa, aI G (ad 8) 64 (nF (orT L))] _ := hP
            have hD : va_D A [oM h ad thr sts hs len at_ num many, aI G (ad 5) 64 pa, aI G (ad 8) 64 (nF (orT L))] := hD
            have h_4 : r_4 = (nI (bbN (if 0 < (zrN pa L p_) then (nI (zrN pa L p_)) else (sizI (pa ((orT L) p_)))))) := h_4
            rw [h_4]
            refine N_imul hx hb dX9_lengthOfCode_56 ?_
            refine N_iadd hx hb dX9_lengthOfCode_57 ?_
            refine lv_iconst (v := nI 1) hx hb dX9_lengthOfCode_58 (by decide) ?_
            refine N_iadd hx hb dX9_lengthOfCode_59 ?_
            refine N_iadd hx hb dX9_lengthOfCode_60 ?_
            refine lv_istore_n (lv' := [(1, .int (nI (q_ + (((if 0 < (zrN pa L p_) then 1 else 2) + (2 * (bbN (if 0 < (zrN pa L p_) then (nI (zrN pa L p_)) else (sizI (pa ((orT L) p_))))))) + 1)))), (4, .int (if 0 < (zrN pa L p_) then (nI (zrN pa L p_)) else (sizI (pa ((orT L) p_))))), (3, .int (nI (zrN pa L p_))), (0, .ref h), (2, .int (nI p_))]) hx hb dX9_lengthOfCode_61 rfl hl (by decide) rfl (fun ls hl => ?_)
            refine lv_iload_n hx hb dX9_lengthOfCode_62 rfl (lv_at hl 4 rfl) ?_
            refine lv_iload_n hx hb dX9_lengthOfCode_63 rfl (lv_at hl 2 rfl) ?_
            have K_64 : ∀ (v_5 : Nat) (_ : v_5 = if 0 < (zrN pa L p_) then (zrN pa L p_) else 1) (H : Heap) (locs : List Loc) (ls : Array Slot), va_P G.1 vwCl [oM h ad thr sts hs len at_ num many, aI G (ad 5) 64 pa, aI G (ad 8) 64 (nF (orT L))] H → va_D A [oM h ad thr sts hs len at_ num many, aI G (ad 5) 64 pa, aI G (ad 8) 64 (nF (orT L))] → va_S A s.heap H locs → lv_has ls 5 [(1, .int (nI (q_ + (((if 0 < (zrN pa L p_) then 1 else 2) + (2 * (bbN (if 0 < (zrN pa L p_) then (nI (zrN pa L p_)) else (sizI (pa ((orT L) p_))))))) + 1)))), (4, .int (if 0 < (zrN pa L p_) then (nI (zrN pa L p_)) else (sizI (pa ((orT L) p_))))), (3, .int (nI (zrN pa L p_))), (0, .ref h), (2, .int (nI p_))] → W p l e (rm_X9_lengthOfCode) s m AR below meth c H locs 0 0 QQ (F0 m 72 ls [.int (nI v_5), .int (nI p_)]) := by
              intro v_5 e_v_5 H locs ls hP hD hS hl
              subst e_v_5
              refine N_iadd hx hb dX9_lengthOfCode_72 ?_
              refine lv_istore_n (lv' := [(2, .int (nI (p_ + (if 0 < (zrN pa L p_) then (zrN pa L p_) else 1)))), (1, .int (nI (q_ + (((if 0 < (zrN pa L p_) then 1 else 2) + (2 * (bbN (if 0 < (zrN pa L p_) then (nI (zrN pa L p_)) else (sizI (pa ((orT L) p_))))))) + 1)))), (4, .int (if 0 < (zrN pa L p_) then (nI (zrN pa L p_)) else (sizI (pa ((orT L) p_))))), (3, .int (nI (zrN pa L p_))), (0, .ref h)]) hx hb dX9_lengthOfCode_73 rfl hl (by decide) rfl (fun ls hl => ?_)
              refine lv_goto (tgt := 4) hx hb dX9_lengthOfCode_74 (by decide) ?_
              have hl : lv_has ls 5 [(0, .ref h), (1, .int (nI (q_ + (((if 0 < (zrN pa L p_) then 1 else 2) + (2 * (bbN (if 0 < (zrN pa L p_) then (nI (zrN pa L p_)) else (sizI (pa ((orT L) p_))))))) + 1)))), (2, .int (nI (p_ + (if 0 < (zrN pa L p_) then (zrN pa L p_) else 1))))] := lv_sub hl [4, 1, 0] rfl
              exact ih_4 (p_ + (if 0 < (zrN pa L p_) then (zrN pa L p_) else 1)) (q_ + (((if 0 < (zrN pa L p_) then 1 else 2) + (2 * (bbN (if 0 < (zrN pa L p_) then (nI (zrN pa L p_)) else (sizI (pa ((orT L) p_))))))) + 1)) (by exact stp_le hp c_7) (by rw [← hq, lenC_lt c_7, Nat.add_assoc]; rfl) (by have := tokS_pos pa L p_; unfold tokS at this; omega) _ _ _ hP hD hS hl
            refine N_if_le (tgt := 71) hx hb dX9_lengthOfCode_64 (by decide) (by omega) (fun c_64 => ?_) (fun c_64 => ?_)
            · skip
              refine lv_iconst (v := nI 1) hx hb dX9_lengthOfCode_71 (by decide) ?_
              exact K_64 1 (by first | rfl | (try rw [if_neg (by omega)]) | simp_all) _ _ _ hP hD hS (lv_sub hl [0, 1, 2, 3, 4] rfl)
            · skip
              refine lv_iload_n hx hb dX9_lengthOfCode_67 rfl (lv_at hl 2 rfl) ?_
              refine lv_goto (tgt := 72) hx hb dX9_lengthOfCode_68 (by decide) ?_
              exact K_64 (zrN pa L p_) (by first | rfl | (try rw [if_pos c_64]) | simp_all) _ _ _ hP hD hS (lv_sub hl [0, 1, 2, 3, 4] rfl)
          refine N_if_le (tgt := 49) hx hb dX9_lengthOfCode_42 (by decide) (by omega) (fun c_42 => ?_) (fun c_42 => ?_)
          · skip
            refine lv_iconst (v := nI 2) hx hb dX9_lengthOfCode_49 (by decide) ?_
            exact K_42 2 (by first | rfl | (try rw [if_neg (by omega)]) | simp_all) _ _ _ hP hD hS (lv_sub hl [0, 1, 2, 3, 4] rfl)
          · skip
            refine lv_iconst (v := nI 1) hx hb dX9_lengthOfCode_45 (by decide) ?_
            refine lv_goto (tgt := 50) hx hb dX9_lengthOfCode_46 (by decide) ?_
            exact K_42 1 (by first | rfl | (try rw [if_pos c_42]) | simp_all) _ _ _ hP hD hS (lv_sub hl [0, 1, 2, 3, 4] rfl)
        refine N_if_le (tgt := 24) hx hb dX9_lengthOfCode_17 (by decide) (by omega) (fun c_17 => ?_) (fun c_17 => ?_)
        · skip
          refine lv_aload_n hx hb dX9_lengthOfCode_24 rfl (lv_at hl 1 rfl) ?_
          refine va_get (D := G.1) (ci := 8) (v := .ref (ad 5)) (C := RX9) (T := TX9) (N := 21) hx hb hts in_X9 hown hK hP 0 rfl rfl 8 (by decide) (hts _ q1675) (fun _ h9 => h9) rfl dX9_lengthOfCode_25 ?_
          refine lv_aload_n hx hb dX9_lengthOfCode_28 rfl (lv_at hl 1 rfl) ?_
          refine va_get (D := G.1) (ci := 8) (v := .ref (ad 8)) (C := RX9) (T := TX9) (N := 21) hx hb hts in_X9 hown hK hP 0 rfl rfl 11 (by decide) (hts _ q1678) (fun _ h9 => h9) rfl dX9_lengthOfCode_29 ?_
          refine lv_iload_n hx hb dX9_lengthOfCode_32 rfl (lv_at hl 3 rfl) ?_
          refine N_iald hx hb dX9_lengthOfCode_33 hK hP 2 0 rfl rfl (by omega) (by omega) ?_
          refine top_i (y := nI ((orT L) p_)) rfl ?_
          refine N_iald hx hb dX9_lengthOfCode_34 hK hP 1 0 rfl rfl (by exact (hpo _ (by omega)).1) (by omega) ?_
          refine fin_i (ws' := (fun (_ : Unit) => [oM h ad thr sts hs len at_ num many, aI G (ad 5) 64 pa, aI G (ad 8) 64 (nF (orT L))])) hA hS hP hD [] rfl [(false, 0), (false, 1), (false, 2)] (fun _ => rfl) (by decide) (run_S (As := [.int (pa ((orT L) p_))]) (rest := []) (n9 := 1) hx hb hml hown hts hE hAb hl.1 hS hP hD [] rfl (by decide) (t_X9_size l G b0 _ (pa ((orT L) p_)) ) (lw_S q1799 q1800 q129 q1801) ⟨by decide, by decide, by decide +kernel⟩ ⟨Nat.le_of_ble_eq_true rfl, Nat.le_of_ble_eq_true rfl⟩ ⟨by first | exact Nat.le_of_ble_eq_true rfl | (simp only [rm_X9_lengthOfCode, rm_X9_size]; omega), by first | exact Nat.le_of_ble_eq_true rfl | (simp only [rm_X9_lengthOfCode, rm_X9_size]; omega)⟩ dX9_lengthOfCode_35 (Nat.le_of_ble_eq_true rfl) rfl rfl) (fun r_6 u_6 H locs h_6 hP hD hS => ?_)
          have hP : va_P G.1 vwCl [oM h ad thr sts hs len at_ num many, aI G (ad 5) 64 pa, aI G (ad 8) 64 (nF (orT L))] _ := hP
          have hD : va_D A [oM h ad thr sts hs len at_ num many, aI G (ad 5) 64 pa, aI G (ad 8) 64 (nF (orT L))] := hD
          have h_6 : r_6 = (sizI (pa ((orT L) p_))) := h_6
          rw [h_6]
          exact K_17 (sizI (pa ((orT L) p_))) (by first | rfl | (try rw [if_neg (by omega)]) | simp_all) _ _ _ hP hD hS (lv_sub hl [0, 1, 2, 3] rfl)
        · skip
          refine lv_iload_n hx hb dX9_lengthOfCode_20 rfl (lv_at hl 0 rfl) ?_
          refine lv_goto (tgt := 38) hx hb dX9_lengthOfCode_21 (by decide) ?_
          exact K_17 (nI (zrN pa L p_)) (by first | rfl | (try rw [if_pos c_17]) | simp_all) _ _ _ hP hD hS (lv_sub hl [0, 1, 2, 3] rfl)
  have hl : lv_has ls 5 [(0, .ref h), (1, .int (nI 0)), (2, .int (nI 0))] := lv_sub hl [2, 1, 0] rfl
  exact lp_4 _ 0 0 (by omega) (by exact Nat.zero_add _) (Nat.lt_succ_self _) _ _ _ hP hD hS hl
def rm_X9_bitOf : Room := ({ frames := 1, cells := 0, slots := 0, locals := 21 } : Room)
set_option maxHeartbeats 400000 in
set_option maxRecDepth 100000 in
theorem t_X9_bitOf (l : Launch) (G : GG) (b0 sz : Nat) (n : Int32) (b : Nat) (hb9 : b ≤ 2 * bbN n) : CT l yX9_bitOf cX9_bitOf 3 (some FieldType.int) (rm_X9_bitOf) G b0 [.int n, .int (nI b)] [] sz (Ri G (fun (r_ : Int32) (_ : Unit) => r_ = bitV n b) (fun (_ : Unit) => [])) := by
  refine CT.go (by decide) (Nat.le_of_ble_eq_true rfl) (fun p e s m below meth c A ls AR QQ hx hb hr hlk hml hown hnm hts hE hA hAb hsz hP hD hS hl hQQ => ?_)
  have hK := hE.1
  have hown : s.vm.findClass RX9 = some m.cls := hown
  have hl : lv_has ls 3 [(0, .int n), (1, .int (nI b))] := hl
  clear hsz
  have hbb := bbN_le n
  refine lv_iload_n hx hb dX9_bitOf_0 rfl (lv_at hl 0 rfl) ?_
  refine fin_i (ws' := (fun (_ : Unit) => [])) hA hS hP hD [] rfl [] (fun _ => rfl) (by decide) (run_S (As := [.int n]) (rest := []) (n9 := 1) hx hb hml hown hts hE hAb hl.1 hS hP hD [] rfl (by decide) (t_X9_bitsBehind l G b0 _ n ) (lw_S q1899 q1900 q129 q1901) ⟨by decide, by decide, by decide +kernel⟩ ⟨Nat.le_of_ble_eq_true rfl, Nat.le_of_ble_eq_true rfl⟩ ⟨by first | exact Nat.le_of_ble_eq_true rfl | (simp only [rm_X9_bitOf, rm_X9_bitsBehind]; omega), by first | exact Nat.le_of_ble_eq_true rfl | (simp only [rm_X9_bitOf, rm_X9_bitsBehind]; omega)⟩ dX9_bitOf_1 (Nat.le_of_ble_eq_true rfl) rfl rfl) (fun r_1 u_1 H locs h_1 hP hD hS => ?_)
  have hP : va_P G.1 vwCl [] _ := hP
  have hD : va_D A [] := hD
  have h_1 : r_1 = (nI (bbN n)) := h_1
  rw [h_1]
  refine lv_istore_n (lv' := [(2, .int (nI (bbN n))), (0, .int n), (1, .int (nI b))]) hx hb dX9_bitOf_4 rfl hl (by decide) rfl (fun ls hl => ?_)
  refine lv_iload_n hx hb dX9_bitOf_5 rfl (lv_at hl 2 rfl) ?_
  refine lv_iload_n hx hb dX9_bitOf_6 rfl (lv_at hl 0 rfl) ?_
  refine N_icmp_ge (tgt := 14) hx hb dX9_bitOf_7 (by decide) (by omega) (by omega) (fun c_7 => ?_) (fun c_7 => ?_)
  · skip
    refine lv_iload_n hx hb dX9_bitOf_14 rfl (lv_at hl 1 rfl) ?_
    refine lv_iconst (v := nI 2) hx hb dX9_bitOf_15 (by decide) ?_
    refine lv_iload_n hx hb dX9_bitOf_16 rfl (lv_at hl 0 rfl) ?_
    refine N_imul hx hb dX9_bitOf_17 ?_
    refine lv_iload_n hx hb dX9_bitOf_18 rfl (lv_at hl 2 rfl) ?_
    refine N_isub hx hb dX9_bitOf_19 (by omega) ?_
    refine lv_ishr hx hb dX9_bitOf_20 ?_
    refine lv_iconst (v := nI 1) hx hb dX9_bitOf_21 (by decide) ?_
    refine lv_iand hx hb dX9_bitOf_22 ?_
    rw [hQQ]
    exact rt_i hx hb hr hlk  (()) dX9_bitOf_23 hP hD hS (by first | exact Nat.le_of_ble_eq_true rfl | (simp only [rm_X9_bitOf]; omega)) (by first | exact Nat.le_of_ble_eq_true rfl | (simp only [rm_X9_bitOf]; omega)) (by unfold bitV; first | rw [if_pos c_7] | rw [if_neg (Nat.not_lt.mpr c_7)])
  · skip
    refine lv_iconst (v := nI 0) hx hb dX9_bitOf_10 (by decide) ?_
    refine lv_goto (tgt := 23) hx hb dX9_bitOf_11 (by decide) ?_
    rw [hQQ]
    exact rt_i hx hb hr hlk  (()) dX9_bitOf_23 hP hD hS (by first | exact Nat.le_of_ble_eq_true rfl | (simp only [rm_X9_bitOf]; omega)) (by first | exact Nat.le_of_ble_eq_true rfl | (simp only [rm_X9_bitOf]; omega)) (by unfold bitV; first | rw [if_pos c_7] | rw [if_neg (Nat.not_lt.mpr c_7)])
