/-! ===== the law: trees ===== -/
theorem trK_all {g : Nat → Bool} {b : Bool} {x : Nat} : ∀ k, trK g b x k = (b && allB (fun j => g (chC x j)) k) := by
  intro k
  induction k with
  | zero => show b = (b && true); rw [Bool.and_true]
  | succ k ih =>
    show (if trK g b x k = true then g (chC x k) else false) = (b && (allB (fun j => g (chC x j)) k && g (chC x k)))
    rw [ih, ← Bool.and_assoc]
    cases (b && allB (fun j => g (chC x j)) k) <;> rfl
theorem trU_s {t : Int32} {f : Nat → Int32} {n x : Nat} : trU t f (n + 1) x = true ↔ nearB t (f x) = true ∧ ∀ j, j < 4 → trU t f n (chC x j) = true := by
  show trK (trU t f n) (nearB t (f x)) x 4 = true ↔ _
  rw [trK_all, Bool.and_eq_true, allB_iff]
theorem lev_f {L x : Nat} (h1 : 1 ≤ L) (h3 : L ≤ 3) (hx : x < 64) (h : 0 < levC x L) : isDf L x = true ∧ levM x L = levC x L ∧ levC x L ≤ 3 :=
  (show ∀ L, L ≤ 3 → ∀ x, x < 64 → (1 ≤ L → 0 < levC x L → isDf L x = true ∧ levM x L = levC x L ∧ levC x L ≤ 3) by decide +kernel) L h3 x hx h1 h
theorem lev_0 {L x : Nat} (h1 : 1 ≤ L) (h3 : L ≤ 3) (hx : x < 64) (h : levC x L = 0) : isDf L x = false :=
  (show ∀ L, L ≤ 3 → ∀ x, x < 64 → (1 ≤ L → levC x L = 0 → isDf L x = false) by decide +kernel) L h3 x hx h1 h
theorem e_tr0 {L x : Nat} {t : Int32} {f : Nat → Int32} (h1 : 1 ≤ L) (h3 : L ≤ 3) (hx : x < 64) (h : levC x L = 0) : smlM L t f x = false := by
  unfold smlM
  rw [lev_0 h1 h3 hx h]
  rfl
theorem sml_iff {L x : Nat} {t : Int32} {f : Nat → Int32} (h1 : 1 ≤ L) (h3 : L ≤ 3) (hx : x < 64) (h : 0 < levC x L) : smlM L t f x = true ↔ ∀ m, m < levC x L → ∀ k, k < 2 ^ (2 * m) → nearB t (f (ixM x m k)) = true := by
  obtain ⟨a, b, _⟩ := lev_f h1 h3 hx h
  unfold smlM
  rw [a, b, Bool.true_and, allB_iff]
  exact ⟨fun z m hm => allB_iff.mp (z m hm), fun z m hm => allB_iff.mpr (z m hm)⟩
theorem ix0 {x k : Nat} (hk : k < 1) : ixM x 0 k = x := by
  unfold ixM
  have : k = 0 := by omega
  subst this
  rw [Nat.pow_zero]
  omega
theorem ix1 {x j : Nat} : ixM x 1 j = chC x j := by
  unfold ixM chC
  rw [Nat.pow_one]
  omega
theorem ix2 {x j i : Nat} (hx : x % 8 < 4) (hi : i < 4) (hj : j < 4) : chC (chC x j) i = ixM x 2 (4 * (2 * (j / 2) + i / 2) + 2 * (j % 2) + i % 2) := by
  unfold ixM chC
  rw [show 2 ^ 2 = 4 from rfl]
  omega
theorem e_tr1 {L x : Nat} {t : Int32} {f : Nat → Int32} (h1 : 1 ≤ L) (h3 : L ≤ 3) (hx : x < 64) (h : 0 < levC x L) : trU t f (levC x L - 1) x = smlM L t f x := by
  rw [Bool.eq_iff_iff, sml_iff h1 h3 hx h]
  obtain ⟨_, _, c⟩ := lev_f h1 h3 hx h
  have hb := lev_any hx h3 rfl h
  have e : levC x L = 1 ∨ levC x L = 2 ∨ levC x L = 3 := by omega
  rcases e with e | e | e
  · rw [e]
    constructor
    · intro z m hm k hk
      have : m = 0 := by omega
      subst this
      rw [ix0 hk]
      exact z
    · intro z
      have := z 0 (by omega) 0 (by decide)
      rw [ix0 (by omega)] at this
      exact this
  · rw [e]
    show trU t f (0 + 1) x = true ↔ _
    rw [trU_s]
    constructor
    · intro ⟨z0, z1⟩ m hm k hk
      have : m = 0 ∨ m = 1 := by omega
      rcases this with rfl | rfl
      · rw [ix0 hk]; exact z0
      · rw [ix1]; exact z1 k hk
    · intro z
      refine ⟨?_, fun j hj => ?_⟩
      · have := z 0 (by omega) 0 (by decide)
        rw [ix0 (by omega)] at this
        exact this
      · have := z 1 (by omega) j hj
        rw [ix1] at this
        exact this
  · rw [e] at hb ⊢
    have hb : x / 8 * 4 < 8 ∧ x % 8 * 4 < 8 := hb
    show trU t f (0 + 1 + 1) x = true ↔ _
    rw [trU_s]
    constructor
    · intro ⟨z0, z1⟩ m hm k hk
      have : m = 0 ∨ m = 1 ∨ m = 2 := by omega
      rcases this with rfl | rfl | rfl
      · rw [ix0 hk]; exact z0
      · rw [ix1]
        exact (trU_s.mp (z1 k hk)).1
      · have hk : k < 16 := hk
        have := (trU_s.mp (z1 (2 * (k / 4 / 2) + k % 4 / 2) (by omega))).2 (2 * (k / 4 % 2) + k % 4 % 2) (by omega)
        have this : nearB t (f (chC (chC x (2 * (k / 4 / 2) + k % 4 / 2)) (2 * (k / 4 % 2) + k % 4 % 2))) = true := this
        rw [ix2 (by omega) (by omega) (by omega)] at this
        rw [show 4 * (2 * ((2 * (k / 4 / 2) + k % 4 / 2) / 2) + (2 * (k / 4 % 2) + k % 4 % 2) / 2) + 2 * ((2 * (k / 4 / 2) + k % 4 / 2) % 2) + (2 * (k / 4 % 2) + k % 4 % 2) % 2 = k by omega] at this
        exact this
    · intro z
      refine ⟨?_, fun j hj => trU_s.mpr ⟨?_, fun i hi => ?_⟩⟩
      · have := z 0 (by omega) 0 (by decide)
        rw [ix0 (by omega)] at this
        exact this
      · have := z 1 (by omega) j hj
        rw [ix1] at this
        exact this
      · have := z 2 (by omega) (4 * (2 * (j / 2) + i / 2) + 2 * (j % 2) + i % 2) (show _ < 16 by omega)
        rw [← ix2 (by omega) hi hj] at this
        exact this
def chB (L x j : Nat) : Bool := decide (levC (chC x j) L = levC x L - 1) && (decide (chC x j < 64) && decide (8 * (chC x j / 8 / 2) + chC x j % 8 / 2 = x))
theorem ch_lev {L x j : Nat} (h3 : L ≤ 3) (hx : x < 64) (h : 2 ≤ levC x L) (hj : j < 4) : levC (chC x j) L = levC x L - 1 ∧ chC x j < 64 ∧ 8 * (chC x j / 8 / 2) + chC x j % 8 / 2 = x := by
  have k : chB L x j = true := (show ∀ L, L ≤ 3 → ∀ x, x < 64 → ∀ j, j < 4 → (2 ≤ levC x L → chB L x j = true) by decide +kernel) L h3 x hx j hj h
  unfold chB at k
  rw [Bool.and_eq_true, Bool.and_eq_true, decide_eq_true_eq, decide_eq_true_eq, decide_eq_true_eq] at k
  exact k
theorem par_lev {L x : Nat} (h3 : L ≤ 3) (hx : x < 64) (h : 1 ≤ levC x L) (h2 : ¬ levC x L = L) : 1 ≤ levC (8 * (x / 8 / 2) + x % 8 / 2) L ∧ 8 * (x / 8 / 2) + x % 8 / 2 < 64 :=
  (show ∀ L, L ≤ 3 → ∀ x, x < 64 → (1 ≤ levC x L → ¬ levC x L = L → 1 ≤ levC (8 * (x / 8 / 2) + x % 8 / 2) L ∧ 8 * (x / 8 / 2) + x % 8 / 2 < 64) by decide +kernel) L h3 x hx h h2
def cT (L : Nat) (t : Int32) (f : Nat → Int32) (y : Nat) : Nat := if trB L t f y = true then 1 else 0
def dD (c : Nat → Nat) : Nat → Nat → Nat
  | 0, x => c x
  | n + 1, x => c x + cnK (dD c n) x 4
theorem sml_ch {L x j : Nat} {t : Int32} {f : Nat → Int32} (h1 : 1 ≤ L) (h3 : L ≤ 3) (hx : x < 64) (h : 2 ≤ levC x L) (hj : j < 4) (hs : smlM L t f x = true) : smlM L t f (chC x j) = true := by
  obtain ⟨a, b, _⟩ := ch_lev h3 hx h hj
  rw [← e_tr1 h1 h3 hx (by omega), show levC x L - 1 = (levC x L - 2) + 1 by omega, trU_s] at hs
  rw [← e_tr1 h1 h3 b (by omega), a]
  have := hs.2 j hj
  rw [show levC x L - 1 - 1 = levC x L - 2 by omega]
  exact this
theorem cT_in {L x : Nat} {t : Int32} {f : Nat → Int32} (h1 : 1 ≤ L) (h3 : L ≤ 3) (hx : x < 64) (h : 0 < levC x L) (hp : levC x L < L) (hs : smlM L t f (8 * (x / 8 / 2) + x % 8 / 2) = true) : cT L t f x = 0 := by
  obtain ⟨_, b, _⟩ := lev_f h1 h3 hx h
  unfold cT trB hpB
  rw [b, if_pos hp, hs]
  by_cases c : smlM L t f x = true
  · rw [if_pos c]; rfl
  · rw [if_neg c]; rfl
theorem cT_top {L x : Nat} {t : Int32} {f : Nat → Int32} (h1 : 1 ≤ L) (h3 : L ≤ 3) (hx : x < 64) (h : 0 < levC x L) (hp : levC x L = L ∨ smlM L t f (8 * (x / 8 / 2) + x % 8 / 2) = false) : cT L t f x = if smlM L t f x = true then 1 else 0 := by
  obtain ⟨_, b, _⟩ := lev_f h1 h3 hx h
  unfold cT trB hpB
  rw [b]
  by_cases c : smlM L t f x = true
  · rw [if_pos c, if_pos c]
    rcases hp with d | d
    · rw [if_neg (show ¬ levC x L < L by omega)]; rfl
    · rw [d]
      by_cases z : levC x L < L
      · rw [if_pos z]; rfl
      · rw [if_neg z]; rfl
  · rw [if_neg c, if_neg c]; rfl
theorem cnK_0 {g : Nat → Nat} {x : Nat} (h : ∀ j, j < 4 → g (chC x j) = 0) : cnK g x 4 = 0 := by
  show 0 + g (chC x 0) + g (chC x 1) + g (chC x 2) + g (chC x 3) = 0
  rw [h 0 (by omega), h 1 (by omega), h 2 (by omega), h 3 (by omega)]
theorem cnK_c {g g' : Nat → Nat} {x : Nat} (h : ∀ j, j < 4 → g (chC x j) = g' (chC x j)) : cnK g x 4 = cnK g' x 4 := by
  show 0 + g (chC x 0) + g (chC x 1) + g (chC x 2) + g (chC x 3) = 0 + g' (chC x 0) + g' (chC x 1) + g' (chC x 2) + g' (chC x 3)
  rw [h 0 (by omega), h 1 (by omega), h 2 (by omega), h 3 (by omega)]
theorem dD_0 {L : Nat} {t : Int32} {f : Nat → Int32} (h1 : 1 ≤ L) (h3 : L ≤ 3) : ∀ n x, levC x L = n + 1 → x < 64 → n + 1 < L → smlM L t f (8 * (x / 8 / 2) + x % 8 / 2) = true → smlM L t f x = true → dD (cT L t f) n x = 0 := by
  intro n
  induction n with
  | zero => intro x h hx hl hp _; exact cT_in h1 h3 hx (by omega) (by omega) hp
  | succ n ih =>
    intro x h hx hl hp hs
    show cT L t f x + cnK (dD (cT L t f) n) x 4 = 0
    rw [cT_in h1 h3 hx (by omega) (by omega) hp, cnK_0 (fun j hj => by
      obtain ⟨a, b, c⟩ := ch_lev h3 hx (by omega) hj
      exact ih _ (by omega) b (by omega) (by rw [c]; exact hs) (sml_ch h1 h3 hx (by omega) hj hs))]
theorem cnU_d {L : Nat} {t : Int32} {f : Nat → Int32} (h1 : 1 ≤ L) (h3 : L ≤ 3) : ∀ n x, levC x L = n + 1 → x < 64 → (n + 1 = L ∨ smlM L t f (8 * (x / 8 / 2) + x % 8 / 2) = false) → cnU t f n x = dD (cT L t f) n x := by
  intro n
  induction n with
  | zero =>
    intro x h hx hp
    have e := e_tr1 (t := t) (f := f) h1 h3 hx (by omega)
    rw [h] at e
    have e : trU t f 0 x = smlM L t f x := e
    show (if trU t f 0 x = true then 1 else 0) = cT L t f x
    rw [cT_top h1 h3 hx (by omega) (by rw [h]; exact hp), e]
  | succ n ih =>
    intro x h hx hp
    have e := e_tr1 (t := t) (f := f) h1 h3 hx (by omega)
    rw [h] at e
    have e : trU t f (n + 1) x = smlM L t f x := e
    have hl : n + 2 ≤ L := by
      have := levC_le (x := x) h3
      omega
    show (if trU t f (n + 1) x = true then 1 else cnK (cnU t f n) x 4) = cT L t f x + cnK (dD (cT L t f) n) x 4
    rw [cT_top h1 h3 hx (by omega) (by rw [h]; exact hp), e]
    by_cases c : smlM L t f x = true
    · rw [if_pos c, if_pos c, cnK_0 (fun j hj => by
        obtain ⟨a, b, d⟩ := ch_lev h3 hx (by omega) hj
        exact dD_0 h1 h3 n _ (by omega) b (by omega) (by rw [d]; exact c) (sml_ch h1 h3 hx (by omega) hj c))]
    · rw [if_neg c, if_neg c, Nat.zero_add]
      exact cnK_c (fun j hj => by
        obtain ⟨a, b, d⟩ := ch_lev h3 hx (by omega) hj
        exact ih _ (by omega) b (Or.inr (by rw [d]; exact Bool.eq_false_iff.mpr c)))
/-! the sums, by lists of places -/
def lsu (c : Nat → Nat) : List Nat → Nat
  | [] => 0
  | x :: l => c x + lsu c l
theorem lsu_app {c : Nat → Nat} {a b : List Nat} : lsu c (a ++ b) = lsu c a + lsu c b := by
  induction a with
  | nil => show lsu c b = 0 + _; rw [Nat.zero_add]
  | cons x a ih =>
    show c x + lsu c (a ++ b) = c x + lsu c a + lsu c b
    rw [ih]
    omega
theorem lsu_perm {c : Nat → Nat} {a b : List Nat} (h : a.Perm b) : lsu c a = lsu c b := by
  induction h with
  | nil => rfl
  | cons x _ ih => show c x + _ = c x + _; rw [ih]
  | swap x y l => show c y + (c x + lsu c l) = c x + (c y + lsu c l); omega
  | trans _ _ a b => exact a.trans b
def dl9 : Nat → Nat → List Nat
  | 0, x => [x]
  | n + 1, x => x :: (dl9 n (chC x 0) ++ (dl9 n (chC x 1) ++ (dl9 n (chC x 2) ++ dl9 n (chC x 3))))
theorem dD_l {c : Nat → Nat} : ∀ n x, dD c n x = lsu c (dl9 n x) := by
  intro n
  induction n with
  | zero => intro x; rfl
  | succ n ih =>
    intro x
    show c x + (0 + dD c n (chC x 0) + dD c n (chC x 1) + dD c n (chC x 2) + dD c n (chC x 3)) = c x + lsu c (dl9 n (chC x 0) ++ (dl9 n (chC x 1) ++ (dl9 n (chC x 2) ++ dl9 n (chC x 3))))
    rw [lsu_app, lsu_app, lsu_app, ih, ih, ih, ih]
    omega
def tl9 (L : Nat) : Nat → List Nat
  | 0 => []
  | k + 1 => tl9 L k ++ (if levC k L = L then dl9 (L - 1) k else [])
def al9 (L : Nat) : Nat → List Nat
  | 0 => []
  | k + 1 => al9 L k ++ (if 0 < levC k L then [k] else [])
theorem tl_al {L : Nat} (h1 : 1 ≤ L) (h3 : L ≤ 3) : (tl9 L 64).Perm (al9 L 64) := by
  rcases L_cases h1 h3 with rfl | rfl | rfl
  · decide +kernel
  · decide +kernel
  · decide +kernel
theorem faN_l {L : Nat} {t : Int32} {f : Nat → Int32} (h1 : 1 ≤ L) (h3 : L ≤ 3) : ∀ k, k ≤ 64 → faN t f L k = lsu (cT L t f) (tl9 L k) := by
  intro k
  induction k with
  | zero => intro _; rfl
  | succ k ih =>
    intro hk
    show faN t f L k + (if levC k L = L then cnU t f (L - 1) k else 0) = lsu (cT L t f) (tl9 L k ++ (if levC k L = L then dl9 (L - 1) k else []))
    rw [lsu_app, ih (by omega)]
    by_cases c : levC k L = L
    · rw [if_pos c, if_pos c, cnU_d h1 h3 (L - 1) k (by omega) (by omega) (Or.inl (by omega)), dD_l]
    · rw [if_neg c, if_neg c]
      rfl
theorem cT_0 {L k : Nat} {t : Int32} {f : Nat → Int32} (h1 : 1 ≤ L) (h3 : L ≤ 3) (hk : k < 64) (c : ¬ 0 < levC k L) : cT L t f k = 0 := by
  unfold cT trB
  rw [e_tr0 h1 h3 hk (by omega)]
  rfl
theorem cT_l {L : Nat} {t : Int32} {f : Nat → Int32} (h1 : 1 ≤ L) (h3 : L ≤ 3) : ∀ k, k ≤ 64 → cntN (trB L t f) k = lsu (cT L t f) (al9 L k) := by
  intro k
  induction k with
  | zero => intro _; rfl
  | succ k ih =>
    intro hk
    show cntN (trB L t f) k + cT L t f k = lsu (cT L t f) (al9 L k ++ (if 0 < levC k L then [k] else []))
    rw [lsu_app, ih (by omega)]
    by_cases c : 0 < levC k L
    · rw [if_pos c]
      rfl
    · rw [if_neg c, cT_0 h1 h3 (by omega) c]
      rfl
theorem faN_c {L : Nat} {t : Int32} {f : Nat → Int32} (h1 : 1 ≤ L) (h3 : L ≤ 3) : faN t f L 64 = cntN (trB L t f) 64 := by
  rw [faN_l h1 h3 64 (by omega), cT_l h1 h3 64 (by omega)]
  exact lsu_perm (tl_al h1 h3)
theorem e_fa {L : Nat} {t : Int32} {f : Nat → Int32} (h1 : 1 ≤ L) (h3 : L ≤ 3) : nI (faN t f L 64) = l_sum (trN L t f) 64 := by
  rw [faN_c h1 h3]
  exact cnt_sum 64
/-! from below -/
theorem arK_c {q q' : Nat → Bool} {x : Nat} (h : ∀ i, i < 4 → q (chC x i) = q' (chC x i)) : arK q x 4 = arK q' x 4 := by
  show (((true && q (chC x 0)) && q (chC x 1)) && q (chC x 2) && q (chC x 3)) = (((true && q' (chC x 0)) && q' (chC x 1)) && q' (chC x 2) && q' (chC x 3))
  rw [h 0 (by omega), h 1 (by omega), h 2 (by omega), h 3 (by omega)]
theorem fbK_c {t : Int32} {f : Nat → Int32} {L j : Nat} {q : Nat → Bool} (h3 : L ≤ 3) (hj : 1 ≤ j) : ∀ k, k ≤ 64 → ∀ y, fbK t f L j q k y = if y < k ∧ levC y L = j then (nearB t (f y) && arU q j y) else q y := by
  intro k
  induction k with
  | zero =>
    intro _ y
    rw [if_neg (by omega)]
    rfl
  | succ k ih =>
    intro hk y
    show va_up (fbK t f L j q k) k (if levC k L = j then (if nearB t (f k) = true then (if arU (fbK t f L j q k) j k = true then true else false) else false) else fbK t f L j q k k) y = _
    by_cases e : y = k
    · subst e
      rw [va_up_self]
      by_cases c : levC y L = j
      · rw [if_pos c, if_pos (show y < y + 1 ∧ levC y L = j from ⟨by omega, c⟩)]
        have ea : arU (fbK t f L j q y) j y = arU q j y := by
          unfold arU
          by_cases d : j = 1
          · rw [if_pos d, if_pos d]
          · rw [if_neg d, if_neg d]
            exact arK_c (fun i hi => by
              obtain ⟨a, b, _⟩ := ch_lev h3 (x := y) (by omega) (by omega) hi
              rw [ih (by omega) _, if_neg (by omega)])
        rw [ea]
        cases nearB t (f y) <;> cases arU q j y <;> rfl
      · rw [if_neg c, if_neg (fun z => c z.2), ih (by omega) y, if_neg (by omega)]
    · rw [va_up_ne _ _ e, ih (by omega) y]
      by_cases c : y < k ∧ levC y L = j
      · rw [if_pos c, if_pos ⟨by omega, c.2⟩]
      · rw [if_neg c, if_neg (fun z => c ⟨by omega, z.2⟩)]
theorem fbJ_t {t : Int32} {f : Nat → Int32} {L : Nat} {q : Nat → Bool} (h3 : L ≤ 3) : ∀ j, ∀ y, y < 64 → 1 ≤ levC y L → levC y L ≤ j → fbJ t f L q j y = trU t f (levC y L - 1) y := by
  intro j
  induction j with
  | zero => intro y _ a b; omega
  | succ j ih =>
    intro y hy a b
    show fbK t f L (j + 1) (fbJ t f L q j) 64 y = _
    rw [fbK_c h3 (by omega) 64 (by omega) y]
    by_cases c : levC y L = j + 1
    · rw [if_pos ⟨hy, c⟩, c]
      by_cases d : j = 0
      · subst d
        show (nearB t (f y) && true) = nearB t (f y)
        rw [Bool.and_true]
      · have e : j = (j - 1) + 1 := by omega
        have ea : arU (fbJ t f L q j) (j + 1) y = allB (fun i => trU t f (j - 1) (chC y i)) 4 := by
          unfold arU
          rw [if_neg (by omega)]
          rw [show allB (fun i => trU t f (j - 1) (chC y i)) 4 = arK (trU t f (j - 1)) y 4 from rfl]
          exact arK_c (fun i hi => by
            obtain ⟨x1, x2, _⟩ := ch_lev h3 hy (by omega) hi
            rw [ih _ x2 (by omega) (by omega), show levC (chC y i) L - 1 = j - 1 by omega])
        rw [ea, Nat.add_sub_cancel]
        have e2 : trU t f j y = trU t f ((j - 1) + 1) y := by rw [← e]
        rw [e2]
        show _ = trK (trU t f (j - 1)) (nearB t (f y)) y 4
        rw [trK_all]
    · rw [if_neg (fun z => c z.2)]
      exact ih y hy a (by omega)
theorem fbN_c {L : Nat} {t : Int32} {f : Nat → Int32} {q : Nat → Bool} (h1 : 1 ≤ L) (h3 : L ≤ 3) : ∀ k, k ≤ 64 → fbN (fbJ t f L q L) L k = cntN (trB L t f) k := by
  have hq : ∀ y, y < 64 → 1 ≤ levC y L → fbJ t f L q L y = smlM L t f y := fun y hy a => by
    rw [fbJ_t h3 L y hy a (levC_le h3), e_tr1 h1 h3 hy a]
  intro k
  induction k with
  | zero => intro _; rfl
  | succ k ih =>
    intro hk
    show fbN _ L k + fbM (fbJ t f L q L) L k = cntN _ k + cT L t f k
    rw [ih (by omega)]
    congr 1
    unfold fbM
    by_cases c : 0 < levC k L
    · rw [if_pos c, hq k (by omega) c]
      by_cases d : levC k L = L
      · rw [cT_top h1 h3 (by omega) c (Or.inl d)]
        unfold fbT
        rw [if_pos d]
        rfl
      · obtain ⟨p1, p2⟩ := par_lev h3 (by omega) c d
        unfold fbT
        rw [if_neg d, hq _ p2 p1]
        have hl := levC_le (x := k) h3
        by_cases s : smlM L t f (8 * (k / 8 / 2) + k % 8 / 2) = true
        · rw [cT_in h1 h3 (by omega) c (by omega) s, if_pos s]
          cases smlM L t f k <;> rfl
        · rw [cT_top h1 h3 (by omega) c (Or.inr (Bool.eq_false_iff.mpr s)), if_neg s]
          rfl
    · rw [if_neg c, cT_0 h1 h3 (by omega) c]
theorem e_fb {L : Nat} {t : Int32} {f : Nat → Int32} {q : Nat → Bool} (h1 : 1 ≤ L) (h3 : L ≤ 3) : fbN (fbJ t f L q L) L 64 = faN t f L 64 := by
  rw [fbN_c h1 h3 64 (by omega), faN_c h1 h3]
