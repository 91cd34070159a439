/-! ===== the law: what is equal ===== -/
theorem RS.congr {f g g' : Nat → Int32} {L : Nat} {s w : Int32} (h : RS f L s w g) (e : ∀ k, k < 68 → g k = g' k) : RS f L s w g' := by
  obtain ⟨a, b, c, d, q⟩ := h
  refine ⟨fun k hk => (a k hk).trans (e k (by omega)), b, (e 64 (by omega)).symm.trans c, ?_, fun k hk => by rw [← e k (by omega)]; exact q k hk⟩
  rw [← e 65 (by omega), ← e 66 (by omega), ← e 67 (by omega)]
  exact d
theorem HI.push {st hi : Nat → Int32} {sts L : Nat} {stp why : Int32} {xl : List svR} (h : HI sts hi xl) (hr : RS st L stp why st) (o a : Nat) : HI (recN sts) (recH st hi sts) (svP xl (o, a, st, L, stp, why)) := by
  obtain ⟨h1, h2, h3⟩ := h
  by_cases c : sts = 6
  · have hl : xl.length = 6 := h1.trans c
    have e1 : svP xl (o, a, st, L, stp, why) = (o, a, st, L, stp, why) :: xl.dropLast := by
      unfold svP
      rw [if_pos hl]
    have e2 : recN sts = 6 := if_pos c
    have e3 : recH st hi sts = layH (5 * 68) 68 st (shfH 340 hi) := if_pos c
    rw [e1, e2, e3]
    refine ⟨by rw [List.length_cons, List.length_dropLast, hl], by decide, fun j x hx => ?_⟩
    cases j with
    | zero =>
      cases hx
      refine hr.congr (fun k hk => ?_)
      show st k = layH (5 * 68) 68 st _ ((6 - 1 - 0) * 68 + k)
      unfold layH
      rw [if_pos (by omega), show (6 - 1 - 0) * 68 + k - 5 * 68 = k by omega]
    | succ j =>
      have hx : xl.dropLast[j]? = some x := hx
      have hj : j < xl.dropLast.length := (List.getElem?_eq_some_iff.mp hx).1
      rw [List.length_dropLast, hl] at hj
      have hx2 : xl[j]? = some x := by
        rw [List.getElem?_dropLast, if_pos (by omega)] at hx
        exact hx
      refine (h3 j x hx2).congr (fun k hk => ?_)
      show hi ((sts - 1 - j) * 68 + k) = layH (5 * 68) 68 st (shfH 340 hi) ((6 - 1 - (j + 1)) * 68 + k)
      unfold layH shfH
      rw [if_neg (by omega), if_pos (by omega)]
      congr 1
      omega
  · have hl : ¬ xl.length = 6 := by omega
    have e1 : svP xl (o, a, st, L, stp, why) = (o, a, st, L, stp, why) :: xl := by
      unfold svP
      rw [if_neg hl]
    have e2 : recN sts = sts + 1 := if_neg c
    have e3 : recH st hi sts = layH (sts * 68) 68 st hi := if_neg c
    rw [e1, e2, e3]
    refine ⟨by rw [List.length_cons, h1], by omega, fun j x hx => ?_⟩
    cases j with
    | zero =>
      cases hx
      refine hr.congr (fun k hk => ?_)
      show st k = layH (sts * 68) 68 st _ ((sts + 1 - 1 - 0) * 68 + k)
      unfold layH
      rw [show (sts + 1 - 1 - 0) * 68 + k = sts * 68 + k by omega, if_pos (by omega), show sts * 68 + k - sts * 68 = k by omega]
    | succ j =>
      have hx : xl[j]? = some x := hx
      have hj : j < xl.length := (List.getElem?_eq_some_iff.mp hx).1
      refine (h3 j x hx).congr (fun k hk => ?_)
      show hi ((sts - 1 - j) * 68 + k) = layH (sts * 68) 68 st hi ((sts + 1 - 1 - (j + 1)) * 68 + k)
      have e : sts + 1 - 1 - (j + 1) = sts - 1 - j := by omega
      unfold layH
      rw [e, if_neg (by
        have : (sts - 1 - j) * 68 + 68 ≤ sts * 68 := by omega
        omega)]
theorem HI.pop {hi : Nat → Int32} {sts : Nat} {x : svR} {xl : List svR} (h : HI sts hi (x :: xl)) : HI (sts - 1) hi xl ∧ RS x.2.2.1 x.2.2.2.1 x.2.2.2.2.1 x.2.2.2.2.2 (fun j => hi ((sts - 1) * 68 + j)) := by
  obtain ⟨h1, h2, h3⟩ := h
  have h1 : xl.length + 1 = sts := h1
  refine ⟨⟨by omega, by omega, fun j y hy => ?_⟩, h3 0 x rfl⟩
  have := h3 (j + 1) y hy
  rw [show sts - 1 - (j + 1) = sts - 1 - 1 - j by omega] at this
  exact this
theorem LR0.edit {st hi : Nat → Int32} {sts len : Nat} {ch : Nat → Nat} {L : Nat} {stp why : Int32} {xl : List svR} {wn wu : Nat} {w : Nat → Int64} (h : LR0 st hi sts len ch L stp why xl wn wu w) {st' : Nat → Int32} {L' : Nat} {stp' why' : Int32} (hr : RS st' L' stp' why' st') (o a : Nat) : LR0 st' (recH st hi sts) (recN sts) len ch L' stp' why' (svP xl (o, a, st, L, stp, why)) wn wu w := ⟨hr, h.2.1, h.2.2.1, h.2.2.2.push h.1 o a⟩
theorem HI.pos {hi : Nat → Int32} {sts : Nat} {x : svR} {xl : List svR} (h : HI sts hi (x :: xl)) : 1 ≤ sts ∧ sts ≤ 6 := by
  obtain ⟨h1, h2, _⟩ := h
  have h1 : xl.length + 1 = sts := h1
  omega
theorem nI_ne {n : Nat} (h : 0 < n) (h2 : n < 2147483648) : ¬ nI n = 0 := nI_ne0 h h2
theorem tx_up {ch : Nat → Nat} {len cd : Nat} (h : ∀ j, j < len → ch j ≤ 126) (hc : cd ≤ 126) : ∀ j, j < len + 1 → va_up ch len cd j ≤ 126 := by
  intro j hj
  by_cases e : j = len
  · rw [e, va_up_self]
    exact hc
  · rw [va_up_ne _ _ e]
    exact h j (by omega)
theorem rs_on {f g : Nat → Int32} {L : Nat} {stp why : Int32} (h : RS f L stp why g) (hs : ¬ stp = (-1)) : g 65 = nI 1 ∧ g 66 = stp ∧ g 67 = why := by
  rcases h.2.2.2.1 with ⟨a, _⟩ | ⟨_, a, b, c⟩
  · exact absurd a hs
  · exact ⟨a, b, c⟩
theorem rs_off {f g : Nat → Int32} {L : Nat} {stp why : Int32} (h : RS f L stp why g) (hs : stp = (-1)) : ¬ g 65 = nI 1 := by
  rcases h.2.2.2.1 with ⟨_, b⟩ | ⟨a, _⟩
  · rw [b]; decide
  · exact absurd hs a
theorem rs_stop {f g : Nat → Int32} {L : Nat} {stp why : Int32} (h : RS f L stp why g) : (if stp = (-1) then false else true) = (if g 65 = nI 1 then true else false) := by
  by_cases hs : stp = (-1)
  · rw [if_pos hs, if_neg (rs_off h hs)]
  · rw [if_neg hs, if_pos (rs_on h hs).1]
theorem inB_lo {t : Int32} {b : Nat} (h : inB t (nI 0) (nI b) = true) : ¬ t < nI 0 := by
  intro z
  unfold inB at h
  rw [show decide (t < nI 0) = true from decide_eq_true z] at h
  cases h
theorem inB_neg {t : Int32} {b : Nat} (h : t < 0) : inB t (nI 0) (nI b) = false := by
  unfold inB
  rw [show decide (t < nI 0) = true from decide_eq_true h]
  rfl
theorem cb_31 {w n : Nat} (h : w < n) (h2 : n ≤ 1344) : w < 2147483648 := by omega
theorem cb_out {w n : Nat} (h : w < 2147483648) (h1 : 1 ≤ n) (h2 : n ≤ w) : inB (nI w) (nI 0) (nI (n - 1)) = false := by
  rw [inB_nat h (by decide) (by omega)]
  exact decide_eq_false (by omega)
/-! shades -/
theorem sh_int {v : Int32} : isSh v = true ↔ 0 ≤ v.toInt ∧ v.toInt ≤ 255 := by
  unfold isSh inB
  rw [Bool.and_eq_true, Bool.not_eq_true', Bool.not_eq_true', decide_eq_false_iff_not, decide_eq_false_iff_not, Int32.not_lt, Int32.not_lt, Int32.le_iff_toInt_le, Int32.le_iff_toInt_le]
  exact Iff.rfl
theorem sh_clm (f : Nat → Int32) (k : Nat) : isSh (clmF f k) = true := by
  rw [sh_int]
  unfold clmF clampI
  by_cases a : 0 ≤ f k
  · rw [if_pos a]
    have a' : (0 : Int) ≤ (f k).toInt := Int32.le_iff_toInt_le.mp a
    by_cases b : f k ≤ nI 255
    · rw [if_pos b]
      exact ⟨a', Int32.le_iff_toInt_le.mp b⟩
    · rw [if_neg b]
      exact ⟨by decide, by decide⟩
  · rw [if_neg a]
    exact ⟨by decide, by decide⟩
theorem clm_sh {v : Int32} (h : isSh v = true) : clampI v = v := by
  rw [sh_int] at h
  unfold clampI
  rw [if_pos (Int32.le_iff_toInt_le.mpr (show (0 : Int32).toInt ≤ v.toInt from h.1)), if_pos (Int32.le_iff_toInt_le.mpr (show v.toInt ≤ (nI 255).toInt from h.2))]
theorem allB_iff {p : Nat → Bool} {n : Nat} : allB p n = true ↔ ∀ k, k < n → p k = true := by
  induction n with
  | zero => exact ⟨fun _ k hk => absurd hk (Nat.not_lt_zero k), fun _ => rfl⟩
  | succ n ih =>
    show (allB p n && p n) = true ↔ _
    rw [Bool.and_eq_true, ih]
    constructor
    · intro ⟨h1, h2⟩ k hk
      by_cases e : k = n
      · rw [e]; exact h2
      · exact h1 k (by omega)
    · intro h
      exact ⟨fun k hk => h k (by omega), h n (by omega)⟩
theorem allB_sh {f : Nat → Int32} (h : allB (shsB f) 64 = true) : ∀ k, k < 64 → isSh (f k) = true := allB_iff.mp h
theorem row_sh {st : Nat → Int32} {r : Nat} {t b : Int32} (hs : ∀ k, k < 64 → isSh (st k) = true) (hr : r < 8) (ht : isSh t = true) (hb : inB b (-36) (nI 36) = true) (h7 : isSh (t + nI 7 * b) = true) : ∀ k, k < 64 → isSh (rowF r t b 8 st k) = true := by
  have hb' : -36 ≤ b.toInt ∧ b.toInt ≤ 36 := by
    unfold inB at hb
    rw [Bool.and_eq_true, Bool.not_eq_true', Bool.not_eq_true', decide_eq_false_iff_not, decide_eq_false_iff_not, Int32.not_lt, Int32.not_lt, Int32.le_iff_toInt_le, Int32.le_iff_toInt_le] at hb
    exact hb
  have ht' := sh_int.mp ht
  have e : ∀ i : Nat, i < 8 → (t + nI i * b).toInt = t.toInt + (i : Int) * b.toInt := by
    intro i hi
    have hm : -252 ≤ (i : Int) * b.toInt ∧ (i : Int) * b.toInt ≤ 252 := by
      have : i = 0 ∨ i = 1 ∨ i = 2 ∨ i = 3 ∨ i = 4 ∨ i = 5 ∨ i = 6 ∨ i = 7 := by omega
      rcases this with rfl | rfl | rfl | rfl | rfl | rfl | rfl | rfl <;> omega
    rw [Int32.toInt_add, Int32.toInt_mul, nI_toInt (by omega), Int.bmod_eq_of_le (n := (i : Int) * b.toInt) (by omega) (by omega)]
    exact Int.bmod_eq_of_le (by omega) (by omega)
  have h7' := sh_int.mp h7
  rw [e 7 (by omega)] at h7'
  intro k hk
  unfold rowF
  split
  · rename_i hc
    rw [sh_int, e _ (by omega)]
    have : k - 8 * r = 0 ∨ k - 8 * r = 1 ∨ k - 8 * r = 2 ∨ k - 8 * r = 3 ∨ k - 8 * r = 4 ∨ k - 8 * r = 5 ∨ k - 8 * r = 6 ∨ k - 8 * r = 7 := by omega
    rcases this with h | h | h | h | h | h | h | h <;> rw [h] <;> omega
  · exact hs k hk
theorem row_ge {st : Nat → Int32} {r : Nat} {t b : Int32} (hr : r < 8) : ∀ k, 64 ≤ k → rowF r t b 8 st k = st k := by
  intro k hk
  unfold rowF
  rw [if_neg (by omega)]
theorem turnIx_lt {b : Bool} {k : Nat} (h : k < 64) : turnIx b k < 64 := by
  unfold turnIx
  split <;> omega
theorem turn_sh {st : Nat → Int32} {b : Bool} (hs : ∀ k, k < 64 → isSh (st k) = true) : ∀ k, k < 64 → isSh (turnF b st k) = true := fun k hk => hs _ (turnIx_lt hk)
theorem inv_sh {st : Nat → Int32} (hs : ∀ k, k < 64 → isSh (st k) = true) : ∀ k, k < 64 → isSh (invF st k) = true := by
  intro k hk
  have h := sh_int.mp (hs k hk)
  rw [sh_int]
  show 0 ≤ (nI 255 - st k).toInt ∧ (nI 255 - st k).toInt ≤ 255
  rw [Int32.toInt_sub, nI_toInt (by decide), Int.bmod_eq_of_le (by omega) (by omega)]
  omega
/-! sums -/
theorem cnt_sum {p : Nat → Bool} : ∀ n, nI (cntN p n) = l_sum (fun k => bI (p k)) n := by
  intro n
  induction n with
  | zero => rfl
  | succ n ih =>
    show nI (cntN p n + (if p n = true then 1 else 0)) = l_sum _ n + bI (p n)
    rw [← ih, ← nI_add]
    cases p n <;> rfl
theorem e_cnt {L : Nat} {t : Int32} {f : Nat → Int32} : nI (cntN (crmB L t f) 64) = l_sum (crmN L t f) 64 := cnt_sum 64
theorem e_dne {st f : Nat → Int32} : l_sum (dne st f) 64 = l_sum (cneI f st) 64 := l_sum_cong (fun j _ => by
  unfold dne cneI
  by_cases e : st j = f j
  · rw [if_pos e, if_pos e.symm]
  · rw [if_neg e, if_neg (fun z => e z.symm)])
/-! the code -/
theorem bit_n {f : Nat → Int32} {L : Nat} : ∀ n p w, 64 - p ≤ n → lenC f L p ≤ w → bitS f L w p = -1 := by
  intro n
  induction n with
  | zero =>
    intro p w hn _
    rw [bitS, if_neg (by omega)]
  | succ n ih =>
    intro p w hn hw
    by_cases c : p < 64
    · rw [lenC_lt c] at hw
      rw [bitS, if_pos c, if_neg (by omega)]
      have := tokS_pos f L p
      exact ih _ _ (by omega) (by omega)
    · rw [bitS, if_neg c]
theorem bit_y {f : Nat → Int32} {L : Nat} : ∀ n p w, 64 - p ≤ n → w < lenC f L p → ¬ bitS f L w p = -1 := by
  intro n
  induction n with
  | zero =>
    intro p w hn hw
    rw [lenC_ge (by omega)] at hw
    omega
  | succ n ih =>
    intro p w hn hw
    by_cases c : p < 64
    · rw [lenC_lt c] at hw
      rw [bitS, if_pos c]
      by_cases d : w < tokL f L p
      · rw [if_pos d]
        exact tokB_ne _ _ _ _
      · rw [if_neg d]
        have := tokS_pos f L p
        exact ih _ _ (by omega) (by omega)
    · rw [lenC_ge (by omega)] at hw
      omega
theorem e_bn {L w : Nat} {f : Nat → Int32} (h1 : 1 ≤ L) (h3 : L ≤ 3) (h : lenC f L 0 ≤ w) : bitS f L w 0 = -1 := bit_n 64 0 w (by omega) h
theorem e_by {L w : Nat} {f : Nat → Int32} (h1 : 1 ≤ L) (h3 : L ≤ 3) (h : w < lenC f L 0) : ¬ bitS f L w 0 = -1 := bit_y 64 0 w (by omega) h
/-! runs -/
theorem cnt_0 {p : Nat → Bool} {a : Nat} : ∀ d, (∀ i, i < d → p (a + i) = false) → cntN p (a + d) = cntN p a := by
  intro d
  induction d with
  | zero => intro _; rfl
  | succ d ih =>
    intro h
    show cntN p (a + d) + (if p (a + d) = true then 1 else 0) = _
    rw [ih (fun i hi => h i (by omega)), h d (by omega)]
    rfl
theorem fir_t {p : Nat → Bool} : ∀ (f i : Nat), firN p f i < i + f → p (firN p f i) = true := by
  intro f
  induction f with
  | zero => intro i h; exact absurd h (by show ¬ i < i + 0; omega)
  | succ f ih =>
    intro i h
    by_cases c : p i = true
    · have e : firN p (f + 1) i = i := if_pos c
      rw [e]
      exact c
    · have e : firN p (f + 1) i = firN p f (i + 1) := if_neg c
      rw [e] at h ⊢
      exact ih (i + 1) (by omega)
theorem zr_end {f : Nat → Int32} {L p : Nat} (hp : p ≤ 64) (c : p + zrN f L p < 64) : ¬ f (orT L (p + zrN f L p)) = 0 := by
  have h := fir_t (p := fun n => if p + n < 64 then (if f (orT L (p + n)) = 0 then false else true) else true) 65 0 (by
    have := zrN_le f L p hp
    show zrN f L p < 0 + 65
    omega)
  replace h : (if p + zrN f L p < 64 then (if f (orT L (p + zrN f L p)) = 0 then false else true) else true) = true := h
  rw [if_pos c] at h
  intro e
  rw [if_pos e] at h
  cases h
theorem run_c {f : Nat → Int32} {L : Nat} : ∀ n p, 64 - p ≤ n → p ≤ 64 → (p = 0 ∨ p = 64 ∨ ¬ f (orT L (p - 1)) = 0 ∨ ¬ f (orT L p) = 0) → cntN (runB f L) p + rnN f L p = cntN (runB f L) 64 := by
  intro n
  induction n with
  | zero =>
    intro p hn hp _
    have e : p = 64 := by omega
    rw [rnN_ge (by omega), e]
    rfl
  | succ n ih =>
    intro p hn hp hi
    by_cases c : p < 64
    · rw [rnN_lt c]
      have hz9 := zrN_le f L p hp
      by_cases z : 0 < zrN f L p
      · have es : tokS f L p = zrN f L p := if_pos z
        rw [if_pos z, es]
        have e0 := (zr_all (pa := f) (L := L) (p := p) z).2
        rw [Nat.add_zero] at e0
        have r0 : runB f L p = true := by
          unfold runB
          rw [if_pos e0]
          by_cases d : p = 0
          · rw [if_pos d]
          · rw [if_neg d]
            rcases hi with h | h | h | h
            · exact absurd h d
            · omega
            · rw [if_neg h]
            · exact absurd e0 h
        have c1 : cntN (runB f L) (p + zrN f L p) = cntN (runB f L) p + 1 := by
          have h := cnt_0 (p := runB f L) (a := p + 1) (zrN f L p - 1) (fun i hi2 => by
            have a1 := (zr_all (pa := f) (L := L) (p := p) (j := i) (by omega)).2
            have a2 := (zr_all (pa := f) (L := L) (p := p) (j := i + 1) (by omega)).2
            unfold runB
            rw [show p + 1 + i = p + (i + 1) by omega, if_pos a2, if_neg (by omega), show p + (i + 1) - 1 = p + i by omega, if_pos a1])
          rw [show p + 1 + (zrN f L p - 1) = p + zrN f L p by omega] at h
          rw [h]
          show cntN _ p + (if runB f L p = true then 1 else 0) = _
          rw [r0]
          rfl
        have h9 := ih (p + zrN f L p) (by omega) (by omega) (by
          by_cases d : p + zrN f L p = 64
          · exact Or.inr (Or.inl d)
          · refine Or.inr (Or.inr (Or.inr (fun e9 => ?_)))
            exact zr_end hp (by omega) e9)
        omega
      · have es : tokS f L p = 1 := if_neg z
        rw [if_neg z, es]
        have hn0 := zr_ne (pa := f) (L := L) c (by omega)
        have r0 : runB f L p = false := by
          unfold runB
          rw [if_neg hn0]
        have c1 : cntN (runB f L) (p + 1) = cntN (runB f L) p := by
          show cntN _ p + (if runB f L p = true then 1 else 0) = _
          rw [r0]
          rfl
        have h9 := ih (p + 1) (by omega) (by omega) (Or.inr (Or.inr (Or.inl (by rw [Nat.add_sub_cancel]; exact hn0))))
        omega
    · have e : p = 64 := by omega
      rw [rnN_ge (by omega), e]
      rfl
theorem e_run {L : Nat} {f : Nat → Int32} (h1 : 1 ≤ L) (h3 : L ≤ 3) : nI (rnN f L 0) = l_sum (runI f L) 64 := by
  have h := run_c (f := f) (L := L) 64 0 (by omega) (by omega) (Or.inl rfl)
  have h : 0 + rnN f L 0 = cntN (runB f L) 64 := h
  rw [Nat.zero_add] at h
  rw [h]
  exact cnt_sum 64
