/-! ===== bits: the law ===== -/
theorem toL_n {i : Nat} (h : i < 2147483648) : (nI i).toInt64 = Int64.ofNat i := by
  apply Int64.toInt_inj.mp
  rw [Int32.toInt_toInt64, nI_toInt h, Int64.toInt_ofNat_of_lt (by omega)]
theorem and63 {i : Nat} (h : i < 2147483648) : (nI i).toInt64 &&& 63 = Int64.ofNat (i % 64) := by
  rw [toL_n h]
  apply Int64.toBitVec_inj.mp
  apply BitVec.eq_of_toNat_eq
  show (BitVec.ofNat 64 i &&& 63#64).toNat = (BitVec.ofNat 64 (i % 64)).toNat
  rw [BitVec.toNat_and, BitVec.toNat_ofNat, BitVec.toNat_ofNat, BitVec.toNat_ofNat, Nat.mod_eq_of_lt (show i < 2 ^ 64 by omega), Nat.mod_eq_of_lt (show i % 64 < 2 ^ 64 by omega)]
  exact Nat.and_two_pow_sub_one_eq_mod i 6
theorem sh1 : ∀ m : Fin 64, ((1 : Int64) <<< Int64.ofNat m.val).toBitVec = BitVec.twoPow 64 m.val := by decide +kernel
theorem bit1_bv {i : Nat} (h : i < 2147483648) : (bit1 i).toBitVec = BitVec.twoPow 64 (i % 64) := by
  show ((1 : Int64) <<< ((nI i).toInt64 &&& 63)).toBitVec = _
  rw [and63 h]
  exact sh1 ⟨i % 64, by omega⟩
def gb (x : Int64) (m : Nat) : Bool := x.toBitVec.getLsbD m
theorem gb_0 (m : Nat) : gb 0 m = false := by
  show (0#64).getLsbD m = false
  simp
theorem gb_and0 {x : Int64} {i : Nat} (h : i < 2147483648) : x &&& bit1 i = 0 ↔ gb x (i % 64) = false := by
  rw [← Int64.toBitVec_inj, Int64.toBitVec_and, bit1_bv h]
  unfold gb
  constructor
  · intro e
    have := congrArg (fun z => z.getLsbD (i % 64)) e
    simpa [BitVec.getLsbD_twoPow, show i % 64 < 64 by omega] using this
  · intro e
    apply BitVec.eq_of_getLsbD_eq
    intro j hj
    by_cases c : i % 64 = j
    · subst c
      simp [e]
    · simp [BitVec.getLsbD_twoPow, c]
theorem gb_or {x : Int64} {i m : Nat} (h : i < 2147483648) (hm : m < 64) : gb (x ||| bit1 i) m = (gb x m || decide (i % 64 = m)) := by
  unfold gb
  rw [Int64.toBitVec_or, bit1_bv h, BitVec.getLsbD_or, BitVec.getLsbD_twoPow]
  by_cases c : i % 64 = m <;> simp [c, hm]
theorem gb_an {x : Int64} {i m : Nat} (h : i < 2147483648) (hm : m < 64) : gb (x &&& (bit1 i ^^^ (-1))) m = (gb x m && !decide (i % 64 = m)) := by
  unfold gb
  rw [Int64.toBitVec_and, Int64.toBitVec_xor, bit1_bv h, BitVec.getLsbD_and, BitVec.getLsbD_xor, BitVec.getLsbD_twoPow]
  have : ((-1 : Int64).toBitVec).getLsbD m = true := by
    have e : ((-1 : Int64).toBitVec) = BitVec.allOnes 64 := by decide
    rw [e, BitVec.getLsbD_allOnes]
    exact decide_eq_true hm
  rw [this]
  by_cases c : i % 64 = m <;> simp [c, hm]
/-- bit i of the row -/
def rb (w : Nat → Int64) (wu i : Nat) : Bool := if i / 64 < wu then gb (w (i / 64)) (i % 64) else false
theorem gtB_rb {w : Nat → Int64} {wu i : Nat} (h : i < 2147483648) : gtB w wu i = rb w wu i := by
  unfold gtB rb
  by_cases c : i / 64 < wu
  · rw [if_pos c, if_pos c]
    by_cases e : w (i / 64) &&& bit1 i = 0
    · rw [if_pos e, (gb_and0 h).mp e]
    · rw [if_neg e]
      cases hh : gb (w (i / 64)) (i % 64) with
      | true => rfl
      | false => exact absurd ((gb_and0 h).mpr hh) e
  · rw [if_neg c, if_neg c]
/-- what holds of a row of words -/
def BW (n wu : Nat) (w : Nat → Int64) : Prop := 1 ≤ n ∧ wu ≤ n ∧ ∀ j, wu ≤ j → j < n → w j = 0
theorem rc_z {w : Nat → Int64} {k : Nat} : ∀ j, rcU w k ≤ j → j < k → w j = 0 := by
  induction k with
  | zero => intro j _ h; omega
  | succ k ih =>
    intro j h1 h2
    unfold rcU at h1
    by_cases c : w k = 0
    · rw [if_pos c] at h1
      by_cases e : j = k
      · rw [e]; exact c
      · exact ih j h1 (by omega)
    · rw [if_neg c] at h1
      omega
theorem rb_rc {w : Nat → Int64} {k i : Nat} : rb w (rcU w k) i = rb w k i := by
  unfold rb
  by_cases c : i / 64 < rcU w k
  · rw [if_pos c, if_pos (by have := rcU_le w k; omega)]
  · rw [if_neg c]
    by_cases c2 : i / 64 < k
    · rw [if_pos c2, rc_z (w := w) (k := k) (i / 64) (by omega) c2, gb_0]
    · rw [if_neg c2]
theorem rb_or {w : Nat → Int64} {n wu i : Nat} (hi : i < 2147483648) (hB : BW n wu w) (hk : i / 64 < n) (j : Nat) : rb (orW w i) (exU wu (i / 64)) j = if j = i then true else rb w wu j := by
  obtain ⟨-, h2, h3⟩ := hB
  have ex : wu ≤ exU wu (i / 64) ∧ i / 64 < exU wu (i / 64) ∧ (exU wu (i / 64) = wu ∨ exU wu (i / 64) = i / 64 + 1) := by
    unfold exU
    split <;> omega
  unfold rb
  by_cases e : j / 64 = i / 64
  · rw [if_pos (by omega)]
    show gb (if j / 64 = i / 64 then _ else _) _ = _
    rw [if_pos e, gb_or hi (by omega)]
    by_cases e2 : j = i
    · rw [if_pos e2, e2]
      simp
    · rw [if_neg e2, decide_eq_false (show ¬ i % 64 = j % 64 by omega), Bool.or_false]
      by_cases c : j / 64 < wu
      · rw [if_pos c, e]
      · rw [if_neg c, h3 (i / 64) (by omega) hk, gb_0]
  · have hji : j ≠ i := fun z => e (by rw [z])
    rw [if_neg hji]
    have hw : orW w i (j / 64) = w (j / 64) := if_neg e
    rw [hw]
    by_cases c : j / 64 < wu
    · rw [if_pos c, if_pos (by omega)]
    · rw [if_neg c]
      by_cases c2 : j / 64 < exU wu (i / 64)
      · rw [if_pos c2, h3 (j / 64) (by omega) (by omega), gb_0]
      · rw [if_neg c2]
theorem BW_or {w : Nat → Int64} {n wu i : Nat} (hB : BW n wu w) (hk : i / 64 < n) : BW n (exU wu (i / 64)) (orW w i) := by
  obtain ⟨h1, h2, h3⟩ := hB
  have ex : wu ≤ exU wu (i / 64) ∧ i / 64 < exU wu (i / 64) ∧ (exU wu (i / 64) = wu ∨ exU wu (i / 64) = i / 64 + 1) := by
    unfold exU
    split <;> omega
  refine ⟨h1, by omega, fun j a b => ?_⟩
  have hw : orW w i j = w j := if_neg (by omega)
  rw [hw]
  exact h3 j (by omega) b
theorem cp_at {w : Nat → Int64} {n j : Nat} : cpW w n j = if j < n then w j else 0 := by
  unfold cpW va_cpy
  by_cases c : j < n
  · simp [c]
  · simp [c]
theorem BW_cp {w : Nat → Int64} {n wu m : Nat} (hB : BW n wu w) (hm : n ≤ m) : BW m wu (cpW w n) := by
  obtain ⟨h1, h2, h3⟩ := hB
  refine ⟨by omega, by omega, fun j a b => ?_⟩
  rw [cp_at]
  split
  · exact h3 j a (by assumption)
  · rfl
theorem rb_cp {w : Nat → Int64} {n wu : Nat} (h : wu ≤ n) (j : Nat) : rb (cpW w n) wu j = rb w wu j := by
  unfold rb
  by_cases c : j / 64 < wu
  · rw [if_pos c, if_pos c, cp_at, if_pos (by omega)]
  · rw [if_neg c, if_neg c]
theorem rb_cl {w : Nat → Int64} {n wu i : Nat} (hi : i < 2147483648) (hB : BW n wu w) (j : Nat) : rb (clW w wu i) (clU w wu i) j = if j = i then false else rb w wu j := by
  unfold clW clU
  by_cases c : i / 64 < wu
  · rw [if_pos c, if_pos c, rb_rc]
    unfold rb
    by_cases e : j / 64 = i / 64
    · rw [if_pos (by omega)]
      show gb (if j / 64 = i / 64 then _ else _) _ = _
      rw [if_pos e, gb_an hi (by omega)]
      by_cases e2 : j = i
      · rw [if_pos e2, e2]
        simp
      · rw [if_neg e2, decide_eq_false (show ¬ i % 64 = j % 64 by omega), if_pos (by omega), e]
        simp
    · have hji : j ≠ i := fun z => e (by rw [z])
      have hw : anW w i (j / 64) = w (j / 64) := if_neg e
      rw [if_neg hji, hw]
  · rw [if_neg c, if_neg c]
    by_cases e : j = i
    · rw [if_pos e, e]
      unfold rb
      rw [if_neg c]
    · rw [if_neg e]
theorem BW_cl {w : Nat → Int64} {n wu i : Nat} (hB : BW n wu w) : BW n (clU w wu i) (clW w wu i) := by
  obtain ⟨h1, h2, h3⟩ := hB
  unfold clW clU
  by_cases c : i / 64 < wu
  · rw [if_pos c, if_pos c]
    have hl := rcU_le (anW w i) wu
    refine ⟨h1, by omega, fun j a b => ?_⟩
    by_cases e : j < wu
    · exact rc_z j a e
    · have hw : anW w i j = w j := if_neg (by omega)
      rw [hw]
      exact h3 j (by omega) b
  · rw [if_neg c, if_neg c]
    exact ⟨h1, h2, h3⟩
theorem BW_0 {w : Nat → Int64} {n wu : Nat} (hB : BW n wu w) : BW n 0 (clJ w wu 0) := by
  obtain ⟨h1, h2, h3⟩ := hB
  refine ⟨h1, Nat.zero_le _, fun j a b => ?_⟩
  unfold clJ
  by_cases c : j < wu
  · rw [if_pos ⟨a, c⟩]
  · rw [if_neg (fun z => c z.2)]
    exact h3 j (by omega) b
