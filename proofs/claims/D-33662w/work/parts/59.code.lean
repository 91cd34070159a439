/-! ===== the code: written ===== -/
theorem bb_lg : ∀ v, v < 1024 → (1 ≤ v → bbN (nI v) = lgN v) := by decide +kernel
/-- the sizes of parts -/
def mgOK (pa : Nat → Int32) (mg : Nat → Nat) : Prop := ∀ x, x < 64 → sizI (pa x) = nI (mg x) ∧ mg x ≤ 510 ∧ (pa x ≠ 0 → 1 ≤ mg x)
/-- what is written so far is the code's beginning, and the rest is the code from p on -/
def wrI (pa : Nat → Int32) (L ln p : Nat) (w : Nat → Int64) (wu : Nat) : Prop := ln + lenC pa L p = lenC pa L 0 ∧ (∀ i, i < ln → bI (rb w wu i) = bitS pa L i 0) ∧ (∀ q, bitS pa L (ln + q) 0 = bitS pa L q p)
theorem wrI_0 {pa : Nat → Int32} {L : Nat} {w : Nat → Int64} {wu : Nat} : wrI pa L 0 0 w wu := ⟨Nat.zero_add _, fun i h => absurd h (Nat.not_lt_zero _), fun q => by rw [Nat.zero_add]⟩
/-- a token more -/
theorem wrI_s {pa : Nat → Int32} {L ln p : Nat} {w w' : Nat → Int64} {wu wu' : Nat} (hp : p < 64) (h : wrI pa L ln p w wu) (hk : ∀ i, i < ln → rb w' wu' i = rb w wu i) (ht : ∀ q, q < tokL pa L p → bI (rb w' wu' (ln + q)) = tokB pa L p q) : wrI pa L (ln + tokL pa L p) (p + tokS pa L p) w' wu' := by
  obtain ⟨h1, h2, h3⟩ := h
  have hs : ∀ q, bitS pa L (tokL pa L p + q) p = bitS pa L q (p + tokS pa L p) := by
    intro q
    rw [bitS_lt hp, if_neg (by omega), Nat.add_sub_cancel_left]
  refine ⟨by rw [← h1, lenC_lt hp]; omega, fun i hi => ?_, fun q => ?_⟩
  · by_cases c : i < ln
    · rw [hk i c]; exact h2 i c
    · have e : i = ln + (i - ln) := by omega
      rw [e, ht (i - ln) (by omega), h3, bitS_lt hp, if_pos (by omega)]
  · rw [Nat.add_assoc, h3, hs]
theorem bitV_n {v q : Nat} (hv1 : 1 ≤ v) (hv : v < 1024) (hq : q ≤ 2 * lgN v) : bI (numB (lgN v) v q) = bitV (nI v) q := by
  have hl := (lg_tab v hv hv1).2
  unfold bitV numB
  rw [bb_lg v hv hv1]
  by_cases c : q < lgN v
  · rw [if_pos c, if_pos c]; rfl
  · rw [if_neg c, if_neg c]
    have e : nI v >>> (nI (2 * lgN v - q) &&& 31) = nI (v / 2 ^ (2 * lgN v - q)) := pk_shrN (show v < 2147483648 by omega) (nI (2 * lgN v - q) &&& 31) _ (N_smod _ (by omega))
    rw [e, and1_n]
    by_cases d : v / 2 ^ (2 * lgN v - q) % 2 = 1
    · rw [decide_eq_true d, d]; rfl
    · rw [decide_eq_false d, show v / 2 ^ (2 * lgN v - q) % 2 = 0 by omega]; rfl
theorem zrN_lt {pa : Nat → Int32} {L p : Nat} (hp : p ≤ 64) : zrN pa L p ≤ 64 := by
  have := zrN_le pa L p hp
  omega
theorem tok_run {pa : Nat → Int32} {L ln p n wu n1 wu1 n2 wu2 : Nat} {w w1 w2 : Nat → Int64} (hp : p < 64) (hz : 0 < zrN pa L p) (hB : BF n wu w ln false n1 wu1 w1) (hS : SF n1 wu1 w1 (ln + 1) (numB (lgN (zrN pa L p)) (zrN pa L p)) (2 * lgN (zrN pa L p) + 1) n2 wu2 w2) (h : wrI pa L ln p w wu) : wrI pa L (ln + 1 + (2 * lgN (zrN pa L p) + 1)) (p + zrN pa L p) w2 wu2 := by
  have hzl := zrN_lt (pa := pa) (L := L) (Nat.le_of_lt hp)
  have eV : tokV pa L p = nI (zrN pa L p) := if_pos hz
  have eH : tokH pa L p = 1 := if_pos hz
  have eS : tokS pa L p = zrN pa L p := if_pos hz
  have eL : tokL pa L p = 1 + (2 * lgN (zrN pa L p) + 1) := by
    unfold tokL
    rw [eH, eV, bb_lg _ (by omega) hz]
    omega
  have key := wrI_s (w' := w2) (wu' := wu2) hp h (fun i hi => by rw [hS.2.2 i, if_neg (by omega), hB.2.2 i, if_neg (by omega)]) (fun q hq => by
    rw [eL] at hq
    unfold tokB
    rw [eH, eV, hS.2.2 (ln + q)]
    by_cases c : q = 0
    · rw [c, if_neg (by omega), hB.2.2, if_pos (by omega), if_pos (by omega), if_pos rfl]
      rfl
    · rw [if_pos (by omega), if_neg (by omega), show ln + q - (ln + 1) = q - 1 by omega]
      exact bitV_n hz (by omega) (by omega))
  rw [eL, eS] at key
  rw [Nat.add_assoc]
  exact key
theorem tok_val {pa : Nat → Int32} {mg : Nat → Nat} {L ln p n wu n1 wu1 n2 wu2 n3 wu3 : Nat} {w w1 w2 w3 : Nat → Int64} {s : Bool} (hL1 : 1 ≤ L) (hL : L ≤ 3) (hm : mgOK pa mg) (hp : p < 64) (hz : zrN pa L p = 0) (hs : bI s = if 0 ≤ pa (orT L p) then nI 0 else nI 1) (hB : BF n wu w ln true n1 wu1 w1) (hB2 : BF n1 wu1 w1 (ln + 1) s n2 wu2 w2) (hv1 : 1 ≤ mg (orT L p)) (hS : SF n2 wu2 w2 (ln + 1 + 1) (numB (lgN (mg (orT L p))) (mg (orT L p))) (2 * lgN (mg (orT L p)) + 1) n3 wu3 w3) (h : wrI pa L ln p w wu) : wrI pa L (ln + 1 + 1 + (2 * lgN (mg (orT L p)) + 1)) (p + 1) w3 wu3 := by
  have hx := orT_lt hL1 hL hp
  obtain ⟨m1, m2, -⟩ := hm _ hx
  have eV : tokV pa L p = nI (mg (orT L p)) := (if_neg (by omega)).trans m1
  have eH : tokH pa L p = 2 := if_neg (by omega)
  have eS : tokS pa L p = 1 := if_neg (by omega)
  have eL : tokL pa L p = 2 + (2 * lgN (mg (orT L p)) + 1) := by
    unfold tokL
    rw [eH, eV, bb_lg _ (by omega) hv1]
    omega
  have key := wrI_s (w' := w3) (wu' := wu3) hp h (fun i hi => by rw [hS.2.2 i, if_neg (by omega), hB2.2.2 i, if_neg (by omega), hB.2.2 i, if_neg (by omega)]) (fun q hq => by
    rw [eL] at hq
    unfold tokB
    rw [eH, eV, hS.2.2 (ln + q)]
    by_cases c : q = 0
    · rw [c, if_neg (by omega), hB2.2.2, if_neg (by omega), hB.2.2, if_pos (by omega), if_pos (by omega), if_pos rfl]
      rfl
    · by_cases c1 : q = 1
      · rw [c1, if_neg (by omega), hB2.2.2, if_pos (by omega), if_pos (by omega), if_neg (by omega)]
        exact hs
      · rw [if_pos (by omega), if_neg (by omega), show ln + q - (ln + 1 + 1) = q - 2 by omega]
        exact bitV_n hv1 (by omega) (by omega))
  rw [eL, eS] at key
  rw [show ln + 1 + 1 + (2 * lgN (mg (orT L p)) + 1) = ln + (2 + (2 * lgN (mg (orT L p)) + 1)) by omega]
  exact key
