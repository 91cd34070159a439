/-! ===== the reference: order, crumbs, costs ===== -/
theorem ite_tf (b : Bool) : (if b = true then true else false) = b := by cases b <;> rfl
theorem ite_ft (b : Bool) : (if b = true then false else true) = !b := by cases b <;> rfl
def isDf (L k : Nat) : Bool := decide (0 < bndM k L)
/-- a crumb: a difference that is not 0, but near it -/
def crmB (L : Nat) (t : Int32) (f : Nat → Int32) (k : Nat) : Bool := if isDf L k = true then (if f k = 0 then false else (if t < sizI (f k) then false else true)) else false
def drpA (L : Nat) (t : Int32) (f : Nat → Int32) : Nat → Int32 := fun k => if crmB L t f k = true then nI 0 else f k
def crmN (L : Nat) (t : Int32) (f : Nat → Int32) : Nat → Int32 := fun k => bI (crmB L t f k)
def clmF (f : Nat → Int32) : Nat → Int32 := fun k => clampI (f k)
def cosF (b s : Nat → Int32) : Nat → Int32 := fun k => sizI (b k - s k)
def bkD (L : Nat) (t : Int32) (s : Nat → Int32) : Nat → Int32 := clmF (joinP L (drpA L t (splitP s L)))
def costI (L : Nat) (t : Int32) (s : Nat → Int32) : Int32 := l_sum (cosF (bkD L t s) s) 64
/-- the farthest of the first k -/
def wrsI (f : Nat → Int32) : Nat → Int32
  | 0 => nI 0
  | k + 1 => if f k ≤ wrsI f k then wrsI f k else f k
/-- the last threshold of the first n whose cost is in the bound -/
def bstN (L : Nat) (b : Int32) (s : Nat → Int32) : Nat → Nat
  | 0 => 0
  | n + 1 => if b < costI L (nI n) s then bstN L b s n else n
theorem bstN_le (L : Nat) (b : Int32) (s : Nat → Int32) (n : Nat) : bstN L b s n ≤ n := by
  induction n with
  | zero => exact Nat.le_refl _
  | succ n ih =>
    show (if _ then _ else _) ≤ _
    split <;> omega
def plnA (L pl : Nat) (f : Nat → Int32) : Nat → Int32 := fun k => if isDf L k = true then f k / nI (1 * 2 ^ pl) * nI (1 * 2 ^ pl) else f k
def bkP (L pl : Nat) (s : Nat → Int32) : Nat → Int32 := clmF (joinP L (plnA L pl (splitP s L)))
def shfH (k : Nat) (f : Nat → Int32) : Nat → Int32 := fun j => if j < k then f (j + 68) else f j
theorem shfH_0 {f : Nat → Int32} : shfH 0 f = f := by
  funext j
  simp [shfH]
theorem shfH_1 {k : Nat} {f : Nat → Int32} : upd (shfH k f) k (shfH k f (k + 68)) = shfH (k + 1) f := by
  funext j
  have h2 : ¬ (k + 68 < k) := by omega
  by_cases h : j = k
  · subst h
    have h3 : j < j + 1 := by omega
    simp only [upd, shfH, if_true, h2, h3, if_false]
  · have : (j < k + 1) ↔ j < k := by omega
    simp only [upd, shfH, h, this, if_false]
/-- 68 places from o on -/
def layH (o k : Nat) (s f : Nat → Int32) : Nat → Int32 := fun j => if o ≤ j ∧ j < o + k then s (j - o) else f j
theorem layH_0 {o : Nat} {s f : Nat → Int32} : layH o 0 s f = f := by
  funext j
  have : ¬ (o ≤ j ∧ j < o + 0) := by omega
  simp only [layH, this, if_false]
theorem layH_1 {o k : Nat} {s f : Nat → Int32} : upd (layH o k s f) (o + k) (s k) = layH o (k + 1) s f := by
  funext j
  by_cases h : j = o + k
  · subst h
    have : o ≤ o + k ∧ o + k < o + (k + 1) := by omega
    simp only [upd, layH, this, and_self, if_true, Nat.add_sub_cancel_left]
  · have : (o ≤ j ∧ j < o + (k + 1)) ↔ (o ≤ j ∧ j < o + k) := by omega
    simp only [upd, layH, this, h, if_false]
def recH (s f : Nat → Int32) (n : Nat) : Nat → Int32 := if n = 6 then layH (5 * 68) 68 s (shfH 340 f) else layH (n * 68) 68 s f
def recN (n : Nat) : Nat := if n = 6 then 6 else n + 1
def rm_X9_band : Room := ({ frames := 1, cells := 0, slots := 0, locals := 23 } : Room)
set_option maxHeartbeats 400000 in
set_option maxRecDepth 100000 in
theorem t_X9_band (l : Launch) (G : GG) (b0 sz : Nat) (x L : Nat) (hxx : x < 64) (hL1 : 1 ≤ L) (hL : L ≤ 3) : CT l yX9_band cX9_band 5 (some FieldType.int) (rm_X9_band) G b0 [.int (nI x), .int (nI L)] [] sz (Ri G (fun (r_ : Int32) (_ : Unit) => r_ = nI (bndM x L)) (fun (_ : Unit) => [])) := by
  refine CT.go (by decide) (Nat.le_of_ble_eq_true rfl) (fun p e s m below meth c A ls AR QQ hx hb hr hlk hml hown hnm hts hE hA hAb hsz hP hD hS hl hQQ => ?_)
  have hK := hE.1
  have hown : s.vm.findClass RX9 = some m.cls := hown
  have hl : lv_has ls 5 [(0, .int (nI x)), (1, .int (nI L))] := hl
  clear hsz
  have hdv : 8 / 2 ^ levM x L ≤ 8 := Nat.div_le_self _ _
  have hlm := levM_in (x := x) hL1 hL
  refine lv_iload_n hx hb dX9_band_0 rfl (lv_at hl 0 rfl) ?_
  refine lv_iload_n hx hb dX9_band_1 rfl (lv_at hl 1 rfl) ?_
  refine fin_i (ws' := (fun (_ : Unit) => [])) hA hS hP hD [] rfl [] (fun _ => rfl) (by decide) (run_S (As := [.int (nI x), .int (nI L)]) (rest := []) (n9 := 2) hx hb hml hown hts hE hAb hl.1 hS hP hD [] rfl (by decide) (t_X9_levelOf l G b0 _ x L (by omega) (by omega) (by omega)) (lw_S q1796 q1797 q129 q1798) ⟨by decide, by decide, by decide +kernel⟩ ⟨Nat.le_of_ble_eq_true rfl, Nat.le_of_ble_eq_true rfl⟩ ⟨by first | exact Nat.le_of_ble_eq_true rfl | (simp only [rm_X9_band, rm_X9_levelOf]; omega), by first | exact Nat.le_of_ble_eq_true rfl | (simp only [rm_X9_band, rm_X9_levelOf]; omega)⟩ dX9_band_2 (Nat.le_of_ble_eq_true rfl) rfl rfl) (fun r_1 u_1 H locs h_1 hP hD hS => ?_)
  have hP : va_P G.1 vwCl [] _ := hP
  have hD : va_D A [] := hD
  have h_1 : r_1 = (nI (levM x L)) := h_1
  rw [h_1]
  refine lv_istore_n (lv' := [(2, .int (nI (levM x L))), (0, .int (nI x)), (1, .int (nI L))]) hx hb dX9_band_5 rfl hl (by decide) rfl (fun ls hl => ?_)
  refine lv_bipush (v := nI 8) hx hb dX9_band_6 (by decide) ?_
  refine lv_iload_n hx hb dX9_band_8 rfl (lv_at hl 0 rfl) ?_
  refine N_ishr hx hb dX9_band_9 (by omega) (by omega) ?_
  refine lv_istore_n (lv' := [(3, .int (nI (8 / 2 ^ (levM x L)))), (2, .int (nI (levM x L))), (0, .int (nI x)), (1, .int (nI L))]) hx hb dX9_band_10 rfl hl (by decide) rfl (fun ls hl => ?_)
  refine lv_iload_n hx hb dX9_band_11 rfl (lv_at hl 2 rfl) ?_
  refine lv_bipush (v := nI 8) hx hb dX9_band_12 (by decide) ?_
  refine N_irem hx hb dX9_band_14 (by omega) (by omega) (by omega) ?_
  refine lv_iload_n hx hb dX9_band_15 rfl (lv_at hl 0 rfl) ?_
  have K_16 : ∀ (v_2 : Nat) (_ : v_2 = if (x % 8) < (8 / 2 ^ (levM x L)) then 0 else 1) (H : Heap) (locs : List Loc) (ls : Array Slot), va_P G.1 vwCl [] H → va_D A [] → va_S A s.heap H locs → lv_has ls 5 [(3, .int (nI (8 / 2 ^ (levM x L)))), (2, .int (nI (levM x L))), (0, .int (nI x)), (1, .int (nI L))] → W p l e (rm_X9_band) s m AR below meth c H locs 0 0 QQ (F0 m 24 ls [.int (nI v_2)]) := by
    intro v_2 e_v_2 H locs ls hP hD hS hl
    subst e_v_2
    refine lv_iload_n hx hb dX9_band_24 rfl (lv_at hl 2 rfl) ?_
    refine lv_bipush (v := nI 8) hx hb dX9_band_25 (by decide) ?_
    refine N_idiv hx hb dX9_band_27 (by omega) (by omega) (by omega) ?_
    refine lv_iload_n hx hb dX9_band_28 rfl (lv_at hl 0 rfl) ?_
    have K_29 : ∀ (v_3 : Nat) (_ : v_3 = if (x / 8) < (8 / 2 ^ (levM x L)) then 0 else 2) (H : Heap) (locs : List Loc) (ls : Array Slot), va_P G.1 vwCl [] H → va_D A [] → va_S A s.heap H locs → lv_has ls 5 [(3, .int (nI (8 / 2 ^ (levM x L)))), (2, .int (nI (levM x L))), (0, .int (nI x)), (1, .int (nI L))] → W p l e (rm_X9_band) s m AR below meth c H locs 0 0 QQ (F0 m 37 ls [.int (nI v_3), .int (nI (if (x % 8) < (8 / 2 ^ (levM x L)) then 0 else 1))]) := by
      intro v_3 e_v_3 H locs ls hP hD hS hl
      subst e_v_3
      refine N_iadd hx hb dX9_band_37 ?_
      refine lv_istore (lv' := [(4, .int (nI ((if (x % 8) < (8 / 2 ^ (levM x L)) then 0 else 1) + (if (x / 8) < (8 / 2 ^ (levM x L)) then 0 else 2)))), (3, .int (nI (8 / 2 ^ (levM x L)))), (2, .int (nI (levM x L))), (0, .int (nI x)), (1, .int (nI L))]) hx hb dX9_band_38 hl (by decide) rfl (fun ls hl => ?_)
      refine lv_iload hx hb dX9_band_40 (lv_at hl 0 rfl) ?_
      refine N_if_ne (tgt := 49) hx hb dX9_band_42 (by decide) (by split <;> split <;> omega) (fun c_42 => ?_) (fun c_42 => ?_)
      · skip
        refine lv_iconst (v := nI 3) hx hb dX9_band_49 (by decide) ?_
        refine lv_iload_n hx hb dX9_band_50 rfl (lv_at hl 2 rfl) ?_
        refine lv_iconst (v := nI 1) hx hb dX9_band_51 (by decide) ?_
        refine N_isub hx hb dX9_band_52 (by omega) ?_
        refine N_imul hx hb dX9_band_53 ?_
        refine lv_iload hx hb dX9_band_54 (lv_at hl 0 rfl) ?_
        refine N_iadd hx hb dX9_band_56 ?_
        rw [hQQ]
        exact rt_i hx hb hr hlk  (()) dX9_band_57 hP hD hS (by first | exact Nat.le_of_ble_eq_true rfl | (simp only [rm_X9_band]; omega)) (by first | exact Nat.le_of_ble_eq_true rfl | (simp only [rm_X9_band]; omega)) (by congr 1; unfold bndM offM; first | rw [if_pos c_42] | rw [if_neg (Nat.ne_of_gt c_42)])
      · skip
        refine lv_iconst (v := nI 0) hx hb dX9_band_45 (by decide) ?_
        refine lv_goto (tgt := 57) hx hb dX9_band_46 (by decide) ?_
        rw [hQQ]
        exact rt_i hx hb hr hlk  (()) dX9_band_57 hP hD hS (by first | exact Nat.le_of_ble_eq_true rfl | (simp only [rm_X9_band]; omega)) (by first | exact Nat.le_of_ble_eq_true rfl | (simp only [rm_X9_band]; omega)) (by congr 1; unfold bndM offM; first | rw [if_pos c_42] | rw [if_neg (Nat.ne_of_gt c_42)])
    refine N_icmp_lt (tgt := 36) hx hb dX9_band_29 (by decide) (by omega) (by omega) (fun c_29 => ?_) (fun c_29 => ?_)
    · skip
      refine lv_iconst (v := nI 0) hx hb dX9_band_36 (by decide) ?_
      exact K_29 0 (by first | rfl | (try rw [if_pos c_29]) | simp_all) _ _ _ hP hD hS (lv_sub hl [0, 1, 2, 3] rfl)
    · skip
      refine lv_iconst (v := nI 2) hx hb dX9_band_32 (by decide) ?_
      refine lv_goto (tgt := 37) hx hb dX9_band_33 (by decide) ?_
      exact K_29 2 (by first | rfl | (try rw [if_neg (Nat.not_lt.mpr c_29)]) | simp_all) _ _ _ hP hD hS (lv_sub hl [0, 1, 2, 3] rfl)
  refine N_icmp_lt (tgt := 23) hx hb dX9_band_16 (by decide) (by omega) (by omega) (fun c_16 => ?_) (fun c_16 => ?_)
  · skip
    refine lv_iconst (v := nI 0) hx hb dX9_band_23 (by decide) ?_
    exact K_16 0 (by first | rfl | (try rw [if_pos c_16]) | simp_all) _ _ _ hP hD hS (lv_sub hl [0, 1, 2, 3] rfl)
  · skip
    refine lv_iconst (v := nI 1) hx hb dX9_band_19 (by decide) ?_
    refine lv_goto (tgt := 24) hx hb dX9_band_20 (by decide) ?_
    exact K_16 1 (by first | rfl | (try rw [if_neg (Nat.not_lt.mpr c_16)]) | simp_all) _ _ _ hP hD hS (lv_sub hl [0, 1, 2, 3] rfl)
def rm_X9_rankBy : Room := ({ frames := 2, cells := 0, slots := 0, locals := 47 } : Room)
set_option maxHeartbeats 400000 in
set_option maxRecDepth 100000 in
theorem t_X9_rankBy (l : Launch) (G : GG) (b0 sz : Nat) (x L : Nat) (hxx : x < 64) (hL1 : 1 ≤ L) (hL : L ≤ 3) : CT l yX9_rankBy cX9_rankBy 4 (some FieldType.int) (rm_X9_rankBy) G b0 [.int (nI x), .int (nI L)] [] sz (Ri G (fun (r_ : Int32) (_ : Unit) => r_ = nI (rnkM L x)) (fun (_ : Unit) => [])) := by
  refine CT.go (by decide) (Nat.le_of_ble_eq_true rfl) (fun p e s m below meth c A ls AR QQ hx hb hr hlk hml hown hnm hts hE hA hAb hsz hP hD hS hl hQQ => ?_)
  have hK := hE.1
  have hown : s.vm.findClass RX9 = some m.cls := hown
  have hl : lv_has ls 4 [(0, .int (nI x)), (1, .int (nI L))] := hl
  clear hsz
  have hdv : 8 / 2 ^ levM x L ≤ 8 := Nat.div_le_self _ _
  have hlm := levM_in (x := x) hL1 hL
  have hbm := bndM_le (x := x) hL1 hL
  refine lv_iload_n hx hb dX9_rankBy_0 rfl (lv_at hl 0 rfl) ?_
  refine lv_iload_n hx hb dX9_rankBy_1 rfl (lv_at hl 1 rfl) ?_
  refine fin_i (ws' := (fun (_ : Unit) => [])) hA hS hP hD [] rfl [] (fun _ => rfl) (by decide) (run_S (As := [.int (nI x), .int (nI L)]) (rest := []) (n9 := 2) hx hb hml hown hts hE hAb hl.1 hS hP hD [] rfl (by decide) (t_X9_band l G b0 _ x L (by omega) (by omega) (by omega)) (lw_S q1793 q1794 q129 q1795) ⟨by decide, by decide, by decide +kernel⟩ ⟨Nat.le_of_ble_eq_true rfl, Nat.le_of_ble_eq_true rfl⟩ ⟨by first | exact Nat.le_of_ble_eq_true rfl | (simp only [rm_X9_rankBy, rm_X9_band]; omega), by first | exact Nat.le_of_ble_eq_true rfl | (simp only [rm_X9_rankBy, rm_X9_band]; omega)⟩ dX9_rankBy_2 (Nat.le_of_ble_eq_true rfl) rfl rfl) (fun r_1 u_1 H locs h_1 hP hD hS => ?_)
  have hP : va_P G.1 vwCl [] _ := hP
  have hD : va_D A [] := hD
  have h_1 : r_1 = (nI (bndM x L)) := h_1
  rw [h_1]
  refine lv_istore_n (lv' := [(2, .int (nI (bndM x L))), (0, .int (nI x)), (1, .int (nI L))]) hx hb dX9_rankBy_5 rfl hl (by decide) rfl (fun ls hl => ?_)
  refine lv_iload_n hx hb dX9_rankBy_6 rfl (lv_at hl 0 rfl) ?_
  have K_7 : ∀ (v_2 : Nat) (_ : v_2 = if (bndM x L) = 0 then 0 else ((1 + (3 * (L - (levM x L)))) + (((bndM x L) - 1) % 3))) (H : Heap) (locs : List Loc) (ls : Array Slot), va_P G.1 vwCl [] H → va_D A [] → va_S A s.heap H locs → lv_has ls 4 [(2, .int (nI (bndM x L))), (0, .int (nI x)), (1, .int (nI L))] → W p l e (rm_X9_rankBy) s m AR below meth c H locs 0 0 QQ (F0 m 31 ls [.int (nI v_2)]) := by
    intro v_2 e_v_2 H locs ls hP hD hS hl
    subst e_v_2
    refine lv_istore_n (lv' := [(3, .int (nI (if (bndM x L) = 0 then 0 else ((1 + (3 * (L - (levM x L)))) + (((bndM x L) - 1) % 3))))), (2, .int (nI (bndM x L))), (0, .int (nI x)), (1, .int (nI L))]) hx hb dX9_rankBy_31 rfl hl (by decide) rfl (fun ls hl => ?_)
    refine lv_bipush (v := nI 64) hx hb dX9_rankBy_32 (by decide) ?_
    refine lv_iload_n hx hb dX9_rankBy_34 rfl (lv_at hl 0 rfl) ?_
    refine N_imul hx hb dX9_rankBy_35 ?_
    refine lv_iload_n hx hb dX9_rankBy_36 rfl (lv_at hl 2 rfl) ?_
    refine N_iadd hx hb dX9_rankBy_37 ?_
    rw [hQQ]
    exact rt_i hx hb hr hlk  (()) dX9_rankBy_38 hP hD hS (by first | exact Nat.le_of_ble_eq_true rfl | (simp only [rm_X9_rankBy]; omega)) (by first | exact Nat.le_of_ble_eq_true rfl | (simp only [rm_X9_rankBy]; omega)) (by rfl)
  refine N_if_ne (tgt := 14) hx hb dX9_rankBy_7 (by decide) (by omega) (fun c_7 => ?_) (fun c_7 => ?_)
  · skip
    refine lv_iconst (v := nI 1) hx hb dX9_rankBy_14 (by decide) ?_
    refine lv_iconst (v := nI 3) hx hb dX9_rankBy_15 (by decide) ?_
    refine lv_iload_n hx hb dX9_rankBy_16 rfl (lv_at hl 2 rfl) ?_
    refine lv_iload_n hx hb dX9_rankBy_17 rfl (lv_at hl 1 rfl) ?_
    refine lv_iload_n hx hb dX9_rankBy_18 rfl (lv_at hl 2 rfl) ?_
    refine fin_i (ws' := (fun (_ : Unit) => [])) hA hS hP hD [] rfl [] (fun _ => rfl) (by decide) (run_S (As := [.int (nI x), .int (nI L)]) (rest := [.int (nI L), .int (nI 3), .int (nI 1)]) (n9 := 2) hx hb hml hown hts hE hAb hl.1 hS hP hD [] rfl (by decide) (t_X9_levelOf l G b0 _ x L (by omega) (by omega) (by omega)) (lw_S q1796 q1797 q129 q1798) ⟨by decide, by decide, by decide +kernel⟩ ⟨Nat.le_of_ble_eq_true rfl, Nat.le_of_ble_eq_true rfl⟩ ⟨by first | exact Nat.le_of_ble_eq_true rfl | (simp only [rm_X9_rankBy, rm_X9_levelOf]; omega), by first | exact Nat.le_of_ble_eq_true rfl | (simp only [rm_X9_rankBy, rm_X9_levelOf]; omega)⟩ dX9_rankBy_19 (Nat.le_of_ble_eq_true rfl) rfl rfl) (fun r_3 u_3 H locs h_3 hP hD hS => ?_)
    have hP : va_P G.1 vwCl [] _ := hP
    have hD : va_D A [] := hD
    have h_3 : r_3 = (nI (levM x L)) := h_3
    rw [h_3]
    refine N_isub hx hb dX9_rankBy_22 (by omega) ?_
    refine N_imul hx hb dX9_rankBy_23 ?_
    refine N_iadd hx hb dX9_rankBy_24 ?_
    refine lv_iload_n hx hb dX9_rankBy_25 rfl (lv_at hl 0 rfl) ?_
    refine lv_iconst (v := nI 1) hx hb dX9_rankBy_26 (by decide) ?_
    refine N_isub hx hb dX9_rankBy_27 (by omega) ?_
    refine lv_iconst (v := nI 3) hx hb dX9_rankBy_28 (by decide) ?_
    refine N_irem hx hb dX9_rankBy_29 (by omega) (by omega) (by omega) ?_
    refine N_iadd hx hb dX9_rankBy_30 ?_
    exact K_7 ((1 + (3 * (L - (levM x L)))) + (((bndM x L) - 1) % 3)) (by first | rfl | (try rw [if_neg (Nat.pos_iff_ne_zero.mp c_7)]) | simp_all) _ _ _ hP hD hS (lv_sub hl [0, 1, 2] rfl)
  · skip
    refine lv_iconst (v := nI 0) hx hb dX9_rankBy_10 (by decide) ?_
    refine lv_goto (tgt := 31) hx hb dX9_rankBy_11 (by decide) ?_
    exact K_7 0 (by first | rfl | (try rw [if_pos c_7]) | simp_all) _ _ _ hP hD hS (lv_sub hl [0, 1, 2] rfl)
def rm_X9_place : Room := ({ frames := 3, cells := 0, slots := 0, locals := 70 } : Room)
set_option maxHeartbeats 400000 in
set_option maxRecDepth 100000 in
theorem t_X9_place (l : Launch) (G : GG) (b0 sz : Nat) (x L : Nat) (hxx : x < 64) (hL1 : 1 ≤ L) (hL : L ≤ 3) : CT l yX9_place cX9_place 4 (some FieldType.int) (rm_X9_place) G b0 [.int (nI x), .int (nI L)] [] sz (Ri G (fun (r_ : Int32) (_ : Unit) => r_ = nI (plT L x)) (fun (_ : Unit) => [])) := by
  refine CT.go (by decide) (Nat.le_of_ble_eq_true rfl) (fun p e s m below meth c A ls AR QQ hx hb hr hlk hml hown hnm hts hE hA hAb hsz hP hD hS hl hQQ => ?_)
  have hK := hE.1
  have hown : s.vm.findClass RX9 = some m.cls := hown
  have hl : lv_has ls 4 [(0, .int (nI x)), (1, .int (nI L))] := hl
  clear hsz
  have hrx := rnkM_le (L := L) hxx hL
  refine lv_iconst (v := nI 0) hx hb dX9_place_0 (by decide) ?_
  refine lv_istore_n (lv' := [(2, .int (nI 0)), (0, .int (nI x)), (1, .int (nI L))]) hx hb dX9_place_1 rfl hl (by decide) rfl (fun ls hl => ?_)
  refine lv_iconst (v := nI 0) hx hb dX9_place_2 (by decide) ?_
  refine lv_istore_n (lv' := [(3, .int (nI 0)), (2, .int (nI 0)), (0, .int (nI x)), (1, .int (nI L))]) hx hb dX9_place_3 rfl hl (by decide) rfl (fun ls hl => ?_)
  have lp_4 : ∀ (n_4 : Nat) (k : Nat), (k ≤ 64) → (64 - k) < n_4 → ∀ (H : Heap) (locs : List Loc) (ls : Array Slot), va_P G.1 vwCl [] H → va_D A [] → va_S A s.heap H locs → lv_has ls 4 [(0, .int (nI x)), (1, .int (nI L)), (2, .int (nI (plcK L x k))), (3, .int (nI k))] → W p l e (rm_X9_place) s m AR below meth c H locs 0 0 QQ (F0 m 4 ls []) := by
    intro n_4
    induction n_4 with
    | zero => intro k hk hn_; exact absurd hn_ (Nat.not_lt_zero _)
    | succ n_4 ih_4 =>
      intro k hk hn_4 H locs ls hP hD hS hl
      refine lv_iload_n hx hb dX9_place_4 rfl (lv_at hl 3 rfl) ?_
      refine lv_bipush (v := nI 64) hx hb dX9_place_5 (by decide) ?_
      refine N_icmp_ge (tgt := 37) hx hb dX9_place_7 (by decide) (by omega) (by omega) (fun c_7 => ?_) (fun c_7 => ?_)
      · skip
        obtain rfl : k = 64 := by omega
        refine lv_iload_n hx hb dX9_place_37 rfl (lv_at hl 2 rfl) ?_
        rw [hQQ]
        exact rt_i hx hb hr hlk  (()) dX9_place_38 hP hD hS (by first | exact Nat.le_of_ble_eq_true rfl | (simp only [rm_X9_place]; omega)) (by first | exact Nat.le_of_ble_eq_true rfl | (simp only [rm_X9_place]; omega)) (by rw [plc_tab hL1 hL x hxx])
      · skip
        refine lv_iload_n hx hb dX9_place_10 rfl (lv_at hl 2 rfl) ?_
        refine lv_iload_n hx hb dX9_place_11 rfl (lv_at hl 3 rfl) ?_
        refine lv_iload_n hx hb dX9_place_12 rfl (lv_at hl 1 rfl) ?_
        refine fin_i (ws' := (fun (_ : Unit) => [])) hA hS hP hD [] rfl [] (fun _ => rfl) (by decide) (run_S (As := [.int (nI k), .int (nI L)]) (rest := [.int (nI (plcK L x k))]) (n9 := 2) hx hb hml hown hts hE hAb hl.1 hS hP hD [] rfl (by decide) (t_X9_rankBy l G b0 _ k L (by omega) (by omega) (by omega)) (lw_S q1888 q1889 q129 q1890) ⟨by decide, by decide, by decide +kernel⟩ ⟨Nat.le_of_ble_eq_true rfl, Nat.le_of_ble_eq_true rfl⟩ ⟨by first | exact Nat.le_of_ble_eq_true rfl | (simp only [rm_X9_place, rm_X9_rankBy]; omega), by first | exact Nat.le_of_ble_eq_true rfl | (simp only [rm_X9_place, rm_X9_rankBy]; omega)⟩ dX9_place_13 (Nat.le_of_ble_eq_true rfl) rfl rfl) (fun r_1 u_1 H locs h_1 hP hD hS => ?_)
        have hP : va_P G.1 vwCl [] _ := hP
        have hD : va_D A [] := hD
        have h_1 : r_1 = (nI (rnkM L k)) := h_1
        rw [h_1]
        refine lv_iload_n hx hb dX9_place_16 rfl (lv_at hl 0 rfl) ?_
        refine lv_iload_n hx hb dX9_place_17 rfl (lv_at hl 1 rfl) ?_
        refine fin_i (ws' := (fun (_ : Unit) => [])) hA hS hP hD [] rfl [] (fun _ => rfl) (by decide) (run_S (As := [.int (nI x), .int (nI L)]) (rest := [.int (nI (rnkM L k)), .int (nI (plcK L x k))]) (n9 := 2) hx hb hml hown hts hE hAb hl.1 hS hP hD [] rfl (by decide) (t_X9_rankBy l G b0 _ x L (by omega) (by omega) (by omega)) (lw_S q1888 q1889 q129 q1890) ⟨by decide, by decide, by decide +kernel⟩ ⟨Nat.le_of_ble_eq_true rfl, Nat.le_of_ble_eq_true rfl⟩ ⟨by first | exact Nat.le_of_ble_eq_true rfl | (simp only [rm_X9_place, rm_X9_rankBy]; omega), by first | exact Nat.le_of_ble_eq_true rfl | (simp only [rm_X9_place, rm_X9_rankBy]; omega)⟩ dX9_place_18 (Nat.le_of_ble_eq_true rfl) rfl rfl) (fun r_2 u_2 H locs h_2 hP hD hS => ?_)
        have hP : va_P G.1 vwCl [] _ := hP
        have hD : va_D A [] := hD
        have h_2 : r_2 = (nI (rnkM L x)) := h_2
        rw [h_2]
        have hrk := rnkM_le (L := L) (x := k) (by omega) hL
        have K_21 : ∀ (v_3 : Nat) (_ : v_3 = if (rnkM L k) < (rnkM L x) then 1 else 0) (H : Heap) (locs : List Loc) (ls : Array Slot), va_P G.1 vwCl [] H → va_D A [] → va_S A s.heap H locs → lv_has ls 4 [(0, .int (nI x)), (1, .int (nI L)), (2, .int (nI (plcK L x k))), (3, .int (nI k))] → W p l e (rm_X9_place) s m AR below meth c H locs 0 0 QQ (F0 m 29 ls [.int (nI v_3), .int (nI (plcK L x k))]) := by
          intro v_3 e_v_3 H locs ls hP hD hS hl
          subst e_v_3
          refine N_iadd hx hb dX9_place_29 ?_
          refine lv_istore_n (lv' := [(2, .int (nI ((plcK L x k) + (if (rnkM L k) < (rnkM L x) then 1 else 0)))), (0, .int (nI x)), (1, .int (nI L)), (3, .int (nI k))]) hx hb dX9_place_30 rfl hl (by decide) rfl (fun ls hl => ?_)
          refine N_iinc (a := k) (b := 1) (k9 := 3) (lv' := [(3, .int (nI (k + 1))), (2, .int (nI ((plcK L x k) + (if (rnkM L k) < (rnkM L x) then 1 else 0)))), (0, .int (nI x)), (1, .int (nI L))]) hx hb dX9_place_31 hl rfl rfl (by decide) rfl (fun ls hl => ?_)
          refine lv_goto (tgt := 4) hx hb dX9_place_34 (by decide) ?_
          have hl : lv_has ls 4 [(0, .int (nI x)), (1, .int (nI L)), (2, .int (nI ((plcK L x k) + (if (rnkM L k) < (rnkM L x) then 1 else 0)))), (3, .int (nI (k + 1)))] := lv_sub hl [2, 3, 1, 0] rfl
          have e_4 : (nI ((plcK L x k) + (if (rnkM L k) < (rnkM L x) then 1 else 0))) = (nI (plcK L x (k + 1))) := by rw [plcK_1]
          rw [e_4] at hl
          have hl : lv_has ls 4 [(0, .int (nI x)), (1, .int (nI L)), (2, .int (nI (plcK L x (k + 1)))), (3, .int (nI (k + 1)))] := hl
          exact ih_4 (k + 1) (by omega) (by omega) _ _ _ hP hD hS hl
        refine N_icmp_ge (tgt := 28) hx hb dX9_place_21 (by decide) (by omega) (by omega) (fun c_21 => ?_) (fun c_21 => ?_)
        · skip
          refine lv_iconst (v := nI 0) hx hb dX9_place_28 (by decide) ?_
          exact K_21 0 (by first | rfl | (try rw [if_neg (Nat.not_lt.mpr c_21)]) | simp_all) _ _ _ hP hD hS (lv_sub hl [0, 1, 2, 3] rfl)
        · skip
          refine lv_iconst (v := nI 1) hx hb dX9_place_24 (by decide) ?_
          refine lv_goto (tgt := 29) hx hb dX9_place_25 (by decide) ?_
          exact K_21 1 (by first | rfl | (try rw [if_pos c_21]) | simp_all) _ _ _ hP hD hS (lv_sub hl [0, 1, 2, 3] rfl)
  have hl : lv_has ls 4 [(0, .int (nI x)), (1, .int (nI L)), (2, .int (nI 0)), (3, .int (nI 0))] := lv_sub hl [2, 3, 1, 0] rfl
  have e_5 : (nI 0) = (nI (plcK L x 0)) := by rfl
  rw [e_5] at hl
  have hl : lv_has ls 4 [(0, .int (nI x)), (1, .int (nI L)), (2, .int (nI (plcK L x 0))), (3, .int (nI 0))] := hl
  exact lp_4 _ 0 (by omega) (Nat.lt_succ_self _) _ _ _ hP hD hS hl
def rm_X9_layOrder : Room := ({ frames := 3, cells := 0, slots := 0, locals := 70 } : Room)
set_option maxHeartbeats 400000 in
set_option maxRecDepth 100000 in
theorem t_X9_layOrder (l : Launch) (G : GG) (b0 sz : Nat) (h : Nat) (ad : Nat → Nat) (thr sts : Nat) (hs : Bool) (len at_ num many : Nat) (od ot : Nat → Int32) (L : Nat) (hL1 : 1 ≤ L) (hL : L ≤ 3) : CT l yX9_layOrder cX9_layOrder 5 none (rm_X9_layOrder) G b0 [.ref h, .int (nI L)] [oM h ad thr sts hs len at_ num many, aI G (ad 8) 64 od, aI G (ad 9) 64 ot] sz (Rv G (fun (_ : Unit) => True) (fun (_ : Unit) => [oM h ad thr sts hs len at_ num many, aI G (ad 8) 64 (nF (orT L)), aI G (ad 9) 64 (nF (rnkM L))])) := by
  refine CT.go (by decide) (Nat.le_of_ble_eq_true rfl) (fun p e s m below meth c A ls AR QQ hx hb hr hlk hml hown hnm hts hE hA hAb hsz hP hD hS hl hQQ => ?_)
  have hK := hE.1
  have hown : s.vm.findClass RX9 = some m.cls := hown
  have hl : lv_has ls 5 [(0, .ref h), (1, .int (nI L))] := hl
  clear hsz
  refine lv_iconst (v := nI 0) hx hb dX9_layOrder_0 (by decide) ?_
  refine lv_istore_n (lv' := [(2, .int (nI 0)), (0, .ref h), (1, .int (nI L))]) hx hb dX9_layOrder_1 rfl hl (by decide) rfl (fun ls hl => ?_)
  have lp_2 : ∀ (n_2 : Nat) (k : Nat), (k ≤ 64) → (64 - k) < n_2 → ∀ (H : Heap) (locs : List Loc) (ls : Array Slot), va_P G.1 vwCl [oM h ad thr sts hs len at_ num many, aI G (ad 8) 64 od, aI G (ad 9) 64 (fillTo k (nF (rnkM L)) ot)] H → va_D A [oM h ad thr sts hs len at_ num many, aI G (ad 8) 64 od, aI G (ad 9) 64 (fillTo k (nF (rnkM L)) ot)] → va_S A s.heap H locs → lv_has ls 5 [(0, .ref h), (1, .int (nI L)), (2, .int (nI k))] → W p l e (rm_X9_layOrder) s m AR below meth c H locs 0 0 QQ (F0 m 2 ls []) := by
    intro n_2
    induction n_2 with
    | zero => intro k hk hn_; exact absurd hn_ (Nat.not_lt_zero _)
    | succ n_2 ih_2 =>
      intro k hk hn_2 H locs ls hP hD hS hl
      refine lv_iload_n hx hb dX9_layOrder_2 rfl (lv_at hl 2 rfl) ?_
      refine lv_bipush (v := nI 64) hx hb dX9_layOrder_3 (by decide) ?_
      refine N_icmp_ge (tgt := 25) hx hb dX9_layOrder_5 (by decide) (by omega) (by omega) (fun c_5 => ?_) (fun c_5 => ?_)
      · skip
        obtain rfl : k = 64 := by omega
        have e_1 : ∀ j, j < 64 → (fillTo 64 (nF (rnkM L)) ot) j = (nF (rnkM L)) j := by exact fill_pt
        have hP : va_P G.1 vwCl [oM h ad thr sts hs len at_ num many, aI G (ad 8) 64 od, aI G (ad 9) 64 (nF (rnkM L))] _ := cong_P (q0 := 2) e_1 rfl rfl hP
        have hD : va_D A [oM h ad thr sts hs len at_ num many, aI G (ad 8) 64 od, aI G (ad 9) 64 (nF (rnkM L))] := cong_D (q0 := 2) rfl rfl hD
        have hP : va_P G.1 vwCl [oM h ad thr sts hs len at_ num many, aI G (ad 8) 64 od, aI G (ad 9) 64 (nF (rnkM L))] _ := hP
        have hD : va_D A [oM h ad thr sts hs len at_ num many, aI G (ad 8) 64 od, aI G (ad 9) 64 (nF (rnkM L))] := hD
        refine lv_iconst (v := nI 0) hx hb dX9_layOrder_25 (by decide) ?_
        refine lv_istore_n (lv' := [(2, .int (nI 0)), (0, .ref h), (1, .int (nI L))]) hx hb dX9_layOrder_26 rfl hl (by decide) rfl (fun ls hl => ?_)
        have lp_27 : ∀ (n_27 : Nat) (k : Nat), (k ≤ 64) → (64 - k) < n_27 → ∀ (H : Heap) (locs : List Loc) (ls : Array Slot), va_P G.1 vwCl [oM h ad thr sts hs len at_ num many, aI G (ad 8) 64 (layI od L k), aI G (ad 9) 64 (nF (rnkM L))] H → va_D A [oM h ad thr sts hs len at_ num many, aI G (ad 8) 64 (layI od L k), aI G (ad 9) 64 (nF (rnkM L))] → va_S A s.heap H locs → lv_has ls 5 [(0, .ref h), (1, .int (nI L)), (2, .int (nI k))] → W p l e (rm_X9_layOrder) s m AR below meth c H locs 0 0 QQ (F0 m 27 ls []) := by
          intro n_27
          induction n_27 with
          | zero => intro k hk hn_; exact absurd hn_ (Nat.not_lt_zero _)
          | succ n_27 ih_27 =>
            intro k hk hn_27 H locs ls hP hD hS hl
            refine lv_iload_n hx hb dX9_layOrder_27 rfl (lv_at hl 2 rfl) ?_
            refine lv_bipush (v := nI 64) hx hb dX9_layOrder_28 (by decide) ?_
            refine N_icmp_ge (tgt := 88) hx hb dX9_layOrder_30 (by decide) (by omega) (by omega) (fun c_30 => ?_) (fun c_30 => ?_)
            · skip
              obtain rfl : k = 64 := by omega
              have e_2 : ∀ j, j < 64 → (layI od L 64) j = (nF (orT L)) j := by exact layI_all hL1 hL od
              have hP : va_P G.1 vwCl [oM h ad thr sts hs len at_ num many, aI G (ad 8) 64 (nF (orT L)), aI G (ad 9) 64 (nF (rnkM L))] _ := cong_P (q0 := 1) e_2 rfl rfl hP
              have hD : va_D A [oM h ad thr sts hs len at_ num many, aI G (ad 8) 64 (nF (orT L)), aI G (ad 9) 64 (nF (rnkM L))] := cong_D (q0 := 1) rfl rfl hD
              have hP : va_P G.1 vwCl [oM h ad thr sts hs len at_ num many, aI G (ad 8) 64 (nF (orT L)), aI G (ad 9) 64 (nF (rnkM L))] _ := hP
              have hD : va_D A [oM h ad thr sts hs len at_ num many, aI G (ad 8) 64 (nF (orT L)), aI G (ad 9) 64 (nF (rnkM L))] := hD
              rw [hQQ]
              exact rt_v hx hb hr hlk (()) dX9_layOrder_88 hP hD hS (by first | exact Nat.le_of_ble_eq_true rfl | (simp only [rm_X9_layOrder]; omega)) (by first | exact Nat.le_of_ble_eq_true rfl | (simp only [rm_X9_layOrder]; omega)) trivial
            · skip
              refine lv_iconst (v := nI 0) hx hb dX9_layOrder_33 (by decide) ?_
              refine lv_istore_n (lv' := [(3, .int (nI 0)), (0, .ref h), (1, .int (nI L)), (2, .int (nI k))]) hx hb dX9_layOrder_34 rfl hl (by decide) rfl (fun ls hl => ?_)
              refine lv_iconst (v := nI 0) hx hb dX9_layOrder_35 (by decide) ?_
              refine lv_istore (lv' := [(4, .int (nI 0)), (3, .int (nI 0)), (0, .ref h), (1, .int (nI L)), (2, .int (nI k))]) hx hb dX9_layOrder_36 hl (by decide) rfl (fun ls hl => ?_)
              have lp_38 : ∀ (n_38 : Nat) (k2 : Nat), (k2 ≤ 64) → (64 - k2) < n_38 → ∀ (H : Heap) (locs : List Loc) (ls : Array Slot), va_P G.1 vwCl [oM h ad thr sts hs len at_ num many, aI G (ad 8) 64 (layI od L k), aI G (ad 9) 64 (nF (rnkM L))] H → va_D A [oM h ad thr sts hs len at_ num many, aI G (ad 8) 64 (layI od L k), aI G (ad 9) 64 (nF (rnkM L))] → va_S A s.heap H locs → lv_has ls 5 [(0, .ref h), (1, .int (nI L)), (2, .int (nI k)), (3, .int (nI (plcK L k k2))), (4, .int (nI k2))] → W p l e (rm_X9_layOrder) s m AR below meth c H locs 0 0 QQ (F0 m 38 ls []) := by
                intro n_38
                induction n_38 with
                | zero => intro k2 hk2 hn_; exact absurd hn_ (Nat.not_lt_zero _)
                | succ n_38 ih_38 =>
                  intro k2 hk2 hn_38 H locs ls hP hD hS hl
                  refine lv_iload hx hb dX9_layOrder_38 (lv_at hl 4 rfl) ?_
                  refine lv_bipush (v := nI 64) hx hb dX9_layOrder_40 (by decide) ?_
                  refine N_icmp_ge (tgt := 75) hx hb dX9_layOrder_42 (by decide) (by omega) (by omega) (fun c_42 => ?_) (fun c_42 => ?_)
                  · skip
                    have ek_ : k2 = 64 := by omega
                    have hpt := plc_tab hL1 hL k (by omega)
                    rw [ek_, hpt] at hl
                    have hl : lv_has ls 5 [(0, .ref h), (1, .int (nI L)), (2, .int (nI k)), (3, .int (nI (plT L k))), (4, .int (nI 64))] := hl
                    have hp64 := ((pl_or hL1 hL).2 k (by omega)).1
                    refine lv_aload_n hx hb dX9_layOrder_75 rfl (lv_at hl 0 rfl) ?_
                    refine va_get (D := G.1) (ci := 8) (v := .ref (ad 8)) (C := RX9) (T := TX9) (N := 21) hx hb hts in_X9 hown hK hP 0 rfl rfl 11 (by decide) (hts _ q1678) (fun _ h9 => h9) rfl dX9_layOrder_76 ?_
                    refine lv_iload_n hx hb dX9_layOrder_79 rfl (lv_at hl 3 rfl) ?_
                    refine lv_iload_n hx hb dX9_layOrder_80 rfl (lv_at hl 2 rfl) ?_
                    refine N_iast (ws' := [oM h ad thr sts hs len at_ num many, aI G (ad 8) 64 (upd (layI od L k) (plT L k) (nI k)), aI G (ad 9) 64 (nF (rnkM L))]) hx hb dX9_layOrder_81 hK hP hD hS 1 0 rfl rfl (by omega) (by omega) rfl (fun H locs hP hD hS => ?_)
                    refine N_iinc (a := k) (b := 1) (k9 := 2) (lv' := [(2, .int (nI (k + 1))), (0, .ref h), (1, .int (nI L)), (3, .int (nI (plT L k))), (4, .int (nI 64))]) hx hb dX9_layOrder_82 hl rfl rfl (by decide) rfl (fun ls hl => ?_)
                    refine lv_goto (tgt := 27) hx hb dX9_layOrder_85 (by decide) ?_
                    have hP : va_P G.1 vwCl [oM h ad thr sts hs len at_ num many, aI G (ad 8) 64 (layI od L (k + 1)), aI G (ad 9) 64 (nF (rnkM L))] _ := hP
                    have hD : va_D A [oM h ad thr sts hs len at_ num many, aI G (ad 8) 64 (layI od L (k + 1)), aI G (ad 9) 64 (nF (rnkM L))] := hD
                    have hl : lv_has ls 5 [(0, .ref h), (1, .int (nI L)), (2, .int (nI (k + 1)))] := lv_sub hl [1, 2, 0] rfl
                    exact ih_27 (k + 1) (by omega) (by omega) _ _ _ hP hD hS hl
                  · skip
                    refine lv_iload_n hx hb dX9_layOrder_45 rfl (lv_at hl 3 rfl) ?_
                    refine lv_aload_n hx hb dX9_layOrder_46 rfl (lv_at hl 0 rfl) ?_
                    refine va_get (D := G.1) (ci := 8) (v := .ref (ad 9)) (C := RX9) (T := TX9) (N := 21) hx hb hts in_X9 hown hK hP 0 rfl rfl 12 (by decide) (hts _ q1679) (fun _ h9 => h9) rfl dX9_layOrder_47 ?_
                    refine lv_iload hx hb dX9_layOrder_50 (lv_at hl 4 rfl) ?_
                    refine N_iald hx hb dX9_layOrder_52 hK hP 2 0 rfl rfl (by omega) (by omega) ?_
                    refine top_i (y := nI ((rnkM L) k2)) rfl ?_
                    refine lv_aload_n hx hb dX9_layOrder_53 rfl (lv_at hl 0 rfl) ?_
                    refine va_get (D := G.1) (ci := 8) (v := .ref (ad 9)) (C := RX9) (T := TX9) (N := 21) hx hb hts in_X9 hown hK hP 0 rfl rfl 12 (by decide) (hts _ q1679) (fun _ h9 => h9) rfl dX9_layOrder_54 ?_
                    refine lv_iload_n hx hb dX9_layOrder_57 rfl (lv_at hl 2 rfl) ?_
                    refine N_iald hx hb dX9_layOrder_58 hK hP 2 0 rfl rfl (by omega) (by omega) ?_
                    refine top_i (y := nI ((rnkM L) k)) rfl ?_
                    have hrk := rnkM_le (L := L) (x := k) (by omega) hL
                    have hrk2 := rnkM_le (L := L) (x := k2) (by omega) hL
                    have K_59 : ∀ (v_3 : Nat) (_ : v_3 = if ((rnkM L) k2) < ((rnkM L) k) then 1 else 0) (H : Heap) (locs : List Loc) (ls : Array Slot), va_P G.1 vwCl [oM h ad thr sts hs len at_ num many, aI G (ad 8) 64 (layI od L k), aI G (ad 9) 64 (nF (rnkM L))] H → va_D A [oM h ad thr sts hs len at_ num many, aI G (ad 8) 64 (layI od L k), aI G (ad 9) 64 (nF (rnkM L))] → va_S A s.heap H locs → lv_has ls 5 [(0, .ref h), (1, .int (nI L)), (2, .int (nI k)), (3, .int (nI (plcK L k k2))), (4, .int (nI k2))] → W p l e (rm_X9_layOrder) s m AR below meth c H locs 0 0 QQ (F0 m 67 ls [.int (nI v_3), .int (nI (plcK L k k2))]) := by
                      intro v_3 e_v_3 H locs ls hP hD hS hl
                      subst e_v_3
                      refine N_iadd hx hb dX9_layOrder_67 ?_
                      refine lv_istore_n (lv' := [(3, .int (nI ((plcK L k k2) + (if ((rnkM L) k2) < ((rnkM L) k) then 1 else 0)))), (0, .ref h), (1, .int (nI L)), (2, .int (nI k)), (4, .int (nI k2))]) hx hb dX9_layOrder_68 rfl hl (by decide) rfl (fun ls hl => ?_)
                      refine N_iinc (a := k2) (b := 1) (k9 := 4) (lv' := [(4, .int (nI (k2 + 1))), (3, .int (nI ((plcK L k k2) + (if ((rnkM L) k2) < ((rnkM L) k) then 1 else 0)))), (0, .ref h), (1, .int (nI L)), (2, .int (nI k))]) hx hb dX9_layOrder_69 hl rfl rfl (by decide) rfl (fun ls hl => ?_)
                      refine lv_goto (tgt := 38) hx hb dX9_layOrder_72 (by decide) ?_
                      have hl : lv_has ls 5 [(0, .ref h), (1, .int (nI L)), (2, .int (nI k)), (3, .int (nI ((plcK L k k2) + (if ((rnkM L) k2) < ((rnkM L) k) then 1 else 0)))), (4, .int (nI (k2 + 1)))] := lv_sub hl [2, 3, 4, 1, 0] rfl
                      have e_4 : (nI ((plcK L k k2) + (if ((rnkM L) k2) < ((rnkM L) k) then 1 else 0))) = (nI (plcK L k (k2 + 1))) := by rw [plcK_1]
                      rw [e_4] at hl
                      have hl : lv_has ls 5 [(0, .ref h), (1, .int (nI L)), (2, .int (nI k)), (3, .int (nI (plcK L k (k2 + 1)))), (4, .int (nI (k2 + 1)))] := hl
                      exact ih_38 (k2 + 1) (by omega) (by omega) _ _ _ hP hD hS hl
                    refine N_icmp_ge (tgt := 66) hx hb dX9_layOrder_59 (by decide) (by omega) (by omega) (fun c_59 => ?_) (fun c_59 => ?_)
                    · skip
                      refine lv_iconst (v := nI 0) hx hb dX9_layOrder_66 (by decide) ?_
                      exact K_59 0 (by first | rfl | (try rw [if_neg (Nat.not_lt.mpr c_59)]) | simp_all) _ _ _ hP hD hS (lv_sub hl [0, 1, 2, 3, 4] rfl)
                    · skip
                      refine lv_iconst (v := nI 1) hx hb dX9_layOrder_62 (by decide) ?_
                      refine lv_goto (tgt := 67) hx hb dX9_layOrder_63 (by decide) ?_
                      exact K_59 1 (by first | rfl | (try rw [if_pos c_59]) | simp_all) _ _ _ hP hD hS (lv_sub hl [0, 1, 2, 3, 4] rfl)
              have hl : lv_has ls 5 [(0, .ref h), (1, .int (nI L)), (2, .int (nI k)), (3, .int (nI 0)), (4, .int (nI 0))] := lv_sub hl [2, 3, 4, 1, 0] rfl
              have e_5 : (nI 0) = (nI (plcK L k 0)) := by rfl
              rw [e_5] at hl
              have hl : lv_has ls 5 [(0, .ref h), (1, .int (nI L)), (2, .int (nI k)), (3, .int (nI (plcK L k 0))), (4, .int (nI 0))] := hl
              exact lp_38 _ 0 (by omega) (Nat.lt_succ_self _) _ _ _ hP hD hS hl
        have hP : va_P G.1 vwCl [oM h ad thr sts hs len at_ num many, aI G (ad 8) 64 (layI od L 0), aI G (ad 9) 64 (nF (rnkM L))] _ := hP
        have hD : va_D A [oM h ad thr sts hs len at_ num many, aI G (ad 8) 64 (layI od L 0), aI G (ad 9) 64 (nF (rnkM L))] := hD
        have hl : lv_has ls 5 [(0, .ref h), (1, .int (nI L)), (2, .int (nI 0))] := lv_sub hl [1, 2, 0] rfl
        exact lp_27 _ 0 (by omega) (Nat.lt_succ_self _) _ _ _ hP hD hS hl
      · skip
        refine lv_aload_n hx hb dX9_layOrder_8 rfl (lv_at hl 0 rfl) ?_
        refine va_get (D := G.1) (ci := 8) (v := .ref (ad 9)) (C := RX9) (T := TX9) (N := 21) hx hb hts in_X9 hown hK hP 0 rfl rfl 12 (by decide) (hts _ q1679) (fun _ h9 => h9) rfl dX9_layOrder_9 ?_
        refine lv_iload_n hx hb dX9_layOrder_12 rfl (lv_at hl 2 rfl) ?_
        refine lv_iload_n hx hb dX9_layOrder_13 rfl (lv_at hl 2 rfl) ?_
        refine lv_iload_n hx hb dX9_layOrder_14 rfl (lv_at hl 1 rfl) ?_
        refine fin_i (ws' := (fun (_ : Unit) => [oM h ad thr sts hs len at_ num many, aI G (ad 8) 64 od, aI G (ad 9) 64 (fillTo k (nF (rnkM L)) ot)])) hA hS hP hD [] rfl [(false, 0), (false, 1), (false, 2)] (fun _ => rfl) (by decide) (run_S (As := [.int (nI k), .int (nI L)]) (rest := [.int (nI k), .ref (ad 9)]) (n9 := 2) hx hb hml hown hts hE hAb hl.1 hS hP hD [] rfl (by decide) (t_X9_rankBy l G b0 _ k L (by omega) (by omega) (by omega)) (lw_S q1888 q1889 q129 q1890) ⟨by decide, by decide, by decide +kernel⟩ ⟨Nat.le_of_ble_eq_true rfl, Nat.le_of_ble_eq_true rfl⟩ ⟨by first | exact Nat.le_of_ble_eq_true rfl | (simp only [rm_X9_layOrder, rm_X9_rankBy]; omega), by first | exact Nat.le_of_ble_eq_true rfl | (simp only [rm_X9_layOrder, rm_X9_rankBy]; omega)⟩ dX9_layOrder_15 (Nat.le_of_ble_eq_true rfl) rfl rfl) (fun r_6 u_6 H locs h_6 hP hD hS => ?_)
        have hP : va_P G.1 vwCl [oM h ad thr sts hs len at_ num many, aI G (ad 8) 64 od, aI G (ad 9) 64 (fillTo k (nF (rnkM L)) ot)] _ := hP
        have hD : va_D A [oM h ad thr sts hs len at_ num many, aI G (ad 8) 64 od, aI G (ad 9) 64 (fillTo k (nF (rnkM L)) ot)] := hD
        have h_6 : r_6 = (nI (rnkM L k)) := h_6
        rw [h_6]
        refine N_iast (ws' := [oM h ad thr sts hs len at_ num many, aI G (ad 8) 64 od, aI G (ad 9) 64 (upd (fillTo k (nF (rnkM L)) ot) k (nI (rnkM L k)))]) hx hb dX9_layOrder_18 hK hP hD hS 2 0 rfl rfl (by omega) (by omega) rfl (fun H locs hP hD hS => ?_)
        refine N_iinc (a := k) (b := 1) (k9 := 2) (lv' := [(2, .int (nI (k + 1))), (0, .ref h), (1, .int (nI L))]) hx hb dX9_layOrder_19 hl rfl rfl (by decide) rfl (fun ls hl => ?_)
        refine lv_goto (tgt := 2) hx hb dX9_layOrder_22 (by decide) ?_
        have e_7 : (upd (fillTo k (nF (rnkM L)) ot) k (nI (rnkM L k))) = (fillTo (k + 1) (nF (rnkM L)) ot) := by exact fill_step (g := nF (rnkM L))
        have hP : va_P G.1 vwCl [oM h ad thr sts hs len at_ num many, aI G (ad 8) 64 od, aI G (ad 9) 64 (fillTo (k + 1) (nF (rnkM L)) ot)] _ := cong_P (q0 := 2) (fun j _ => congrFun e_7 j) rfl rfl hP
        have hD : va_D A [oM h ad thr sts hs len at_ num many, aI G (ad 8) 64 od, aI G (ad 9) 64 (fillTo (k + 1) (nF (rnkM L)) ot)] := cong_D (q0 := 2) rfl rfl hD
        have hP : va_P G.1 vwCl [oM h ad thr sts hs len at_ num many, aI G (ad 8) 64 od, aI G (ad 9) 64 (fillTo (k + 1) (nF (rnkM L)) ot)] _ := hP
        have hD : va_D A [oM h ad thr sts hs len at_ num many, aI G (ad 8) 64 od, aI G (ad 9) 64 (fillTo (k + 1) (nF (rnkM L)) ot)] := hD
        have hl : lv_has ls 5 [(0, .ref h), (1, .int (nI L)), (2, .int (nI (k + 1)))] := lv_sub hl [1, 2, 0] rfl
        exact ih_2 (k + 1) (by omega) (by omega) _ _ _ hP hD hS hl
  have e_8 : (ot) = (fillTo 0 (nF (rnkM L)) ot) := by exact (fill0 _ _).symm
  have hP : va_P G.1 vwCl [oM h ad thr sts hs len at_ num many, aI G (ad 8) 64 od, aI G (ad 9) 64 (fillTo 0 (nF (rnkM L)) ot)] _ := cong_P (q0 := 2) (fun j _ => congrFun e_8 j) rfl rfl hP
  have hD : va_D A [oM h ad thr sts hs len at_ num many, aI G (ad 8) 64 od, aI G (ad 9) 64 (fillTo 0 (nF (rnkM L)) ot)] := cong_D (q0 := 2) rfl rfl hD
  have hP : va_P G.1 vwCl [oM h ad thr sts hs len at_ num many, aI G (ad 8) 64 od, aI G (ad 9) 64 (fillTo 0 (nF (rnkM L)) ot)] _ := hP
  have hD : va_D A [oM h ad thr sts hs len at_ num many, aI G (ad 8) 64 od, aI G (ad 9) 64 (fillTo 0 (nF (rnkM L)) ot)] := hD
  have hl : lv_has ls 5 [(0, .ref h), (1, .int (nI L)), (2, .int (nI 0))] := lv_sub hl [1, 2, 0] rfl
  exact lp_2 _ 0 (by omega) (Nat.lt_succ_self _) _ _ _ hP hD hS hl
def rm_X9_isDifference : Room := ({ frames := 2, cells := 0, slots := 0, locals := 47 } : Room)
set_option maxHeartbeats 400000 in
set_option maxRecDepth 100000 in
theorem t_X9_isDifference (l : Launch) (G : GG) (b0 sz : Nat) (h : Nat) (ad : Nat → Nat) (thr sts : Nat) (hs : Bool) (len at_ num many : Nat) (st : Nat → Int32) (x L : Nat) (hxx : x < 64) (hL1 : 1 ≤ L) (hL : L ≤ 3) (hst : st 64 = nI L) : CT l yX9_isDifference cX9_isDifference 2 (some FieldType.boolean) (rm_X9_isDifference) G b0 [.ref h, .int (nI x)] [oM h ad thr sts hs len at_ num many, aI G (ad 1) 68 st] sz (Ri G (fun (r_ : Int32) (_ : Unit) => r_ = bI (isDf L x)) (fun (_ : Unit) => [oM h ad thr sts hs len at_ num many, aI G (ad 1) 68 st])) := by
  refine CT.go (by decide) (Nat.le_of_ble_eq_true rfl) (fun p e s m below meth c A ls AR QQ hx hb hr hlk hml hown hnm hts hE hA hAb hsz hP hD hS hl hQQ => ?_)
  have hK := hE.1
  have hown : s.vm.findClass RX9 = some m.cls := hown
  have hl : lv_has ls 2 [(0, .ref h), (1, .int (nI x))] := hl
  clear hsz
  have hbm := bndM_le (x := x) hL1 hL
  refine lv_iload_n hx hb dX9_isDifference_0 rfl (lv_at hl 1 rfl) ?_
  refine lv_aload_n hx hb dX9_isDifference_1 rfl (lv_at hl 0 rfl) ?_
  refine va_get (D := G.1) (ci := 8) (v := .ref (ad 1)) (C := RX9) (T := TX9) (N := 21) hx hb hts in_X9 hown hK hP 0 rfl rfl 1 (by decide) (hts _ q1668) (fun _ h9 => h9) rfl dX9_isDifference_2 ?_
  refine lv_bipush (v := nI 64) hx hb dX9_isDifference_5 (by decide) ?_
  refine N_iald hx hb dX9_isDifference_7 hK hP 1 0 rfl rfl (by omega) (by omega) ?_
  refine top_i (y := nI L) (hst) ?_
  refine fin_i (ws' := (fun (_ : Unit) => [oM h ad thr sts hs len at_ num many, aI G (ad 1) 68 st])) hA hS hP hD [] rfl [(false, 0), (false, 1)] (fun _ => rfl) (by decide) (run_S (As := [.int (nI x), .int (nI L)]) (rest := []) (n9 := 2) hx hb hml hown hts hE hAb hl.1 hS hP hD [] rfl (by decide) (t_X9_band l G b0 _ x L (by omega) (by omega) (by omega)) (lw_S q1793 q1794 q129 q1795) ⟨by decide, by decide, by decide +kernel⟩ ⟨Nat.le_of_ble_eq_true rfl, Nat.le_of_ble_eq_true rfl⟩ ⟨by first | exact Nat.le_of_ble_eq_true rfl | (simp only [rm_X9_isDifference, rm_X9_band]; omega), by first | exact Nat.le_of_ble_eq_true rfl | (simp only [rm_X9_isDifference, rm_X9_band]; omega)⟩ dX9_isDifference_8 (Nat.le_of_ble_eq_true rfl) rfl rfl) (fun r_1 u_1 H locs h_1 hP hD hS => ?_)
  have hP : va_P G.1 vwCl [oM h ad thr sts hs len at_ num many, aI G (ad 1) 68 st] _ := hP
  have hD : va_D A [oM h ad thr sts hs len at_ num many, aI G (ad 1) 68 st] := hD
  have h_1 : r_1 = (nI (bndM x L)) := h_1
  rw [h_1]
  refine N_if_le (tgt := 18) hx hb dX9_isDifference_11 (by decide) (by omega) (fun c_11 => ?_) (fun c_11 => ?_)
  · skip
    refine lv_iconst (v := nI 0) hx hb dX9_isDifference_18 (by decide) ?_
    rw [hQQ]
    exact rt_z hx hb hr hlk (by first | exact bI_nar _ | rfl) (()) dX9_isDifference_19 hP hD hS (by first | exact Nat.le_of_ble_eq_true rfl | (simp only [rm_X9_isDifference]; omega)) (by first | exact Nat.le_of_ble_eq_true rfl | (simp only [rm_X9_isDifference]; omega)) (by first | exact bI_of1 (by simp [isDf, *]) | exact bI_of0 (by simp [isDf, *]))
  · skip
    refine lv_iconst (v := nI 1) hx hb dX9_isDifference_14 (by decide) ?_
    refine lv_goto (tgt := 19) hx hb dX9_isDifference_15 (by decide) ?_
    rw [hQQ]
    exact rt_z hx hb hr hlk (by first | exact bI_nar _ | rfl) (()) dX9_isDifference_19 hP hD hS (by first | exact Nat.le_of_ble_eq_true rfl | (simp only [rm_X9_isDifference]; omega)) (by first | exact Nat.le_of_ble_eq_true rfl | (simp only [rm_X9_isDifference]; omega)) (by first | exact bI_of1 (by simp [isDf, *]) | exact bI_of0 (by simp [isDf, *]))
def rm_X9_record : Room := ({ frames := 0, cells := 0, slots := 0, locals := 0 } : Room)
set_option maxHeartbeats 400000 in
set_option maxRecDepth 100000 in
theorem t_X9_record (l : Launch) (G : GG) (b0 sz : Nat) (h : Nat) (ad : Nat → Nat) (thr sts : Nat) (hs : Bool) (len at_ num many : Nat) (st hi : Nat → Int32) (hs6 : sts ≤ 6) : CT l yX9_record cX9_record 2 none (rm_X9_record) G b0 [.ref h] [oM h ad thr sts hs len at_ num many, aI G (ad 1) 68 st, aI G (ad 2) 408 hi] sz (Rv G (fun (_ : Unit) => True) (fun (_ : Unit) => [oM h ad thr (recN sts) hs len at_ num many, aI G (ad 1) 68 st, aI G (ad 2) 408 (recH st hi sts)])) := by
  refine CT.go (by decide) (Nat.le_of_ble_eq_true rfl) (fun p e s m below meth c A ls AR QQ hx hb hr hlk hml hown hnm hts hE hA hAb hsz hP hD hS hl hQQ => ?_)
  have hK := hE.1
  have hown : s.vm.findClass RX9 = some m.cls := hown
  have hl : lv_has ls 2 [(0, .ref h)] := hl
  clear hsz
  refine lv_aload_n hx hb dX9_record_0 rfl (lv_at hl 0 rfl) ?_
  refine va_get (D := G.1) (ci := 8) (v := .int (nI sts)) (C := RX9) (T := TX9) (N := 21) hx hb hts in_X9 hown hK hP 0 rfl rfl 3 (by decide) (hts _ q1670) (fun _ h9 => h9) rfl dX9_record_1 ?_
  refine lv_bipush (v := nI 6) hx hb dX9_record_4 (by decide) ?_
  refine N_icmp_ne (tgt := 49) hx hb dX9_record_6 (by decide) (by omega) (by omega) (fun c_6 => ?_) (fun c_6 => ?_)
  · skip
    refine lv_iconst (v := nI 0) hx hb dX9_record_49 (by decide) ?_
    refine lv_istore_n (lv' := [(1, .int (nI 0)), (0, .ref h)]) hx hb dX9_record_50 rfl hl (by decide) rfl (fun ls hl => ?_)
    have lp_51 : ∀ (n_51 : Nat) (k : Nat) (n5 : Nat) (hh : Nat → Int32), (k ≤ 68) → (n5 ≤ 5) → (n5 + 1 = recN sts) → (layH (n5 * 68) 68 st hh = recH st hi sts) → (68 - k) < n_51 → ∀ (H : Heap) (locs : List Loc) (ls : Array Slot), va_P G.1 vwCl [oM h ad thr n5 hs len at_ num many, aI G (ad 1) 68 st, aI G (ad 2) 408 (layH (n5 * 68) k st hh)] H → va_D A [oM h ad thr n5 hs len at_ num many, aI G (ad 1) 68 st, aI G (ad 2) 408 (layH (n5 * 68) k st hh)] → va_S A s.heap H locs → lv_has ls 2 [(0, .ref h), (1, .int (nI k))] → W p l e (rm_X9_record) s m AR below meth c H locs 0 0 QQ (F0 m 51 ls []) := by
      intro n_51
      induction n_51 with
      | zero => intro k n5 hh hk hn5 hnn hhh hn_; exact absurd hn_ (Nat.not_lt_zero _)
      | succ n_51 ih_51 =>
        intro k n5 hh hk hn5 hnn hhh hn_51 H locs ls hP hD hS hl
        refine lv_iload_n hx hb dX9_record_51 rfl (lv_at hl 1 rfl) ?_
        refine lv_bipush (v := nI 68) hx hb dX9_record_52 (by decide) ?_
        refine N_icmp_ge (tgt := 83) hx hb dX9_record_54 (by decide) (by omega) (by omega) (fun c_54 => ?_) (fun c_54 => ?_)
        · skip
          obtain rfl : k = 68 := by omega
          refine lv_aload_n hx hb dX9_record_83 rfl (lv_at hl 0 rfl) ?_
          refine lv_dup hx hb dX9_record_84 rfl ?_
          refine va_get (D := G.1) (ci := 8) (v := .int (nI n5)) (C := RX9) (T := TX9) (N := 21) hx hb hts in_X9 hown hK hP 0 rfl rfl 3 (by decide) (hts _ q1670) (fun _ h9 => h9) rfl dX9_record_85 ?_
          refine lv_iconst (v := nI 1) hx hb dX9_record_88 (by decide) ?_
          refine N_iadd hx hb dX9_record_89 ?_
          refine va_put (D := G.1) (ci := 8) (v := .int (nI (n5 + 1))) (ty := .int) (C := RX9) (T := TX9) (N := 21) hx hb hts in_X9 tyX9 tyX9_ok nmX9 hown hK hP hD hS 0 rfl rfl 3 (by decide) (hts _ q1670) (fun _ h9 => h9) rfl (by decide +kernel) rfl rfl (Nat.le_of_ble_eq_true rfl) dX9_record_90 (fun H locs hP hD hS => ?_)
          have hP : va_P G.1 vwCl [oM h ad thr (n5 + 1) hs len at_ num many, aI G (ad 1) 68 st, aI G (ad 2) 408 (layH (n5 * 68) 68 st hh)] _ := hP
          have hD : va_D A [oM h ad thr (n5 + 1) hs len at_ num many, aI G (ad 1) 68 st, aI G (ad 2) 408 (layH (n5 * 68) 68 st hh)] := hD
          have e_1 : (n5 + 1) = (recN sts) := by rw [hnn]
          rw [e_1] at hP hD
          have e_2 : (layH (n5 * 68) 68 st hh) = (recH st hi sts) := by exact hhh
          have hP : va_P G.1 vwCl [oM h ad thr (recN sts) hs len at_ num many, aI G (ad 1) 68 st, aI G (ad 2) 408 (recH st hi sts)] _ := cong_P (q0 := 2) (fun j _ => congrFun e_2 j) rfl rfl hP
          have hD : va_D A [oM h ad thr (recN sts) hs len at_ num many, aI G (ad 1) 68 st, aI G (ad 2) 408 (recH st hi sts)] := cong_D (q0 := 2) rfl rfl hD
          have hP : va_P G.1 vwCl [oM h ad thr (recN sts) hs len at_ num many, aI G (ad 1) 68 st, aI G (ad 2) 408 (recH st hi sts)] _ := hP
          have hD : va_D A [oM h ad thr (recN sts) hs len at_ num many, aI G (ad 1) 68 st, aI G (ad 2) 408 (recH st hi sts)] := hD
          rw [hQQ]
          exact rt_v hx hb hr hlk (()) dX9_record_93 hP hD hS (by first | exact Nat.le_of_ble_eq_true rfl | (simp only [rm_X9_record]; omega)) (by first | exact Nat.le_of_ble_eq_true rfl | (simp only [rm_X9_record]; omega)) trivial
        · skip
          refine lv_aload_n hx hb dX9_record_57 rfl (lv_at hl 0 rfl) ?_
          refine va_get (D := G.1) (ci := 8) (v := .ref (ad 2)) (C := RX9) (T := TX9) (N := 21) hx hb hts in_X9 hown hK hP 0 rfl rfl 2 (by decide) (hts _ q1669) (fun _ h9 => h9) rfl dX9_record_58 ?_
          refine lv_aload_n hx hb dX9_record_61 rfl (lv_at hl 0 rfl) ?_
          refine va_get (D := G.1) (ci := 8) (v := .int (nI n5)) (C := RX9) (T := TX9) (N := 21) hx hb hts in_X9 hown hK hP 0 rfl rfl 3 (by decide) (hts _ q1670) (fun _ h9 => h9) rfl dX9_record_62 ?_
          refine lv_bipush (v := nI 68) hx hb dX9_record_65 (by decide) ?_
          refine N_imul hx hb dX9_record_67 ?_
          refine lv_iload_n hx hb dX9_record_68 rfl (lv_at hl 1 rfl) ?_
          refine N_iadd hx hb dX9_record_69 ?_
          refine lv_aload_n hx hb dX9_record_70 rfl (lv_at hl 0 rfl) ?_
          refine va_get (D := G.1) (ci := 8) (v := .ref (ad 1)) (C := RX9) (T := TX9) (N := 21) hx hb hts in_X9 hown hK hP 0 rfl rfl 1 (by decide) (hts _ q1668) (fun _ h9 => h9) rfl dX9_record_71 ?_
          refine lv_iload_n hx hb dX9_record_74 rfl (lv_at hl 1 rfl) ?_
          refine N_iald hx hb dX9_record_75 hK hP 1 0 rfl rfl (by omega) (by omega) ?_
          refine N_iast (ws' := [oM h ad thr n5 hs len at_ num many, aI G (ad 1) 68 st, aI G (ad 2) 408 (upd (layH (n5 * 68) k st hh) ((n5 * 68) + k) (st k))]) hx hb dX9_record_76 hK hP hD hS 2 0 rfl rfl (by omega) (by omega) rfl (fun H locs hP hD hS => ?_)
          refine N_iinc (a := k) (b := 1) (k9 := 1) (lv' := [(1, .int (nI (k + 1))), (0, .ref h)]) hx hb dX9_record_77 hl rfl rfl (by decide) rfl (fun ls hl => ?_)
          refine lv_goto (tgt := 51) hx hb dX9_record_80 (by decide) ?_
          have e_3 : (upd (layH (n5 * 68) k st hh) ((n5 * 68) + k) (st k)) = (layH (n5 * 68) (k + 1) st hh) := by exact layH_1
          have hP : va_P G.1 vwCl [oM h ad thr n5 hs len at_ num many, aI G (ad 1) 68 st, aI G (ad 2) 408 (layH (n5 * 68) (k + 1) st hh)] _ := cong_P (q0 := 2) (fun j _ => congrFun e_3 j) rfl rfl hP
          have hD : va_D A [oM h ad thr n5 hs len at_ num many, aI G (ad 1) 68 st, aI G (ad 2) 408 (layH (n5 * 68) (k + 1) st hh)] := cong_D (q0 := 2) rfl rfl hD
          have hP : va_P G.1 vwCl [oM h ad thr n5 hs len at_ num many, aI G (ad 1) 68 st, aI G (ad 2) 408 (layH (n5 * 68) (k + 1) st hh)] _ := hP
          have hD : va_D A [oM h ad thr n5 hs len at_ num many, aI G (ad 1) 68 st, aI G (ad 2) 408 (layH (n5 * 68) (k + 1) st hh)] := hD
          have hl : lv_has ls 2 [(0, .ref h), (1, .int (nI (k + 1)))] := lv_sub hl [1, 0] rfl
          exact ih_51 (k + 1) n5 hh (by omega) (by omega) (by exact hnn) (by exact hhh) (by omega) _ _ _ hP hD hS hl
    have e_4 : (hi) = (layH (sts * 68) 0 st hi) := by exact layH_0.symm
    have hP : va_P G.1 vwCl [oM h ad thr sts hs len at_ num many, aI G (ad 1) 68 st, aI G (ad 2) 408 (layH (sts * 68) 0 st hi)] _ := cong_P (q0 := 2) (fun j _ => congrFun e_4 j) rfl rfl hP
    have hD : va_D A [oM h ad thr sts hs len at_ num many, aI G (ad 1) 68 st, aI G (ad 2) 408 (layH (sts * 68) 0 st hi)] := cong_D (q0 := 2) rfl rfl hD
    have hP : va_P G.1 vwCl [oM h ad thr sts hs len at_ num many, aI G (ad 1) 68 st, aI G (ad 2) 408 (layH (sts * 68) 0 st hi)] _ := hP
    have hD : va_D A [oM h ad thr sts hs len at_ num many, aI G (ad 1) 68 st, aI G (ad 2) 408 (layH (sts * 68) 0 st hi)] := hD
    have hl : lv_has ls 2 [(0, .ref h), (1, .int (nI 0))] := lv_sub hl [1, 0] rfl
    exact lp_51 _ 0 sts hi (by omega) (by omega) (by unfold recN; split <;> omega) (by unfold recH; first | (rw [if_pos (by omega)]; done) | (rw [if_pos (by omega)]; subst_vars; rfl) | (rw [if_neg (by omega)]; done)) (Nat.lt_succ_self _) _ _ _ hP hD hS hl
  · skip
    refine lv_iconst (v := nI 0) hx hb dX9_record_9 (by decide) ?_
    refine lv_istore_n (lv' := [(1, .int (nI 0)), (0, .ref h)]) hx hb dX9_record_10 rfl hl (by decide) rfl (fun ls hl => ?_)
    have lp_11 : ∀ (n_11 : Nat) (k : Nat), (k ≤ 340) → (340 - k) < n_11 → ∀ (H : Heap) (locs : List Loc) (ls : Array Slot), va_P G.1 vwCl [oM h ad thr sts hs len at_ num many, aI G (ad 1) 68 st, aI G (ad 2) 408 (shfH k hi)] H → va_D A [oM h ad thr sts hs len at_ num many, aI G (ad 1) 68 st, aI G (ad 2) 408 (shfH k hi)] → va_S A s.heap H locs → lv_has ls 2 [(0, .ref h), (1, .int (nI k))] → W p l e (rm_X9_record) s m AR below meth c H locs 0 0 QQ (F0 m 11 ls []) := by
      intro n_11
      induction n_11 with
      | zero => intro k hk hn_; exact absurd hn_ (Nat.not_lt_zero _)
      | succ n_11 ih_11 =>
        intro k hk hn_11 H locs ls hP hD hS hl
        refine lv_iload_n hx hb dX9_record_11 rfl (lv_at hl 1 rfl) ?_
        refine lv_sipush (v := nI 340) hx hb dX9_record_12 (by decide) ?_
        refine N_icmp_ge (tgt := 39) hx hb dX9_record_15 (by decide) (by omega) (by omega) (fun c_15 => ?_) (fun c_15 => ?_)
        · skip
          obtain rfl : k = 340 := by omega
          refine lv_aload_n hx hb dX9_record_39 rfl (lv_at hl 0 rfl) ?_
          refine lv_dup hx hb dX9_record_40 rfl ?_
          refine va_get (D := G.1) (ci := 8) (v := .int (nI sts)) (C := RX9) (T := TX9) (N := 21) hx hb hts in_X9 hown hK hP 0 rfl rfl 3 (by decide) (hts _ q1670) (fun _ h9 => h9) rfl dX9_record_41 ?_
          refine lv_iconst (v := nI 1) hx hb dX9_record_44 (by decide) ?_
          refine N_isub hx hb dX9_record_45 (by omega) ?_
          refine va_put (D := G.1) (ci := 8) (v := .int (nI (sts - 1))) (ty := .int) (C := RX9) (T := TX9) (N := 21) hx hb hts in_X9 tyX9 tyX9_ok nmX9 hown hK hP hD hS 0 rfl rfl 3 (by decide) (hts _ q1670) (fun _ h9 => h9) rfl (by decide +kernel) rfl rfl (Nat.le_of_ble_eq_true rfl) dX9_record_46 (fun H locs hP hD hS => ?_)
          have hP : va_P G.1 vwCl [oM h ad thr (sts - 1) hs len at_ num many, aI G (ad 1) 68 st, aI G (ad 2) 408 (shfH 340 hi)] _ := hP
          have hD : va_D A [oM h ad thr (sts - 1) hs len at_ num many, aI G (ad 1) 68 st, aI G (ad 2) 408 (shfH 340 hi)] := hD
          refine lv_iconst (v := nI 0) hx hb dX9_record_49 (by decide) ?_
          refine lv_istore_n (lv' := [(1, .int (nI 0)), (0, .ref h)]) hx hb dX9_record_50 rfl hl (by decide) rfl (fun ls hl => ?_)
          have lp_51 : ∀ (n_51 : Nat) (k : Nat) (n5 : Nat) (hh : Nat → Int32), (k ≤ 68) → (n5 ≤ 5) → (n5 + 1 = recN sts) → (layH (n5 * 68) 68 st hh = recH st hi sts) → (68 - k) < n_51 → ∀ (H : Heap) (locs : List Loc) (ls : Array Slot), va_P G.1 vwCl [oM h ad thr n5 hs len at_ num many, aI G (ad 1) 68 st, aI G (ad 2) 408 (layH (n5 * 68) k st hh)] H → va_D A [oM h ad thr n5 hs len at_ num many, aI G (ad 1) 68 st, aI G (ad 2) 408 (layH (n5 * 68) k st hh)] → va_S A s.heap H locs → lv_has ls 2 [(0, .ref h), (1, .int (nI k))] → W p l e (rm_X9_record) s m AR below meth c H locs 0 0 QQ (F0 m 51 ls []) := by
            intro n_51
            induction n_51 with
            | zero => intro k n5 hh hk hn5 hnn hhh hn_; exact absurd hn_ (Nat.not_lt_zero _)
            | succ n_51 ih_51 =>
              intro k n5 hh hk hn5 hnn hhh hn_51 H locs ls hP hD hS hl
              refine lv_iload_n hx hb dX9_record_51 rfl (lv_at hl 1 rfl) ?_
              refine lv_bipush (v := nI 68) hx hb dX9_record_52 (by decide) ?_
              refine N_icmp_ge (tgt := 83) hx hb dX9_record_54 (by decide) (by omega) (by omega) (fun c_54 => ?_) (fun c_54 => ?_)
              · skip
                obtain rfl : k = 68 := by omega
                refine lv_aload_n hx hb dX9_record_83 rfl (lv_at hl 0 rfl) ?_
                refine lv_dup hx hb dX9_record_84 rfl ?_
                refine va_get (D := G.1) (ci := 8) (v := .int (nI n5)) (C := RX9) (T := TX9) (N := 21) hx hb hts in_X9 hown hK hP 0 rfl rfl 3 (by decide) (hts _ q1670) (fun _ h9 => h9) rfl dX9_record_85 ?_
                refine lv_iconst (v := nI 1) hx hb dX9_record_88 (by decide) ?_
                refine N_iadd hx hb dX9_record_89 ?_
                refine va_put (D := G.1) (ci := 8) (v := .int (nI (n5 + 1))) (ty := .int) (C := RX9) (T := TX9) (N := 21) hx hb hts in_X9 tyX9 tyX9_ok nmX9 hown hK hP hD hS 0 rfl rfl 3 (by decide) (hts _ q1670) (fun _ h9 => h9) rfl (by decide +kernel) rfl rfl (Nat.le_of_ble_eq_true rfl) dX9_record_90 (fun H locs hP hD hS => ?_)
                have hP : va_P G.1 vwCl [oM h ad thr (n5 + 1) hs len at_ num many, aI G (ad 1) 68 st, aI G (ad 2) 408 (layH (n5 * 68) 68 st hh)] _ := hP
                have hD : va_D A [oM h ad thr (n5 + 1) hs len at_ num many, aI G (ad 1) 68 st, aI G (ad 2) 408 (layH (n5 * 68) 68 st hh)] := hD
                have e_5 : (n5 + 1) = (recN sts) := by rw [hnn]
                rw [e_5] at hP hD
                have e_6 : (layH (n5 * 68) 68 st hh) = (recH st hi sts) := by exact hhh
                have hP : va_P G.1 vwCl [oM h ad thr (recN sts) hs len at_ num many, aI G (ad 1) 68 st, aI G (ad 2) 408 (recH st hi sts)] _ := cong_P (q0 := 2) (fun j _ => congrFun e_6 j) rfl rfl hP
                have hD : va_D A [oM h ad thr (recN sts) hs len at_ num many, aI G (ad 1) 68 st, aI G (ad 2) 408 (recH st hi sts)] := cong_D (q0 := 2) rfl rfl hD
                have hP : va_P G.1 vwCl [oM h ad thr (recN sts) hs len at_ num many, aI G (ad 1) 68 st, aI G (ad 2) 408 (recH st hi sts)] _ := hP
                have hD : va_D A [oM h ad thr (recN sts) hs len at_ num many, aI G (ad 1) 68 st, aI G (ad 2) 408 (recH st hi sts)] := hD
                rw [hQQ]
                exact rt_v hx hb hr hlk (()) dX9_record_93 hP hD hS (by first | exact Nat.le_of_ble_eq_true rfl | (simp only [rm_X9_record]; omega)) (by first | exact Nat.le_of_ble_eq_true rfl | (simp only [rm_X9_record]; omega)) trivial
              · skip
                refine lv_aload_n hx hb dX9_record_57 rfl (lv_at hl 0 rfl) ?_
                refine va_get (D := G.1) (ci := 8) (v := .ref (ad 2)) (C := RX9) (T := TX9) (N := 21) hx hb hts in_X9 hown hK hP 0 rfl rfl 2 (by decide) (hts _ q1669) (fun _ h9 => h9) rfl dX9_record_58 ?_
                refine lv_aload_n hx hb dX9_record_61 rfl (lv_at hl 0 rfl) ?_
                refine va_get (D := G.1) (ci := 8) (v := .int (nI n5)) (C := RX9) (T := TX9) (N := 21) hx hb hts in_X9 hown hK hP 0 rfl rfl 3 (by decide) (hts _ q1670) (fun _ h9 => h9) rfl dX9_record_62 ?_
                refine lv_bipush (v := nI 68) hx hb dX9_record_65 (by decide) ?_
                refine N_imul hx hb dX9_record_67 ?_
                refine lv_iload_n hx hb dX9_record_68 rfl (lv_at hl 1 rfl) ?_
                refine N_iadd hx hb dX9_record_69 ?_
                refine lv_aload_n hx hb dX9_record_70 rfl (lv_at hl 0 rfl) ?_
                refine va_get (D := G.1) (ci := 8) (v := .ref (ad 1)) (C := RX9) (T := TX9) (N := 21) hx hb hts in_X9 hown hK hP 0 rfl rfl 1 (by decide) (hts _ q1668) (fun _ h9 => h9) rfl dX9_record_71 ?_
                refine lv_iload_n hx hb dX9_record_74 rfl (lv_at hl 1 rfl) ?_
                refine N_iald hx hb dX9_record_75 hK hP 1 0 rfl rfl (by omega) (by omega) ?_
                refine N_iast (ws' := [oM h ad thr n5 hs len at_ num many, aI G (ad 1) 68 st, aI G (ad 2) 408 (upd (layH (n5 * 68) k st hh) ((n5 * 68) + k) (st k))]) hx hb dX9_record_76 hK hP hD hS 2 0 rfl rfl (by omega) (by omega) rfl (fun H locs hP hD hS => ?_)
                refine N_iinc (a := k) (b := 1) (k9 := 1) (lv' := [(1, .int (nI (k + 1))), (0, .ref h)]) hx hb dX9_record_77 hl rfl rfl (by decide) rfl (fun ls hl => ?_)
                refine lv_goto (tgt := 51) hx hb dX9_record_80 (by decide) ?_
                have e_7 : (upd (layH (n5 * 68) k st hh) ((n5 * 68) + k) (st k)) = (layH (n5 * 68) (k + 1) st hh) := by exact layH_1
                have hP : va_P G.1 vwCl [oM h ad thr n5 hs len at_ num many, aI G (ad 1) 68 st, aI G (ad 2) 408 (layH (n5 * 68) (k + 1) st hh)] _ := cong_P (q0 := 2) (fun j _ => congrFun e_7 j) rfl rfl hP
                have hD : va_D A [oM h ad thr n5 hs len at_ num many, aI G (ad 1) 68 st, aI G (ad 2) 408 (layH (n5 * 68) (k + 1) st hh)] := cong_D (q0 := 2) rfl rfl hD
                have hP : va_P G.1 vwCl [oM h ad thr n5 hs len at_ num many, aI G (ad 1) 68 st, aI G (ad 2) 408 (layH (n5 * 68) (k + 1) st hh)] _ := hP
                have hD : va_D A [oM h ad thr n5 hs len at_ num many, aI G (ad 1) 68 st, aI G (ad 2) 408 (layH (n5 * 68) (k + 1) st hh)] := hD
                have hl : lv_has ls 2 [(0, .ref h), (1, .int (nI (k + 1)))] := lv_sub hl [1, 0] rfl
                exact ih_51 (k + 1) n5 hh (by omega) (by omega) (by exact hnn) (by exact hhh) (by omega) _ _ _ hP hD hS hl
          have e_8 : (shfH 340 hi) = (layH ((sts - 1) * 68) 0 st (shfH 340 hi)) := by exact layH_0.symm
          have hP : va_P G.1 vwCl [oM h ad thr (sts - 1) hs len at_ num many, aI G (ad 1) 68 st, aI G (ad 2) 408 (layH ((sts - 1) * 68) 0 st (shfH 340 hi))] _ := cong_P (q0 := 2) (fun j _ => congrFun e_8 j) rfl rfl hP
          have hD : va_D A [oM h ad thr (sts - 1) hs len at_ num many, aI G (ad 1) 68 st, aI G (ad 2) 408 (layH ((sts - 1) * 68) 0 st (shfH 340 hi))] := cong_D (q0 := 2) rfl rfl hD
          have hP : va_P G.1 vwCl [oM h ad thr (sts - 1) hs len at_ num many, aI G (ad 1) 68 st, aI G (ad 2) 408 (layH ((sts - 1) * 68) 0 st (shfH 340 hi))] _ := hP
          have hD : va_D A [oM h ad thr (sts - 1) hs len at_ num many, aI G (ad 1) 68 st, aI G (ad 2) 408 (layH ((sts - 1) * 68) 0 st (shfH 340 hi))] := hD
          have hl : lv_has ls 2 [(0, .ref h), (1, .int (nI 0))] := lv_sub hl [1, 0] rfl
          exact lp_51 _ 0 (sts - 1) (shfH 340 hi) (by omega) (by omega) (by unfold recN; split <;> omega) (by unfold recH; first | (rw [if_pos (by omega)]; done) | (rw [if_pos (by omega)]; subst_vars; rfl) | (rw [if_neg (by omega)]; done)) (Nat.lt_succ_self _) _ _ _ hP hD hS hl
        · skip
          refine lv_aload_n hx hb dX9_record_18 rfl (lv_at hl 0 rfl) ?_
          refine va_get (D := G.1) (ci := 8) (v := .ref (ad 2)) (C := RX9) (T := TX9) (N := 21) hx hb hts in_X9 hown hK hP 0 rfl rfl 2 (by decide) (hts _ q1669) (fun _ h9 => h9) rfl dX9_record_19 ?_
          refine lv_iload_n hx hb dX9_record_22 rfl (lv_at hl 1 rfl) ?_
          refine lv_aload_n hx hb dX9_record_23 rfl (lv_at hl 0 rfl) ?_
          refine va_get (D := G.1) (ci := 8) (v := .ref (ad 2)) (C := RX9) (T := TX9) (N := 21) hx hb hts in_X9 hown hK hP 0 rfl rfl 2 (by decide) (hts _ q1669) (fun _ h9 => h9) rfl dX9_record_24 ?_
          refine lv_iload_n hx hb dX9_record_27 rfl (lv_at hl 1 rfl) ?_
          refine lv_bipush (v := nI 68) hx hb dX9_record_28 (by decide) ?_
          refine N_iadd hx hb dX9_record_30 ?_
          refine N_iald hx hb dX9_record_31 hK hP 2 0 rfl rfl (by omega) (by omega) ?_
          refine N_iast (ws' := [oM h ad thr sts hs len at_ num many, aI G (ad 1) 68 st, aI G (ad 2) 408 (upd (shfH k hi) k ((shfH k hi) (k + 68)))]) hx hb dX9_record_32 hK hP hD hS 2 0 rfl rfl (by omega) (by omega) rfl (fun H locs hP hD hS => ?_)
          refine N_iinc (a := k) (b := 1) (k9 := 1) (lv' := [(1, .int (nI (k + 1))), (0, .ref h)]) hx hb dX9_record_33 hl rfl rfl (by decide) rfl (fun ls hl => ?_)
          refine lv_goto (tgt := 11) hx hb dX9_record_36 (by decide) ?_
          have e_9 : (upd (shfH k hi) k ((shfH k hi) (k + 68))) = (shfH (k + 1) hi) := by exact shfH_1
          have hP : va_P G.1 vwCl [oM h ad thr sts hs len at_ num many, aI G (ad 1) 68 st, aI G (ad 2) 408 (shfH (k + 1) hi)] _ := cong_P (q0 := 2) (fun j _ => congrFun e_9 j) rfl rfl hP
          have hD : va_D A [oM h ad thr sts hs len at_ num many, aI G (ad 1) 68 st, aI G (ad 2) 408 (shfH (k + 1) hi)] := cong_D (q0 := 2) rfl rfl hD
          have hP : va_P G.1 vwCl [oM h ad thr sts hs len at_ num many, aI G (ad 1) 68 st, aI G (ad 2) 408 (shfH (k + 1) hi)] _ := hP
          have hD : va_D A [oM h ad thr sts hs len at_ num many, aI G (ad 1) 68 st, aI G (ad 2) 408 (shfH (k + 1) hi)] := hD
          have hl : lv_has ls 2 [(0, .ref h), (1, .int (nI (k + 1)))] := lv_sub hl [1, 0] rfl
          exact ih_11 (k + 1) (by omega) (by omega) _ _ _ hP hD hS hl
    have e_10 : (hi) = (shfH 0 hi) := by exact shfH_0.symm
    have hP : va_P G.1 vwCl [oM h ad thr sts hs len at_ num many, aI G (ad 1) 68 st, aI G (ad 2) 408 (shfH 0 hi)] _ := cong_P (q0 := 2) (fun j _ => congrFun e_10 j) rfl rfl hP
    have hD : va_D A [oM h ad thr sts hs len at_ num many, aI G (ad 1) 68 st, aI G (ad 2) 408 (shfH 0 hi)] := cong_D (q0 := 2) rfl rfl hD
    have hP : va_P G.1 vwCl [oM h ad thr sts hs len at_ num many, aI G (ad 1) 68 st, aI G (ad 2) 408 (shfH 0 hi)] _ := hP
    have hD : va_D A [oM h ad thr sts hs len at_ num many, aI G (ad 1) 68 st, aI G (ad 2) 408 (shfH 0 hi)] := hD
    have hl : lv_has ls 2 [(0, .ref h), (1, .int (nI 0))] := lv_sub hl [1, 0] rfl
    exact lp_11 _ 0 (by omega) (Nat.lt_succ_self _) _ _ _ hP hD hS hl
def rm_X9_undo_0 : Room := ({ frames := 1, cells := 0, slots := 0, locals := 21 } : Room)
set_option maxHeartbeats 400000 in
set_option maxRecDepth 100000 in
theorem t_X9_undo_0 (l : Launch) (G : GG) (b0 sz : Nat) (h : Nat) (ad : Nat → Nat) (thr sts : Nat) (hs : Bool) (len at_ num many : Nat) (st hi : Nat → Int32) (hz : sts = 0) : CT l yX9_undo cX9_undo 2 (some FieldType.int) (rm_X9_undo_0) G b0 [.ref h] [oM h ad thr sts hs len at_ num many, aI G (ad 1) 68 st, aI G (ad 2) 408 hi] sz (Ri G (fun (r_ : Int32) (_ : Unit) => r_ = nI 0) (fun (_ : Unit) => [oM h ad 1 sts hs len at_ num many, aI G (ad 1) 68 st, aI G (ad 2) 408 hi])) := by
  refine CT.go (by decide) (Nat.le_of_ble_eq_true rfl) (fun p e s m below meth c A ls AR QQ hx hb hr hlk hml hown hnm hts hE hA hAb hsz hP hD hS hl hQQ => ?_)
  have hK := hE.1
  have hown : s.vm.findClass RX9 = some m.cls := hown
  have hl : lv_has ls 2 [(0, .ref h)] := hl
  clear hsz
  refine lv_aload_n hx hb dX9_undo_0 rfl (lv_at hl 0 rfl) ?_
  refine lv_iconst (v := nI 0) hx hb dX9_undo_1 (by decide) ?_
  refine va_put (D := G.1) (ci := 8) (v := .int (nI 0)) (ty := .int) (C := RX9) (T := TX9) (N := 21) hx hb hts in_X9 tyX9 tyX9_ok nmX9 hown hK hP hD hS 0 rfl rfl 0 (by decide) (hts _ q1667) (fun _ h9 => h9) rfl (by decide +kernel) rfl rfl (Nat.le_of_ble_eq_true rfl) dX9_undo_2 (fun H locs hP hD hS => ?_)
  have hP : va_P G.1 vwCl [oM h ad 0 sts hs len at_ num many, aI G (ad 1) 68 st, aI G (ad 2) 408 hi] _ := hP
  have hD : va_D A [oM h ad 0 sts hs len at_ num many, aI G (ad 1) 68 st, aI G (ad 2) 408 hi] := hD
  refine lv_aload_n hx hb dX9_undo_5 rfl (lv_at hl 0 rfl) ?_
  refine va_get (D := G.1) (ci := 8) (v := .int (nI sts)) (C := RX9) (T := TX9) (N := 21) hx hb hts in_X9 hown hK hP 0 rfl rfl 3 (by decide) (hts _ q1670) (fun _ h9 => h9) rfl dX9_undo_6 ?_
  refine N_if_ne (tgt := 18) hx hb dX9_undo_9 (by decide) (by omega) (fun c_9 => ?_) (fun c_9 => ?_)
  · skip
    exfalso; omega
  · skip
    refine lv_aload_n hx hb dX9_undo_12 rfl (lv_at hl 0 rfl) ?_
    refine lv_iconst (v := nI 1) hx hb dX9_undo_13 (by decide) ?_
    refine fin_i (ws' := (fun (_ : Unit) => [oM h ad 1 sts hs len at_ num many, aI G (ad 1) 68 st, aI G (ad 2) 408 hi])) hA hS hP hD [0] rfl [(true, 0), (false, 1), (false, 2)] (fun _ => rfl) (by decide) (run_V (As := [.int (nI 1)]) (rest := []) (n9 := 1) hx hb hml hown hts hE hAb hl.1 hS hP hD [0] rfl (by decide) (t_X9_fails l G b0 _ h ad 0 sts hs len at_ num many 1 ) (lw_V q1739 q1741 qs60 q129 q1742) 0 rfl rfl ⟨rfl, by decide, by decide, by decide +kernel⟩ ⟨Nat.le_of_ble_eq_true rfl, Nat.le_of_ble_eq_true rfl⟩ ⟨by first | exact Nat.le_of_ble_eq_true rfl | (simp only [rm_X9_undo_0, rm_X9_fails]; omega), by first | exact Nat.le_of_ble_eq_true rfl | (simp only [rm_X9_undo_0, rm_X9_fails]; omega)⟩ dX9_undo_14 (Nat.le_of_ble_eq_true rfl) rfl rfl) (fun r_1 u_1 H locs h_1 hP hD hS => ?_)
    have hP : va_P G.1 vwCl [oM h ad 1 sts hs len at_ num many, aI G (ad 1) 68 st, aI G (ad 2) 408 hi] _ := hP
    have hD : va_D A [oM h ad 1 sts hs len at_ num many, aI G (ad 1) 68 st, aI G (ad 2) 408 hi] := hD
    have h_1 : r_1 = (nI 0) := h_1
    rw [h_1]
    rw [hQQ]
    exact rt_i hx hb hr hlk  (()) dX9_undo_17 hP hD hS (by first | exact Nat.le_of_ble_eq_true rfl | (simp only [rm_X9_undo_0]; omega)) (by first | exact Nat.le_of_ble_eq_true rfl | (simp only [rm_X9_undo_0]; omega)) (by rfl)
def rm_X9_undo_1 : Room := ({ frames := 1, cells := 0, slots := 0, locals := 21 } : Room)
set_option maxHeartbeats 400000 in
set_option maxRecDepth 100000 in
theorem t_X9_undo_1 (l : Launch) (G : GG) (b0 sz : Nat) (h : Nat) (ad : Nat → Nat) (thr sts : Nat) (hs : Bool) (len at_ num many : Nat) (st hi : Nat → Int32) (hs6 : 1 ≤ sts ∧ sts ≤ 6) : CT l yX9_undo cX9_undo 2 (some FieldType.int) (rm_X9_undo_1) G b0 [.ref h] [oM h ad thr sts hs len at_ num many, aI G (ad 1) 68 st, aI G (ad 2) 408 hi] sz (Ri G (fun (r_ : Int32) (_ : Unit) => r_ = nI (sts - 1)) (fun (_ : Unit) => [oM h ad 0 (sts - 1) hs len at_ num many, aI G (ad 1) 68 (fun j => hi ((sts - 1) * 68 + j)), aI G (ad 2) 408 hi])) := by
  refine CT.go (by decide) (Nat.le_of_ble_eq_true rfl) (fun p e s m below meth c A ls AR QQ hx hb hr hlk hml hown hnm hts hE hA hAb hsz hP hD hS hl hQQ => ?_)
  have hK := hE.1
  have hown : s.vm.findClass RX9 = some m.cls := hown
  have hl : lv_has ls 2 [(0, .ref h)] := hl
  clear hsz
  refine lv_aload_n hx hb dX9_undo_0 rfl (lv_at hl 0 rfl) ?_
  refine lv_iconst (v := nI 0) hx hb dX9_undo_1 (by decide) ?_
  refine va_put (D := G.1) (ci := 8) (v := .int (nI 0)) (ty := .int) (C := RX9) (T := TX9) (N := 21) hx hb hts in_X9 tyX9 tyX9_ok nmX9 hown hK hP hD hS 0 rfl rfl 0 (by decide) (hts _ q1667) (fun _ h9 => h9) rfl (by decide +kernel) rfl rfl (Nat.le_of_ble_eq_true rfl) dX9_undo_2 (fun H locs hP hD hS => ?_)
  have hP : va_P G.1 vwCl [oM h ad 0 sts hs len at_ num many, aI G (ad 1) 68 st, aI G (ad 2) 408 hi] _ := hP
  have hD : va_D A [oM h ad 0 sts hs len at_ num many, aI G (ad 1) 68 st, aI G (ad 2) 408 hi] := hD
  refine lv_aload_n hx hb dX9_undo_5 rfl (lv_at hl 0 rfl) ?_
  refine va_get (D := G.1) (ci := 8) (v := .int (nI sts)) (C := RX9) (T := TX9) (N := 21) hx hb hts in_X9 hown hK hP 0 rfl rfl 3 (by decide) (hts _ q1670) (fun _ h9 => h9) rfl dX9_undo_6 ?_
  refine N_if_ne (tgt := 18) hx hb dX9_undo_9 (by decide) (by omega) (fun c_9 => ?_) (fun c_9 => ?_)
  · skip
    refine lv_aload_n hx hb dX9_undo_18 rfl (lv_at hl 0 rfl) ?_
    refine lv_dup hx hb dX9_undo_19 rfl ?_
    refine va_get (D := G.1) (ci := 8) (v := .int (nI sts)) (C := RX9) (T := TX9) (N := 21) hx hb hts in_X9 hown hK hP 0 rfl rfl 3 (by decide) (hts _ q1670) (fun _ h9 => h9) rfl dX9_undo_20 ?_
    refine lv_iconst (v := nI 1) hx hb dX9_undo_23 (by decide) ?_
    refine N_isub hx hb dX9_undo_24 (by omega) ?_
    refine va_put (D := G.1) (ci := 8) (v := .int (nI (sts - 1))) (ty := .int) (C := RX9) (T := TX9) (N := 21) hx hb hts in_X9 tyX9 tyX9_ok nmX9 hown hK hP hD hS 0 rfl rfl 3 (by decide) (hts _ q1670) (fun _ h9 => h9) rfl (by decide +kernel) rfl rfl (Nat.le_of_ble_eq_true rfl) dX9_undo_25 (fun H locs hP hD hS => ?_)
    have hP : va_P G.1 vwCl [oM h ad 0 (sts - 1) hs len at_ num many, aI G (ad 1) 68 st, aI G (ad 2) 408 hi] _ := hP
    have hD : va_D A [oM h ad 0 (sts - 1) hs len at_ num many, aI G (ad 1) 68 st, aI G (ad 2) 408 hi] := hD
    refine lv_iconst (v := nI 0) hx hb dX9_undo_28 (by decide) ?_
    refine lv_istore_n (lv' := [(1, .int (nI 0)), (0, .ref h)]) hx hb dX9_undo_29 rfl hl (by decide) rfl (fun ls hl => ?_)
    have lp_30 : ∀ (n_30 : Nat) (k : Nat), (k ≤ 68) → (68 - k) < n_30 → ∀ (H : Heap) (locs : List Loc) (ls : Array Slot), va_P G.1 vwCl [oM h ad 0 (sts - 1) hs len at_ num many, aI G (ad 1) 68 (fillTo k (fun j => hi ((sts - 1) * 68 + j)) st), aI G (ad 2) 408 hi] H → va_D A [oM h ad 0 (sts - 1) hs len at_ num many, aI G (ad 1) 68 (fillTo k (fun j => hi ((sts - 1) * 68 + j)) st), aI G (ad 2) 408 hi] → va_S A s.heap H locs → lv_has ls 2 [(0, .ref h), (1, .int (nI k))] → W p l e (rm_X9_undo_1) s m AR below meth c H locs 0 0 QQ (F0 m 30 ls []) := by
      intro n_30
      induction n_30 with
      | zero => intro k hk hn_; exact absurd hn_ (Nat.not_lt_zero _)
      | succ n_30 ih_30 =>
        intro k hk hn_30 H locs ls hP hD hS hl
        refine lv_iload_n hx hb dX9_undo_30 rfl (lv_at hl 1 rfl) ?_
        refine lv_bipush (v := nI 68) hx hb dX9_undo_31 (by decide) ?_
        refine N_icmp_ge (tgt := 62) hx hb dX9_undo_33 (by decide) (by omega) (by omega) (fun c_33 => ?_) (fun c_33 => ?_)
        · skip
          obtain rfl : k = 68 := by omega
          refine lv_aload_n hx hb dX9_undo_62 rfl (lv_at hl 0 rfl) ?_
          refine va_get (D := G.1) (ci := 8) (v := .int (nI (sts - 1))) (C := RX9) (T := TX9) (N := 21) hx hb hts in_X9 hown hK hP 0 rfl rfl 3 (by decide) (hts _ q1670) (fun _ h9 => h9) rfl dX9_undo_63 ?_
          have e_1 : ∀ j, j < 68 → (fillTo 68 (fun j => hi ((sts - 1) * 68 + j)) st) j = (fun j => hi ((sts - 1) * 68 + j)) j := by exact fill_pt
          have hP : va_P G.1 vwCl [oM h ad 0 (sts - 1) hs len at_ num many, aI G (ad 1) 68 (fun j => hi ((sts - 1) * 68 + j)), aI G (ad 2) 408 hi] _ := cong_P (q0 := 1) e_1 rfl rfl hP
          have hD : va_D A [oM h ad 0 (sts - 1) hs len at_ num many, aI G (ad 1) 68 (fun j => hi ((sts - 1) * 68 + j)), aI G (ad 2) 408 hi] := cong_D (q0 := 1) rfl rfl hD
          have hP : va_P G.1 vwCl [oM h ad 0 (sts - 1) hs len at_ num many, aI G (ad 1) 68 (fun j => hi ((sts - 1) * 68 + j)), aI G (ad 2) 408 hi] _ := hP
          have hD : va_D A [oM h ad 0 (sts - 1) hs len at_ num many, aI G (ad 1) 68 (fun j => hi ((sts - 1) * 68 + j)), aI G (ad 2) 408 hi] := hD
          rw [hQQ]
          exact rt_i hx hb hr hlk  (()) dX9_undo_66 hP hD hS (by first | exact Nat.le_of_ble_eq_true rfl | (simp only [rm_X9_undo_1]; omega)) (by first | exact Nat.le_of_ble_eq_true rfl | (simp only [rm_X9_undo_1]; omega)) (by rfl)
        · skip
          refine lv_aload_n hx hb dX9_undo_36 rfl (lv_at hl 0 rfl) ?_
          refine va_get (D := G.1) (ci := 8) (v := .ref (ad 1)) (C := RX9) (T := TX9) (N := 21) hx hb hts in_X9 hown hK hP 0 rfl rfl 1 (by decide) (hts _ q1668) (fun _ h9 => h9) rfl dX9_undo_37 ?_
          refine lv_iload_n hx hb dX9_undo_40 rfl (lv_at hl 1 rfl) ?_
          refine lv_aload_n hx hb dX9_undo_41 rfl (lv_at hl 0 rfl) ?_
          refine va_get (D := G.1) (ci := 8) (v := .ref (ad 2)) (C := RX9) (T := TX9) (N := 21) hx hb hts in_X9 hown hK hP 0 rfl rfl 2 (by decide) (hts _ q1669) (fun _ h9 => h9) rfl dX9_undo_42 ?_
          refine lv_aload_n hx hb dX9_undo_45 rfl (lv_at hl 0 rfl) ?_
          refine va_get (D := G.1) (ci := 8) (v := .int (nI (sts - 1))) (C := RX9) (T := TX9) (N := 21) hx hb hts in_X9 hown hK hP 0 rfl rfl 3 (by decide) (hts _ q1670) (fun _ h9 => h9) rfl dX9_undo_46 ?_
          refine lv_bipush (v := nI 68) hx hb dX9_undo_49 (by decide) ?_
          refine N_imul hx hb dX9_undo_51 ?_
          refine lv_iload_n hx hb dX9_undo_52 rfl (lv_at hl 1 rfl) ?_
          refine N_iadd hx hb dX9_undo_53 ?_
          refine N_iald hx hb dX9_undo_54 hK hP 2 0 rfl rfl (by omega) (by omega) ?_
          refine N_iast (ws' := [oM h ad 0 (sts - 1) hs len at_ num many, aI G (ad 1) 68 (upd (fillTo k (fun j => hi ((sts - 1) * 68 + j)) st) k (hi (((sts - 1) * 68) + k))), aI G (ad 2) 408 hi]) hx hb dX9_undo_55 hK hP hD hS 1 0 rfl rfl (by omega) (by omega) rfl (fun H locs hP hD hS => ?_)
          refine N_iinc (a := k) (b := 1) (k9 := 1) (lv' := [(1, .int (nI (k + 1))), (0, .ref h)]) hx hb dX9_undo_56 hl rfl rfl (by decide) rfl (fun ls hl => ?_)
          refine lv_goto (tgt := 30) hx hb dX9_undo_59 (by decide) ?_
          have e_2 : (upd (fillTo k (fun j => hi ((sts - 1) * 68 + j)) st) k (hi (((sts - 1) * 68) + k))) = (fillTo (k + 1) (fun j => hi ((sts - 1) * 68 + j)) st) := by exact fill_step
          have hP : va_P G.1 vwCl [oM h ad 0 (sts - 1) hs len at_ num many, aI G (ad 1) 68 (fillTo (k + 1) (fun j => hi ((sts - 1) * 68 + j)) st), aI G (ad 2) 408 hi] _ := cong_P (q0 := 1) (fun j _ => congrFun e_2 j) rfl rfl hP
          have hD : va_D A [oM h ad 0 (sts - 1) hs len at_ num many, aI G (ad 1) 68 (fillTo (k + 1) (fun j => hi ((sts - 1) * 68 + j)) st), aI G (ad 2) 408 hi] := cong_D (q0 := 1) rfl rfl hD
          have hP : va_P G.1 vwCl [oM h ad 0 (sts - 1) hs len at_ num many, aI G (ad 1) 68 (fillTo (k + 1) (fun j => hi ((sts - 1) * 68 + j)) st), aI G (ad 2) 408 hi] _ := hP
          have hD : va_D A [oM h ad 0 (sts - 1) hs len at_ num many, aI G (ad 1) 68 (fillTo (k + 1) (fun j => hi ((sts - 1) * 68 + j)) st), aI G (ad 2) 408 hi] := hD
          have hl : lv_has ls 2 [(0, .ref h), (1, .int (nI (k + 1)))] := lv_sub hl [1, 0] rfl
          exact ih_30 (k + 1) (by omega) (by omega) _ _ _ hP hD hS hl
    have e_3 : (st) = (fillTo 0 (fun j => hi ((sts - 1) * 68 + j)) st) := by exact (fill0 _ _).symm
    have hP : va_P G.1 vwCl [oM h ad 0 (sts - 1) hs len at_ num many, aI G (ad 1) 68 (fillTo 0 (fun j => hi ((sts - 1) * 68 + j)) st), aI G (ad 2) 408 hi] _ := cong_P (q0 := 1) (fun j _ => congrFun e_3 j) rfl rfl hP
    have hD : va_D A [oM h ad 0 (sts - 1) hs len at_ num many, aI G (ad 1) 68 (fillTo 0 (fun j => hi ((sts - 1) * 68 + j)) st), aI G (ad 2) 408 hi] := cong_D (q0 := 1) rfl rfl hD
    have hP : va_P G.1 vwCl [oM h ad 0 (sts - 1) hs len at_ num many, aI G (ad 1) 68 (fillTo 0 (fun j => hi ((sts - 1) * 68 + j)) st), aI G (ad 2) 408 hi] _ := hP
    have hD : va_D A [oM h ad 0 (sts - 1) hs len at_ num many, aI G (ad 1) 68 (fillTo 0 (fun j => hi ((sts - 1) * 68 + j)) st), aI G (ad 2) 408 hi] := hD
    have hl : lv_has ls 2 [(0, .ref h), (1, .int (nI 0))] := lv_sub hl [1, 0] rfl
    exact lp_30 _ 0 (by omega) (Nat.lt_succ_self _) _ _ _ hP hD hS hl
  · skip
    exfalso; omega
def rm_X9_keep : Room := ({ frames := 1, cells := 0, slots := 0, locals := 22 } : Room)
set_option maxHeartbeats 400000 in
set_option maxRecDepth 100000 in
theorem t_X9_keep (l : Launch) (G : GG) (b0 sz : Nat) (h : Nat) (ad : Nat → Nat) (thr sts : Nat) (hs : Bool) (len at_ num many : Nat) (st sn : Nat → Int32) : CT l yX9_keep cX9_keep 2 (some FieldType.int) (rm_X9_keep) G b0 [.ref h] [oM h ad thr sts hs len at_ num many, aI G (ad 1) 68 st, aI G (ad 3) 68 sn] sz (Ri G (fun (r_ : Int32) (_ : Unit) => r_ = l_sum st 64) (fun (_ : Unit) => [oM h ad 0 sts true len at_ num many, aI G (ad 1) 68 st, aI G (ad 3) 68 st])) := by
  refine CT.go (by decide) (Nat.le_of_ble_eq_true rfl) (fun p e s m below meth c A ls AR QQ hx hb hr hlk hml hown hnm hts hE hA hAb hsz hP hD hS hl hQQ => ?_)
  have hK := hE.1
  have hown : s.vm.findClass RX9 = some m.cls := hown
  have hl : lv_has ls 2 [(0, .ref h)] := hl
  clear hsz
  refine lv_aload_n hx hb dX9_keep_0 rfl (lv_at hl 0 rfl) ?_
  refine lv_iconst (v := nI 0) hx hb dX9_keep_1 (by decide) ?_
  refine va_put (D := G.1) (ci := 8) (v := .int (nI 0)) (ty := .int) (C := RX9) (T := TX9) (N := 21) hx hb hts in_X9 tyX9 tyX9_ok nmX9 hown hK hP hD hS 0 rfl rfl 0 (by decide) (hts _ q1667) (fun _ h9 => h9) rfl (by decide +kernel) rfl rfl (Nat.le_of_ble_eq_true rfl) dX9_keep_2 (fun H locs hP hD hS => ?_)
  have hP : va_P G.1 vwCl [oM h ad 0 sts hs len at_ num many, aI G (ad 1) 68 st, aI G (ad 3) 68 sn] _ := hP
  have hD : va_D A [oM h ad 0 sts hs len at_ num many, aI G (ad 1) 68 st, aI G (ad 3) 68 sn] := hD
  refine lv_iconst (v := nI 0) hx hb dX9_keep_5 (by decide) ?_
  refine lv_istore_n (lv' := [(1, .int (nI 0)), (0, .ref h)]) hx hb dX9_keep_6 rfl hl (by decide) rfl (fun ls hl => ?_)
  have lp_7 : ∀ (n_7 : Nat) (k : Nat), (k ≤ 68) → (68 - k) < n_7 → ∀ (H : Heap) (locs : List Loc) (ls : Array Slot), va_P G.1 vwCl [oM h ad 0 sts hs len at_ num many, aI G (ad 1) 68 st, aI G (ad 3) 68 (fillTo k st sn)] H → va_D A [oM h ad 0 sts hs len at_ num many, aI G (ad 1) 68 st, aI G (ad 3) 68 (fillTo k st sn)] → va_S A s.heap H locs → lv_has ls 2 [(0, .ref h), (1, .int (nI k))] → W p l e (rm_X9_keep) s m AR below meth c H locs 0 0 QQ (F0 m 7 ls []) := by
    intro n_7
    induction n_7 with
    | zero => intro k hk hn_; exact absurd hn_ (Nat.not_lt_zero _)
    | succ n_7 ih_7 =>
      intro k hk hn_7 H locs ls hP hD hS hl
      refine lv_iload_n hx hb dX9_keep_7 rfl (lv_at hl 1 rfl) ?_
      refine lv_bipush (v := nI 68) hx hb dX9_keep_8 (by decide) ?_
      refine N_icmp_ge (tgt := 31) hx hb dX9_keep_10 (by decide) (by omega) (by omega) (fun c_10 => ?_) (fun c_10 => ?_)
      · skip
        obtain rfl : k = 68 := by omega
        refine lv_aload_n hx hb dX9_keep_31 rfl (lv_at hl 0 rfl) ?_
        refine lv_iconst (v := nI 1) hx hb dX9_keep_32 (by decide) ?_
        refine va_put (D := G.1) (ci := 8) (v := .int (bI true)) (ty := .boolean) (C := RX9) (T := TX9) (N := 21) hx hb hts in_X9 tyX9 tyX9_ok nmX9 hown hK hP hD hS 0 rfl rfl 5 (by decide) (hts _ q1672) (fun _ h9 => h9) rfl (by decide +kernel) (bI_nar _) rfl (Nat.le_of_ble_eq_true rfl) dX9_keep_33 (fun H locs hP hD hS => ?_)
        have hP : va_P G.1 vwCl [oM h ad 0 sts true len at_ num many, aI G (ad 1) 68 st, aI G (ad 3) 68 (fillTo 68 st sn)] _ := hP
        have hD : va_D A [oM h ad 0 sts true len at_ num many, aI G (ad 1) 68 st, aI G (ad 3) 68 (fillTo 68 st sn)] := hD
        refine lv_aload_n hx hb dX9_keep_36 rfl (lv_at hl 0 rfl) ?_
        refine fin_i (ws' := (fun (_ : Unit) => [oM h ad 0 sts true len at_ num many, aI G (ad 1) 68 st, aI G (ad 3) 68 (fillTo 68 st sn)])) hA hS hP hD [0, 1] rfl [(true, 0), (true, 1), (false, 2)] (fun _ => rfl) (by decide) (run_V (As := []) (rest := []) (n9 := 0) hx hb hml hown hts hE hAb hl.1 hS hP hD [0, 1] rfl (by decide) (t_X9_sumOfShades l G b0 _ h ad 0 sts true len at_ num many st ) (lw_V q1747 q1749 qs61 q129 q1750) 0 rfl rfl ⟨rfl, by decide, by decide, by decide +kernel⟩ ⟨Nat.le_of_ble_eq_true rfl, Nat.le_of_ble_eq_true rfl⟩ ⟨by first | exact Nat.le_of_ble_eq_true rfl | (simp only [rm_X9_keep, rm_X9_sumOfShades]; omega), by first | exact Nat.le_of_ble_eq_true rfl | (simp only [rm_X9_keep, rm_X9_sumOfShades]; omega)⟩ dX9_keep_37 (Nat.le_of_ble_eq_true rfl) rfl rfl) (fun r_1 u_1 H locs h_1 hP hD hS => ?_)
        have hP : va_P G.1 vwCl [oM h ad 0 sts true len at_ num many, aI G (ad 1) 68 st, aI G (ad 3) 68 (fillTo 68 st sn)] _ := hP
        have hD : va_D A [oM h ad 0 sts true len at_ num many, aI G (ad 1) 68 st, aI G (ad 3) 68 (fillTo 68 st sn)] := hD
        have h_1 : r_1 = (l_sum st 64) := h_1
        rw [h_1]
        have e_2 : ∀ j, j < 68 → (fillTo 68 st sn) j = (st) j := by exact fill_pt
        have hP : va_P G.1 vwCl [oM h ad 0 sts true len at_ num many, aI G (ad 1) 68 st, aI G (ad 3) 68 st] _ := cong_P (q0 := 2) e_2 rfl rfl hP
        have hD : va_D A [oM h ad 0 sts true len at_ num many, aI G (ad 1) 68 st, aI G (ad 3) 68 st] := cong_D (q0 := 2) rfl rfl hD
        have hP : va_P G.1 vwCl [oM h ad 0 sts true len at_ num many, aI G (ad 1) 68 st, aI G (ad 3) 68 st] _ := hP
        have hD : va_D A [oM h ad 0 sts true len at_ num many, aI G (ad 1) 68 st, aI G (ad 3) 68 st] := hD
        rw [hQQ]
        exact rt_i hx hb hr hlk  (()) dX9_keep_40 hP hD hS (by first | exact Nat.le_of_ble_eq_true rfl | (simp only [rm_X9_keep]; omega)) (by first | exact Nat.le_of_ble_eq_true rfl | (simp only [rm_X9_keep]; omega)) (by rfl)
      · skip
        refine lv_aload_n hx hb dX9_keep_13 rfl (lv_at hl 0 rfl) ?_
        refine va_get (D := G.1) (ci := 8) (v := .ref (ad 3)) (C := RX9) (T := TX9) (N := 21) hx hb hts in_X9 hown hK hP 0 rfl rfl 4 (by decide) (hts _ q1671) (fun _ h9 => h9) rfl dX9_keep_14 ?_
        refine lv_iload_n hx hb dX9_keep_17 rfl (lv_at hl 1 rfl) ?_
        refine lv_aload_n hx hb dX9_keep_18 rfl (lv_at hl 0 rfl) ?_
        refine va_get (D := G.1) (ci := 8) (v := .ref (ad 1)) (C := RX9) (T := TX9) (N := 21) hx hb hts in_X9 hown hK hP 0 rfl rfl 1 (by decide) (hts _ q1668) (fun _ h9 => h9) rfl dX9_keep_19 ?_
        refine lv_iload_n hx hb dX9_keep_22 rfl (lv_at hl 1 rfl) ?_
        refine N_iald hx hb dX9_keep_23 hK hP 1 0 rfl rfl (by omega) (by omega) ?_
        refine N_iast (ws' := [oM h ad 0 sts hs len at_ num many, aI G (ad 1) 68 st, aI G (ad 3) 68 (upd (fillTo k st sn) k (st k))]) hx hb dX9_keep_24 hK hP hD hS 2 0 rfl rfl (by omega) (by omega) rfl (fun H locs hP hD hS => ?_)
        refine N_iinc (a := k) (b := 1) (k9 := 1) (lv' := [(1, .int (nI (k + 1))), (0, .ref h)]) hx hb dX9_keep_25 hl rfl rfl (by decide) rfl (fun ls hl => ?_)
        refine lv_goto (tgt := 7) hx hb dX9_keep_28 (by decide) ?_
        have e_3 : (upd (fillTo k st sn) k (st k)) = (fillTo (k + 1) st sn) := by exact fill_step
        have hP : va_P G.1 vwCl [oM h ad 0 sts hs len at_ num many, aI G (ad 1) 68 st, aI G (ad 3) 68 (fillTo (k + 1) st sn)] _ := cong_P (q0 := 2) (fun j _ => congrFun e_3 j) rfl rfl hP
        have hD : va_D A [oM h ad 0 sts hs len at_ num many, aI G (ad 1) 68 st, aI G (ad 3) 68 (fillTo (k + 1) st sn)] := cong_D (q0 := 2) rfl rfl hD
        have hP : va_P G.1 vwCl [oM h ad 0 sts hs len at_ num many, aI G (ad 1) 68 st, aI G (ad 3) 68 (fillTo (k + 1) st sn)] _ := hP
        have hD : va_D A [oM h ad 0 sts hs len at_ num many, aI G (ad 1) 68 st, aI G (ad 3) 68 (fillTo (k + 1) st sn)] := hD
        have hl : lv_has ls 2 [(0, .ref h), (1, .int (nI (k + 1)))] := lv_sub hl [1, 0] rfl
        exact ih_7 (k + 1) (by omega) (by omega) _ _ _ hP hD hS hl
  have e_4 : (sn) = (fillTo 0 st sn) := by exact (fill0 _ _).symm
  have hP : va_P G.1 vwCl [oM h ad 0 sts hs len at_ num many, aI G (ad 1) 68 st, aI G (ad 3) 68 (fillTo 0 st sn)] _ := cong_P (q0 := 2) (fun j _ => congrFun e_4 j) rfl rfl hP
  have hD : va_D A [oM h ad 0 sts hs len at_ num many, aI G (ad 1) 68 st, aI G (ad 3) 68 (fillTo 0 st sn)] := cong_D (q0 := 2) rfl rfl hD
  have hP : va_P G.1 vwCl [oM h ad 0 sts hs len at_ num many, aI G (ad 1) 68 st, aI G (ad 3) 68 (fillTo 0 st sn)] _ := hP
  have hD : va_D A [oM h ad 0 sts hs len at_ num many, aI G (ad 1) 68 st, aI G (ad 3) 68 (fillTo 0 st sn)] := hD
  have hl : lv_has ls 2 [(0, .ref h), (1, .int (nI 0))] := lv_sub hl [1, 0] rfl
  exact lp_7 _ 0 (by omega) (Nat.lt_succ_self _) _ _ _ hP hD hS hl
def rm_X9_restore_0 : Room := ({ frames := 1, cells := 0, slots := 0, locals := 22 } : Room)
set_option maxHeartbeats 400000 in
set_option maxRecDepth 100000 in
theorem t_X9_restore_0 (l : Launch) (G : GG) (b0 sz : Nat) (h : Nat) (ad : Nat → Nat) (thr sts : Nat) (hs : Bool) (len at_ num many : Nat) (st hi sn : Nat → Int32) (hh : hs = false) : CT l yX9_restore cX9_restore 2 (some FieldType.int) (rm_X9_restore_0) G b0 [.ref h] [oM h ad thr sts hs len at_ num many, aI G (ad 1) 68 st, aI G (ad 2) 408 hi, aI G (ad 3) 68 sn] sz (Ri G (fun (r_ : Int32) (_ : Unit) => r_ = nI 0) (fun (_ : Unit) => [oM h ad 1 sts hs len at_ num many, aI G (ad 1) 68 st, aI G (ad 2) 408 hi, aI G (ad 3) 68 sn])) := by
  refine CT.go (by decide) (Nat.le_of_ble_eq_true rfl) (fun p e s m below meth c A ls AR QQ hx hb hr hlk hml hown hnm hts hE hA hAb hsz hP hD hS hl hQQ => ?_)
  have hK := hE.1
  have hown : s.vm.findClass RX9 = some m.cls := hown
  have hl : lv_has ls 2 [(0, .ref h)] := hl
  clear hsz
  refine lv_aload_n hx hb dX9_restore_0 rfl (lv_at hl 0 rfl) ?_
  refine lv_iconst (v := nI 0) hx hb dX9_restore_1 (by decide) ?_
  refine va_put (D := G.1) (ci := 8) (v := .int (nI 0)) (ty := .int) (C := RX9) (T := TX9) (N := 21) hx hb hts in_X9 tyX9 tyX9_ok nmX9 hown hK hP hD hS 0 rfl rfl 0 (by decide) (hts _ q1667) (fun _ h9 => h9) rfl (by decide +kernel) rfl rfl (Nat.le_of_ble_eq_true rfl) dX9_restore_2 (fun H locs hP hD hS => ?_)
  have hP : va_P G.1 vwCl [oM h ad 0 sts hs len at_ num many, aI G (ad 1) 68 st, aI G (ad 2) 408 hi, aI G (ad 3) 68 sn] _ := hP
  have hD : va_D A [oM h ad 0 sts hs len at_ num many, aI G (ad 1) 68 st, aI G (ad 2) 408 hi, aI G (ad 3) 68 sn] := hD
  refine lv_aload_n hx hb dX9_restore_5 rfl (lv_at hl 0 rfl) ?_
  refine va_get (D := G.1) (ci := 8) (v := .int (bI hs)) (C := RX9) (T := TX9) (N := 21) hx hb hts in_X9 hown hK hP 0 rfl rfl 5 (by decide) (hts _ q1672) (fun _ h9 => h9) rfl dX9_restore_6 ?_
  refine B_if_ne (tgt := 18) hx hb dX9_restore_9 (by decide) (fun c_9 => ?_) (fun c_9 => ?_)
  · skip
    exfalso; rw [hh] at c_9; cases c_9
  · skip
    refine lv_aload_n hx hb dX9_restore_12 rfl (lv_at hl 0 rfl) ?_
    refine lv_iconst (v := nI 1) hx hb dX9_restore_13 (by decide) ?_
    refine fin_i (ws' := (fun (_ : Unit) => [oM h ad 1 sts hs len at_ num many, aI G (ad 1) 68 st, aI G (ad 2) 408 hi, aI G (ad 3) 68 sn])) hA hS hP hD [0] rfl [(true, 0), (false, 1), (false, 2), (false, 3)] (fun _ => rfl) (by decide) (run_V (As := [.int (nI 1)]) (rest := []) (n9 := 1) hx hb hml hown hts hE hAb hl.1 hS hP hD [0] rfl (by decide) (t_X9_fails l G b0 _ h ad 0 sts hs len at_ num many 1 ) (lw_V q1739 q1741 qs60 q129 q1742) 0 rfl rfl ⟨rfl, by decide, by decide, by decide +kernel⟩ ⟨Nat.le_of_ble_eq_true rfl, Nat.le_of_ble_eq_true rfl⟩ ⟨by first | exact Nat.le_of_ble_eq_true rfl | (simp only [rm_X9_restore_0, rm_X9_fails]; omega), by first | exact Nat.le_of_ble_eq_true rfl | (simp only [rm_X9_restore_0, rm_X9_fails]; omega)⟩ dX9_restore_14 (Nat.le_of_ble_eq_true rfl) rfl rfl) (fun r_1 u_1 H locs h_1 hP hD hS => ?_)
    have hP : va_P G.1 vwCl [oM h ad 1 sts hs len at_ num many, aI G (ad 1) 68 st, aI G (ad 2) 408 hi, aI G (ad 3) 68 sn] _ := hP
    have hD : va_D A [oM h ad 1 sts hs len at_ num many, aI G (ad 1) 68 st, aI G (ad 2) 408 hi, aI G (ad 3) 68 sn] := hD
    have h_1 : r_1 = (nI 0) := h_1
    rw [h_1]
    rw [hQQ]
    exact rt_i hx hb hr hlk  (()) dX9_restore_17 hP hD hS (by first | exact Nat.le_of_ble_eq_true rfl | (simp only [rm_X9_restore_0]; omega)) (by first | exact Nat.le_of_ble_eq_true rfl | (simp only [rm_X9_restore_0]; omega)) (by rfl)
def rm_X9_restore_1 : Room := ({ frames := 1, cells := 0, slots := 0, locals := 22 } : Room)
set_option maxHeartbeats 400000 in
set_option maxRecDepth 100000 in
theorem t_X9_restore_1 (l : Launch) (G : GG) (b0 sz : Nat) (h : Nat) (ad : Nat → Nat) (thr sts : Nat) (hs : Bool) (len at_ num many : Nat) (st hi sn : Nat → Int32) (hh : hs = true) (hs6 : sts ≤ 6) : CT l yX9_restore cX9_restore 2 (some FieldType.int) (rm_X9_restore_1) G b0 [.ref h] [oM h ad thr sts hs len at_ num many, aI G (ad 1) 68 st, aI G (ad 2) 408 hi, aI G (ad 3) 68 sn] sz (Ri G (fun (r_ : Int32) (_ : Unit) => r_ = l_sum sn 64) (fun (_ : Unit) => [oM h ad 0 (recN sts) hs len at_ num many, aI G (ad 1) 68 sn, aI G (ad 2) 408 (recH st hi sts), aI G (ad 3) 68 sn])) := by
  refine CT.go (by decide) (Nat.le_of_ble_eq_true rfl) (fun p e s m below meth c A ls AR QQ hx hb hr hlk hml hown hnm hts hE hA hAb hsz hP hD hS hl hQQ => ?_)
  have hK := hE.1
  have hown : s.vm.findClass RX9 = some m.cls := hown
  have hl : lv_has ls 2 [(0, .ref h)] := hl
  clear hsz
  refine lv_aload_n hx hb dX9_restore_0 rfl (lv_at hl 0 rfl) ?_
  refine lv_iconst (v := nI 0) hx hb dX9_restore_1 (by decide) ?_
  refine va_put (D := G.1) (ci := 8) (v := .int (nI 0)) (ty := .int) (C := RX9) (T := TX9) (N := 21) hx hb hts in_X9 tyX9 tyX9_ok nmX9 hown hK hP hD hS 0 rfl rfl 0 (by decide) (hts _ q1667) (fun _ h9 => h9) rfl (by decide +kernel) rfl rfl (Nat.le_of_ble_eq_true rfl) dX9_restore_2 (fun H locs hP hD hS => ?_)
  have hP : va_P G.1 vwCl [oM h ad 0 sts hs len at_ num many, aI G (ad 1) 68 st, aI G (ad 2) 408 hi, aI G (ad 3) 68 sn] _ := hP
  have hD : va_D A [oM h ad 0 sts hs len at_ num many, aI G (ad 1) 68 st, aI G (ad 2) 408 hi, aI G (ad 3) 68 sn] := hD
  refine lv_aload_n hx hb dX9_restore_5 rfl (lv_at hl 0 rfl) ?_
  refine va_get (D := G.1) (ci := 8) (v := .int (bI hs)) (C := RX9) (T := TX9) (N := 21) hx hb hts in_X9 hown hK hP 0 rfl rfl 5 (by decide) (hts _ q1672) (fun _ h9 => h9) rfl dX9_restore_6 ?_
  refine B_if_ne (tgt := 18) hx hb dX9_restore_9 (by decide) (fun c_9 => ?_) (fun c_9 => ?_)
  · skip
    refine lv_aload_n hx hb dX9_restore_18 rfl (lv_at hl 0 rfl) ?_
    refine fin_v (ws' := (fun (_ : Unit) => [oM h ad 0 (recN sts) hs len at_ num many, aI G (ad 1) 68 st, aI G (ad 2) 408 (recH st hi sts), aI G (ad 3) 68 sn])) hA hS hP hD [0, 1, 2] rfl [(true, 0), (true, 1), (true, 2), (false, 3)] (fun _ => rfl) (by decide) (run_V (As := []) (rest := []) (n9 := 0) hx hb hml hown hts hE hAb hl.1 hS hP hD [0, 1, 2] rfl (by decide) (t_X9_record l G b0 _ h ad 0 sts hs len at_ num many st hi (by omega)) (lw_V q1755 q1757 qs62 q129 q1758) 0 rfl rfl ⟨rfl, by decide, by decide, by decide +kernel⟩ ⟨Nat.le_of_ble_eq_true rfl, Nat.le_of_ble_eq_true rfl⟩ ⟨by first | exact Nat.le_of_ble_eq_true rfl | (simp only [rm_X9_restore_1, rm_X9_record]; omega), by first | exact Nat.le_of_ble_eq_true rfl | (simp only [rm_X9_restore_1, rm_X9_record]; omega)⟩ dX9_restore_19 (Nat.le_of_ble_eq_true rfl) rfl rfl) (fun u_1 H locs h_1 hP hD hS => ?_)
    have hP : va_P G.1 vwCl [oM h ad 0 (recN sts) hs len at_ num many, aI G (ad 1) 68 st, aI G (ad 2) 408 (recH st hi sts), aI G (ad 3) 68 sn] _ := hP
    have hD : va_D A [oM h ad 0 (recN sts) hs len at_ num many, aI G (ad 1) 68 st, aI G (ad 2) 408 (recH st hi sts), aI G (ad 3) 68 sn] := hD
    refine lv_iconst (v := nI 0) hx hb dX9_restore_22 (by decide) ?_
    refine lv_istore_n (lv' := [(1, .int (nI 0)), (0, .ref h)]) hx hb dX9_restore_23 rfl hl (by decide) rfl (fun ls hl => ?_)
    have lp_24 : ∀ (n_24 : Nat) (k : Nat), (k ≤ 68) → (68 - k) < n_24 → ∀ (H : Heap) (locs : List Loc) (ls : Array Slot), va_P G.1 vwCl [oM h ad 0 (recN sts) hs len at_ num many, aI G (ad 1) 68 (fillTo k sn st), aI G (ad 2) 408 (recH st hi sts), aI G (ad 3) 68 sn] H → va_D A [oM h ad 0 (recN sts) hs len at_ num many, aI G (ad 1) 68 (fillTo k sn st), aI G (ad 2) 408 (recH st hi sts), aI G (ad 3) 68 sn] → va_S A s.heap H locs → lv_has ls 2 [(0, .ref h), (1, .int (nI k))] → W p l e (rm_X9_restore_1) s m AR below meth c H locs 0 0 QQ (F0 m 24 ls []) := by
      intro n_24
      induction n_24 with
      | zero => intro k hk hn_; exact absurd hn_ (Nat.not_lt_zero _)
      | succ n_24 ih_24 =>
        intro k hk hn_24 H locs ls hP hD hS hl
        refine lv_iload_n hx hb dX9_restore_24 rfl (lv_at hl 1 rfl) ?_
        refine lv_bipush (v := nI 68) hx hb dX9_restore_25 (by decide) ?_
        refine N_icmp_ge (tgt := 48) hx hb dX9_restore_27 (by decide) (by omega) (by omega) (fun c_27 => ?_) (fun c_27 => ?_)
        · skip
          obtain rfl : k = 68 := by omega
          have e_2 : ∀ j, j < 68 → (fillTo 68 sn st) j = (sn) j := by exact fill_pt
          have hP : va_P G.1 vwCl [oM h ad 0 (recN sts) hs len at_ num many, aI G (ad 1) 68 sn, aI G (ad 2) 408 (recH st hi sts), aI G (ad 3) 68 sn] _ := cong_P (q0 := 1) e_2 rfl rfl hP
          have hD : va_D A [oM h ad 0 (recN sts) hs len at_ num many, aI G (ad 1) 68 sn, aI G (ad 2) 408 (recH st hi sts), aI G (ad 3) 68 sn] := cong_D (q0 := 1) rfl rfl hD
          have hP : va_P G.1 vwCl [oM h ad 0 (recN sts) hs len at_ num many, aI G (ad 1) 68 sn, aI G (ad 2) 408 (recH st hi sts), aI G (ad 3) 68 sn] _ := hP
          have hD : va_D A [oM h ad 0 (recN sts) hs len at_ num many, aI G (ad 1) 68 sn, aI G (ad 2) 408 (recH st hi sts), aI G (ad 3) 68 sn] := hD
          refine lv_aload_n hx hb dX9_restore_48 rfl (lv_at hl 0 rfl) ?_
          refine fin_i (ws' := (fun (_ : Unit) => [oM h ad 0 (recN sts) hs len at_ num many, aI G (ad 1) 68 sn, aI G (ad 2) 408 (recH st hi sts), aI G (ad 3) 68 sn])) hA hS hP hD [0, 1] rfl [(true, 0), (true, 1), (false, 2), (false, 3)] (fun _ => rfl) (by decide) (run_V (As := []) (rest := []) (n9 := 0) hx hb hml hown hts hE hAb hl.1 hS hP hD [0, 1] rfl (by decide) (t_X9_sumOfShades l G b0 _ h ad 0 (recN sts) hs len at_ num many sn ) (lw_V q1747 q1749 qs61 q129 q1750) 0 rfl rfl ⟨rfl, by decide, by decide, by decide +kernel⟩ ⟨Nat.le_of_ble_eq_true rfl, Nat.le_of_ble_eq_true rfl⟩ ⟨by first | exact Nat.le_of_ble_eq_true rfl | (simp only [rm_X9_restore_1, rm_X9_sumOfShades]; omega), by first | exact Nat.le_of_ble_eq_true rfl | (simp only [rm_X9_restore_1, rm_X9_sumOfShades]; omega)⟩ dX9_restore_49 (Nat.le_of_ble_eq_true rfl) rfl rfl) (fun r_3 u_3 H locs h_3 hP hD hS => ?_)
          have hP : va_P G.1 vwCl [oM h ad 0 (recN sts) hs len at_ num many, aI G (ad 1) 68 sn, aI G (ad 2) 408 (recH st hi sts), aI G (ad 3) 68 sn] _ := hP
          have hD : va_D A [oM h ad 0 (recN sts) hs len at_ num many, aI G (ad 1) 68 sn, aI G (ad 2) 408 (recH st hi sts), aI G (ad 3) 68 sn] := hD
          have h_3 : r_3 = (l_sum sn 64) := h_3
          rw [h_3]
          rw [hQQ]
          exact rt_i hx hb hr hlk  (()) dX9_restore_52 hP hD hS (by first | exact Nat.le_of_ble_eq_true rfl | (simp only [rm_X9_restore_1]; omega)) (by first | exact Nat.le_of_ble_eq_true rfl | (simp only [rm_X9_restore_1]; omega)) (by rfl)
        · skip
          refine lv_aload_n hx hb dX9_restore_30 rfl (lv_at hl 0 rfl) ?_
          refine va_get (D := G.1) (ci := 8) (v := .ref (ad 1)) (C := RX9) (T := TX9) (N := 21) hx hb hts in_X9 hown hK hP 0 rfl rfl 1 (by decide) (hts _ q1668) (fun _ h9 => h9) rfl dX9_restore_31 ?_
          refine lv_iload_n hx hb dX9_restore_34 rfl (lv_at hl 1 rfl) ?_
          refine lv_aload_n hx hb dX9_restore_35 rfl (lv_at hl 0 rfl) ?_
          refine va_get (D := G.1) (ci := 8) (v := .ref (ad 3)) (C := RX9) (T := TX9) (N := 21) hx hb hts in_X9 hown hK hP 0 rfl rfl 4 (by decide) (hts _ q1671) (fun _ h9 => h9) rfl dX9_restore_36 ?_
          refine lv_iload_n hx hb dX9_restore_39 rfl (lv_at hl 1 rfl) ?_
          refine N_iald hx hb dX9_restore_40 hK hP 3 0 rfl rfl (by omega) (by omega) ?_
          refine N_iast (ws' := [oM h ad 0 (recN sts) hs len at_ num many, aI G (ad 1) 68 (upd (fillTo k sn st) k (sn k)), aI G (ad 2) 408 (recH st hi sts), aI G (ad 3) 68 sn]) hx hb dX9_restore_41 hK hP hD hS 1 0 rfl rfl (by omega) (by omega) rfl (fun H locs hP hD hS => ?_)
          refine N_iinc (a := k) (b := 1) (k9 := 1) (lv' := [(1, .int (nI (k + 1))), (0, .ref h)]) hx hb dX9_restore_42 hl rfl rfl (by decide) rfl (fun ls hl => ?_)
          refine lv_goto (tgt := 24) hx hb dX9_restore_45 (by decide) ?_
          have e_4 : (upd (fillTo k sn st) k (sn k)) = (fillTo (k + 1) sn st) := by exact fill_step
          have hP : va_P G.1 vwCl [oM h ad 0 (recN sts) hs len at_ num many, aI G (ad 1) 68 (fillTo (k + 1) sn st), aI G (ad 2) 408 (recH st hi sts), aI G (ad 3) 68 sn] _ := cong_P (q0 := 1) (fun j _ => congrFun e_4 j) rfl rfl hP
          have hD : va_D A [oM h ad 0 (recN sts) hs len at_ num many, aI G (ad 1) 68 (fillTo (k + 1) sn st), aI G (ad 2) 408 (recH st hi sts), aI G (ad 3) 68 sn] := cong_D (q0 := 1) rfl rfl hD
          have hP : va_P G.1 vwCl [oM h ad 0 (recN sts) hs len at_ num many, aI G (ad 1) 68 (fillTo (k + 1) sn st), aI G (ad 2) 408 (recH st hi sts), aI G (ad 3) 68 sn] _ := hP
          have hD : va_D A [oM h ad 0 (recN sts) hs len at_ num many, aI G (ad 1) 68 (fillTo (k + 1) sn st), aI G (ad 2) 408 (recH st hi sts), aI G (ad 3) 68 sn] := hD
          have hl : lv_has ls 2 [(0, .ref h), (1, .int (nI (k + 1)))] := lv_sub hl [1, 0] rfl
          exact ih_24 (k + 1) (by omega) (by omega) _ _ _ hP hD hS hl
    have e_5 : (st) = (fillTo 0 sn st) := by exact (fill0 _ _).symm
    have hP : va_P G.1 vwCl [oM h ad 0 (recN sts) hs len at_ num many, aI G (ad 1) 68 (fillTo 0 sn st), aI G (ad 2) 408 (recH st hi sts), aI G (ad 3) 68 sn] _ := cong_P (q0 := 1) (fun j _ => congrFun e_5 j) rfl rfl hP
    have hD : va_D A [oM h ad 0 (recN sts) hs len at_ num many, aI G (ad 1) 68 (fillTo 0 sn st), aI G (ad 2) 408 (recH st hi sts), aI G (ad 3) 68 sn] := cong_D (q0 := 1) rfl rfl hD
    have hP : va_P G.1 vwCl [oM h ad 0 (recN sts) hs len at_ num many, aI G (ad 1) 68 (fillTo 0 sn st), aI G (ad 2) 408 (recH st hi sts), aI G (ad 3) 68 sn] _ := hP
    have hD : va_D A [oM h ad 0 (recN sts) hs len at_ num many, aI G (ad 1) 68 (fillTo 0 sn st), aI G (ad 2) 408 (recH st hi sts), aI G (ad 3) 68 sn] := hD
    have hl : lv_has ls 2 [(0, .ref h), (1, .int (nI 0))] := lv_sub hl [1, 0] rfl
    exact lp_24 _ 0 (by omega) (Nat.lt_succ_self _) _ _ _ hP hD hS hl
  · skip
    exfalso; rw [hh] at c_9; cases c_9
def rm_X9_savedStates : Room := ({ frames := 0, cells := 0, slots := 0, locals := 0 } : Room)
set_option maxHeartbeats 400000 in
set_option maxRecDepth 100000 in
theorem t_X9_savedStates (l : Launch) (G : GG) (b0 sz : Nat) (h : Nat) (ad : Nat → Nat) (thr sts : Nat) (hs : Bool) (len at_ num many : Nat) : CT l yX9_savedStates cX9_savedStates 1 (some FieldType.int) (rm_X9_savedStates) G b0 [.ref h] [oM h ad thr sts hs len at_ num many] sz (Ri G (fun (r_ : Int32) (_ : Unit) => r_ = nI sts) (fun (_ : Unit) => [oM h ad 0 sts hs len at_ num many])) := by
  refine CT.go (by decide) (Nat.le_of_ble_eq_true rfl) (fun p e s m below meth c A ls AR QQ hx hb hr hlk hml hown hnm hts hE hA hAb hsz hP hD hS hl hQQ => ?_)
  have hK := hE.1
  have hown : s.vm.findClass RX9 = some m.cls := hown
  have hl : lv_has ls 1 [(0, .ref h)] := hl
  clear hsz
  refine lv_aload_n hx hb dX9_savedStates_0 rfl (lv_at hl 0 rfl) ?_
  refine lv_iconst (v := nI 0) hx hb dX9_savedStates_1 (by decide) ?_
  refine va_put (D := G.1) (ci := 8) (v := .int (nI 0)) (ty := .int) (C := RX9) (T := TX9) (N := 21) hx hb hts in_X9 tyX9 tyX9_ok nmX9 hown hK hP hD hS 0 rfl rfl 0 (by decide) (hts _ q1667) (fun _ h9 => h9) rfl (by decide +kernel) rfl rfl (Nat.le_of_ble_eq_true rfl) dX9_savedStates_2 (fun H locs hP hD hS => ?_)
  have hP : va_P G.1 vwCl [oM h ad 0 sts hs len at_ num many] _ := hP
  have hD : va_D A [oM h ad 0 sts hs len at_ num many] := hD
  refine lv_aload_n hx hb dX9_savedStates_5 rfl (lv_at hl 0 rfl) ?_
  refine va_get (D := G.1) (ci := 8) (v := .int (nI sts)) (C := RX9) (T := TX9) (N := 21) hx hb hts in_X9 hown hK hP 0 rfl rfl 3 (by decide) (hts _ q1670) (fun _ h9 => h9) rfl dX9_savedStates_6 ?_
  rw [hQQ]
  exact rt_i hx hb hr hlk  (()) dX9_savedStates_9 hP hD hS (by first | exact Nat.le_of_ble_eq_true rfl | (simp only [rm_X9_savedStates]; omega)) (by first | exact Nat.le_of_ble_eq_true rfl | (simp only [rm_X9_savedStates]; omega)) (by rfl)
