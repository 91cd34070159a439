/-! ===== Splitter ===== -/
/-- a line split: h sums, then h differences -/
def splL (f : Nat → Int32) (o t h : Nat) : Nat → Int32 := fun j => if j < h then sumO (f (o + 2 * j * t)) (f (o + (2 * j + 1) * t)) else f (o + 2 * (j - h) * t) - f (o + (2 * (j - h) + 1) * t)
/-- a line brought back -/
def joiL (f : Nat → Int32) (o t h : Nat) : Nat → Int32 := fun j => oneO (f (o + j / 2 * t)) (f (o + (h + j / 2) * t)) (j % 2)
/-- k places of a line laid into a row -/
def putF (row line : Nat → Int32) (o t : Nat) : Nat → Nat → Int32
  | 0 => row
  | k + 1 => upd (putF row line o t k) (o + k * t) (line k)
theorem putF_cong {row l1 l2 : Nat → Int32} {o t n : Nat} (h : ∀ j, j < n → l1 j = l2 j) : putF row l1 o t n = putF row l2 o t n := by
  induction n with
  | zero => rfl
  | succ n ih =>
    show upd _ _ _ = upd _ _ _
    rw [ih (fun j hj => h j (by omega)), h n (by omega)]
def spO (f : Nat → Int32) (o t n : Nat) : Nat → Int32 := putF f (splL f o t (n / 2)) o t n
def joO (f : Nat → Int32) (o t n : Nat) : Nat → Int32 := putF f (joiL f o t (n / 2)) o t n
def rowS (f : Nat → Int32) (n : Nat) : Nat → Nat → Int32
  | 0 => f
  | k + 1 => spO (rowS f n k) (8 * k) 1 n
def colS (f : Nat → Int32) (n : Nat) : Nat → Nat → Int32
  | 0 => f
  | k + 1 => spO (colS f n k) k 8 n
def colJ (f : Nat → Int32) (n : Nat) : Nat → Nat → Int32
  | 0 => f
  | k + 1 => joO (colJ f n k) k 8 n
def rowJ (f : Nat → Int32) (n : Nat) : Nat → Nat → Int32
  | 0 => f
  | k + 1 => joO (rowJ f n k) (8 * k) 1 n
/-- the side of the square that is left behind i levels -/
def szL (i : Nat) : Nat := 8 / 2 ^ i
theorem szL_in {i : Nat} (h : i < 3) : szL i = 8 ∨ szL i = 4 ∨ szL i = 2 := by
  have : ∀ i, i < 3 → szL i = 8 ∨ szL i = 4 ∨ szL i = 2 := by decide
  exact this i h
/-- the parts, by the levels: split i levels deep -/
def splitP (f : Nat → Int32) : Nat → Nat → Int32
  | 0 => f
  | i + 1 => colS (rowS (splitP f i) (szL i) (szL i)) (szL i) (szL i)
/-- the picture that comes back: i levels are left to join -/
def joinP : Nat → (Nat → Int32) → Nat → Int32
  | 0, f => f
  | i + 1, f => joinP i (rowJ (colJ f (szL i) (szL i)) (szL i) (szL i))
/-- the line's contents while it is made: k sums and k differences -/
def twoF (k h : Nat) (g f : Nat → Int32) : Nat → Int32 := fun j => if j < k ∨ (h ≤ j ∧ j < h + k) then g j else f j
theorem twoF_0 {h : Nat} {g f : Nat → Int32} : twoF 0 h g f = f := by
  funext j
  have : ¬ (j < 0 ∨ (h ≤ j ∧ j < h + 0)) := by omega
  simp only [twoF, this, if_false]
theorem twoF_step {k h : Nat} {f o t : Nat} {r g : Nat → Int32} (hk : k < h) : upd (upd (twoF k h (splL r o t h) g) k (sumO (r (o + 2 * k * t)) (r (o + (2 * k + 1) * t)))) (h + k) (r (o + 2 * k * t) - r (o + (2 * k + 1) * t)) = twoF (k + 1) h (splL r o t h) g := by
  funext j
  by_cases h1 : j = h + k
  · subst h1
    have a1 : (h + k < k + 1 ∨ (h ≤ h + k ∧ h + k < h + (k + 1))) := by omega
    have a2 : ¬ (h + k < h) := by omega
    simp only [upd, twoF, splL, a1, a2, if_true, if_false, Nat.add_sub_cancel_left]
  · by_cases h2 : j = k
    · subst h2
      have a1 : (j < j + 1 ∨ (h ≤ j ∧ j < h + (j + 1))) := by omega
      simp only [upd, twoF, splL, a1, h1, hk, if_true, if_false]
    · have a1 : (j < k + 1 ∨ (h ≤ j ∧ j < h + (k + 1))) ↔ (j < k ∨ (h ≤ j ∧ j < h + k)) := by omega
      simp only [upd, twoF, h1, h2, a1, if_false]
theorem twoF_all {h n : Nat} {g f : Nat → Int32} (hn : n = 2 * h) : ∀ j, j < n → twoF h h g f j = g j := by
  intro j hj
  have : (j < h ∨ (h ≤ j ∧ j < h + h)) := by omega
  simp only [twoF, this, if_true]
theorem joi_step {k h : Nat} {r g : Nat → Int32} {o t : Nat} : upd (upd (fillTo (2 * k) (joiL r o t h) g) (2 * k) (oneO (r (o + k * t)) (r (o + (h + k) * t)) 0)) (2 * k + 1) (oneO (r (o + k * t)) (r (o + (h + k) * t)) 1) = fillTo (2 * (k + 1)) (joiL r o t h) g := by
  funext j
  by_cases h1 : j = 2 * k + 1
  · subst h1
    have a1 : 2 * k + 1 < 2 * (k + 1) := by omega
    have a2 : (2 * k + 1) / 2 = k := by omega
    have a3 : (2 * k + 1) % 2 = 1 := by omega
    simp only [upd, fillTo, joiL, a1, a2, a3, if_true]
  · by_cases h2 : j = 2 * k
    · subst h2
      have a1 : 2 * k < 2 * (k + 1) := by omega
      have a2 : (2 * k) / 2 = k := by omega
      have a3 : (2 * k) % 2 = 0 := by omega
      simp only [upd, fillTo, joiL, a1, a2, a3, h1, if_true, if_false]
    · have a1 : j < 2 * (k + 1) ↔ j < 2 * k := by omega
      simp only [upd, fillTo, h1, h2, a1, if_false]
def rm_X6_put : Room := ({ frames := 0, cells := 0, slots := 0, locals := 0 } : Room)
set_option maxHeartbeats 400000 in
set_option maxRecDepth 100000 in
theorem t_X6_put (l : Launch) (G : GG) (b0 sz : Nat) (h0 h1 h2 : Nat) (ln f : Nat → Int32) (o t n : Nat) (ht : t = 1 ∨ t = 8) (hn : n = 8 ∨ n = 4 ∨ n = 2) (ho : (t = 1 → o + n ≤ 64) ∧ (t = 8 → o + 8 * n ≤ 71)) : CT l yX6_put cX6_put 6 none (rm_X6_put) G b0 [.ref h0, .ref h2, .int (nI o), .int (nI t), .int (nI n)] [oX h0 5 [.ref h1], aI G h1 8 ln, aI G h2 64 f] sz (Rv G (fun (_ : Unit) => True) (fun (_ : Unit) => [oX h0 5 [.ref h1], aI G h1 8 ln, aI G h2 64 (putF f ln o t n)])) := by
  refine CT.go (by decide) (Nat.le_of_ble_eq_true rfl) (fun p e s m below meth c A ls AR QQ hx hb hr hlk hml hown hnm hts hE hA hAb hsz hP hD hS hl hQQ => ?_)
  have hK := hE.1
  have hown : s.vm.findClass RX6 = some m.cls := hown
  have hl : lv_has ls 6 [(0, .ref h0), (1, .ref h2), (2, .int (nI o)), (3, .int (nI t)), (4, .int (nI n))] := hl
  clear hsz
  refine lv_iconst (v := nI 0) hx hb dX6_put_0 (by decide) ?_
  refine lv_istore (lv' := [(5, .int (nI 0)), (0, .ref h0), (1, .ref h2), (2, .int (nI o)), (3, .int (nI t)), (4, .int (nI n))]) hx hb dX6_put_1 hl (by decide) rfl (fun ls hl => ?_)
  have lp_3 : ∀ (n_3 : Nat) (k : Nat), (k ≤ n) → (n - k) < n_3 → ∀ (H : Heap) (locs : List Loc) (ls : Array Slot), va_P G.1 vwCl [oX h0 5 [.ref h1], aI G h1 8 ln, aI G h2 64 (putF f ln o t k)] H → va_D A [oX h0 5 [.ref h1], aI G h1 8 ln, aI G h2 64 (putF f ln o t k)] → va_S A s.heap H locs → lv_has ls 6 [(0, .ref h0), (1, .ref h2), (2, .int (nI o)), (3, .int (nI t)), (4, .int (nI n)), (5, .int (nI k))] → W p l e (rm_X6_put) s m AR below meth c H locs 0 0 QQ (F0 m 3 ls []) := by
    intro n_3
    induction n_3 with
    | zero => intro k hk hn_; exact absurd hn_ (Nat.not_lt_zero _)
    | succ n_3 ih_3 =>
      intro k hk hn_3 H locs ls hP hD hS hl
      refine lv_iload hx hb dX6_put_3 (lv_at hl 5 rfl) ?_
      refine lv_iload hx hb dX6_put_5 (lv_at hl 4 rfl) ?_
      refine N_icmp_ge (tgt := 31) hx hb dX6_put_7 (by decide) (by omega) (by omega) (fun c_7 => ?_) (fun c_7 => ?_)
      · skip
        have ek_ : k = n := by omega
        rw [ek_] at hP hD
        have hl : lv_has ls 6 [(0, .ref h0), (1, .ref h2), (2, .int (nI o)), (3, .int (nI t)), (4, .int (nI n))] := lv_sub hl [0, 1, 2, 3, 4] rfl
        rw [hQQ]
        exact rt_v hx hb hr hlk (()) dX6_put_31 hP hD hS (by first | exact Nat.le_of_ble_eq_true rfl | (simp only [rm_X6_put]; omega)) (by first | exact Nat.le_of_ble_eq_true rfl | (simp only [rm_X6_put]; omega)) trivial
      · skip
        refine lv_aload_n hx hb dX6_put_10 rfl (lv_at hl 1 rfl) ?_
        refine lv_iload_n hx hb dX6_put_11 rfl (lv_at hl 2 rfl) ?_
        refine lv_iload hx hb dX6_put_12 (lv_at hl 5 rfl) ?_
        refine lv_iload_n hx hb dX6_put_14 rfl (lv_at hl 3 rfl) ?_
        refine N_imul hx hb dX6_put_15 ?_
        refine N_iadd hx hb dX6_put_16 ?_
        refine lv_aload_n hx hb dX6_put_17 rfl (lv_at hl 0 rfl) ?_
        refine va_get (D := G.1) (ci := 5) (v := .ref h1) (C := RX6) (T := TX6) (N := 1) hx hb hts in_X6 hown hK hP 0 rfl rfl 0 (by decide) (hts _ q366) (fun _ h9 => h9) rfl dX6_put_18 ?_
        refine lv_iload hx hb dX6_put_21 (lv_at hl 5 rfl) ?_
        refine N_iald hx hb dX6_put_23 hK hP 1 0 rfl rfl (by omega) (by omega) ?_
        refine N_iast (ws' := [oX h0 5 [.ref h1], aI G h1 8 ln, aI G h2 64 (upd (putF f ln o t k) (o + (k * t)) (ln k))]) hx hb dX6_put_24 hK hP hD hS 2 0 rfl rfl (by rcases ht with rfl | rfl <;> omega) (by omega) rfl (fun H locs hP hD hS => ?_)
        refine N_iinc (a := k) (b := 1) (k9 := 5) (lv' := [(5, .int (nI (k + 1))), (0, .ref h0), (1, .ref h2), (2, .int (nI o)), (3, .int (nI t)), (4, .int (nI n))]) hx hb dX6_put_25 hl rfl rfl (by decide) rfl (fun ls hl => ?_)
        refine lv_goto (tgt := 3) hx hb dX6_put_28 (by decide) ?_
        have hP : va_P G.1 vwCl [oX h0 5 [.ref h1], aI G h1 8 ln, aI G h2 64 (putF f ln o t (k + 1))] _ := hP
        have hD : va_D A [oX h0 5 [.ref h1], aI G h1 8 ln, aI G h2 64 (putF f ln o t (k + 1))] := hD
        have hl : lv_has ls 6 [(0, .ref h0), (1, .ref h2), (2, .int (nI o)), (3, .int (nI t)), (4, .int (nI n)), (5, .int (nI (k + 1)))] := lv_sub hl [1, 2, 3, 4, 5, 0] rfl
        exact ih_3 (k + 1) (by omega) (by omega) _ _ _ hP hD hS hl
  have hP : va_P G.1 vwCl [oX h0 5 [.ref h1], aI G h1 8 ln, aI G h2 64 (putF f ln o t 0)] _ := hP
  have hD : va_D A [oX h0 5 [.ref h1], aI G h1 8 ln, aI G h2 64 (putF f ln o t 0)] := hD
  have hl : lv_has ls 6 [(0, .ref h0), (1, .ref h2), (2, .int (nI o)), (3, .int (nI t)), (4, .int (nI n)), (5, .int (nI 0))] := lv_sub hl [1, 2, 3, 4, 5, 0] rfl
  exact lp_3 _ 0 (by omega) (Nat.lt_succ_self _) _ _ _ hP hD hS hl
def rm_X6_split_2_line : Room := ({ frames := 1, cells := 0, slots := 0, locals := 28 } : Room)
set_option maxHeartbeats 400000 in
set_option maxRecDepth 100000 in
theorem t_X6_split_2_line (l : Launch) (G : GG) (b0 sz : Nat) (h0 h1 h2 : Nat) (ln f : Nat → Int32) (o t n : Nat) (ht : t = 1 ∨ t = 8) (hn : n = 8 ∨ n = 4 ∨ n = 2) (ho : (t = 1 → o + n ≤ 64) ∧ (t = 8 → o + 8 * n ≤ 71)) : CT l yX6_split_2 cX6_split_2 9 none (rm_X6_split_2_line) G b0 [.ref h0, .ref h2, .int (nI o), .int (nI t), .int (nI n)] [oX h0 5 [.ref h1], aI G h1 8 ln, aI G h2 64 f] sz (Rv G (fun (u : Nat → Int32) => True) (fun (u : Nat → Int32) => [oX h0 5 [.ref h1], aI G h1 8 u, aI G h2 64 (spO f o t n)])) := by
  refine CT.go (by decide) (Nat.le_of_ble_eq_true rfl) (fun p e s m below meth c A ls AR QQ hx hb hr hlk hml hown hnm hts hE hA hAb hsz hP hD hS hl hQQ => ?_)
  have hK := hE.1
  have hown : s.vm.findClass RX6 = some m.cls := hown
  have hl : lv_has ls 9 [(0, .ref h0), (1, .ref h2), (2, .int (nI o)), (3, .int (nI t)), (4, .int (nI n))] := hl
  clear hsz
  refine lv_iload hx hb dX6_split_2_0 (lv_at hl 4 rfl) ?_
  refine lv_iconst (v := nI 2) hx hb dX6_split_2_2 (by decide) ?_
  refine N_idiv hx hb dX6_split_2_3 (by omega) (by omega) (by omega) ?_
  refine lv_istore (lv' := [(5, .int (nI (n / 2))), (0, .ref h0), (1, .ref h2), (2, .int (nI o)), (3, .int (nI t)), (4, .int (nI n))]) hx hb dX6_split_2_4 hl (by decide) rfl (fun ls hl => ?_)
  refine lv_iconst (v := nI 0) hx hb dX6_split_2_6 (by decide) ?_
  refine lv_istore (lv' := [(6, .int (nI 0)), (5, .int (nI (n / 2))), (0, .ref h0), (1, .ref h2), (2, .int (nI o)), (3, .int (nI t)), (4, .int (nI n))]) hx hb dX6_split_2_7 hl (by decide) rfl (fun ls hl => ?_)
  have lp_9 : ∀ (n_9 : Nat) (k : Nat), (k ≤ n / 2) → (n / 2 - k) < n_9 → ∀ (H : Heap) (locs : List Loc) (ls : Array Slot), va_P G.1 vwCl [oX h0 5 [.ref h1], aI G h1 8 (twoF k (n / 2) (splL f o t (n / 2)) ln), aI G h2 64 f] H → va_D A [oX h0 5 [.ref h1], aI G h1 8 (twoF k (n / 2) (splL f o t (n / 2)) ln), aI G h2 64 f] → va_S A s.heap H locs → lv_has ls 9 [(0, .ref h0), (1, .ref h2), (2, .int (nI o)), (3, .int (nI t)), (4, .int (nI n)), (5, .int (nI (n / 2))), (6, .int (nI k))] → W p l e (rm_X6_split_2_line) s m AR below meth c H locs 0 0 QQ (F0 m 9 ls []) := by
    intro n_9
    induction n_9 with
    | zero => intro k hk hn_; exact absurd hn_ (Nat.not_lt_zero _)
    | succ n_9 ih_9 =>
      intro k hk hn_9 H locs ls hP hD hS hl
      refine lv_iload hx hb dX6_split_2_9 (lv_at hl 6 rfl) ?_
      refine lv_iload hx hb dX6_split_2_11 (lv_at hl 5 rfl) ?_
      refine N_icmp_ge (tgt := 77) hx hb dX6_split_2_13 (by decide) (by omega) (by omega) (fun c_13 => ?_) (fun c_13 => ?_)
      · skip
        have ek_ : k = n / 2 := by omega
        rw [ek_] at hP hD
        have hl : lv_has ls 9 [(0, .ref h0), (1, .ref h2), (2, .int (nI o)), (3, .int (nI t)), (4, .int (nI n))] := lv_sub hl [0, 1, 2, 3, 4] rfl
        refine lv_aload_n hx hb dX6_split_2_77 rfl (lv_at hl 0 rfl) ?_
        refine lv_aload_n hx hb dX6_split_2_78 rfl (lv_at hl 1 rfl) ?_
        refine lv_iload_n hx hb dX6_split_2_79 rfl (lv_at hl 2 rfl) ?_
        refine lv_iload_n hx hb dX6_split_2_80 rfl (lv_at hl 3 rfl) ?_
        refine lv_iload hx hb dX6_split_2_81 (lv_at hl 4 rfl) ?_
        refine fin_v (ws' := (fun (_ : Unit) => [oX h0 5 [.ref h1], aI G h1 8 (twoF (n / 2) (n / 2) (splL f o t (n / 2)) ln), aI G h2 64 (putF f (twoF (n / 2) (n / 2) (splL f o t (n / 2)) ln) o t n)])) hA hS hP hD [0, 1, 2] rfl [(true, 0), (true, 1), (true, 2)] (fun _ => rfl) (by decide) (run_V (As := [.ref h2, .int (nI o), .int (nI t), .int (nI n)]) (rest := []) (n9 := 4) hx hb hml hown hts hE hAb hl.1 hS hP hD [0, 1, 2] rfl (by decide) (t_X6_put l G b0 _ h0 h1 h2 (twoF (n / 2) (n / 2) (splL f o t (n / 2)) ln) f o t n (by omega) (by omega) (by omega)) (lw_V q1079 q1081 qs21 q118 q1082) 0 rfl rfl ⟨rfl, by decide, by decide, by decide +kernel⟩ ⟨Nat.le_of_ble_eq_true rfl, Nat.le_of_ble_eq_true rfl⟩ ⟨by first | exact Nat.le_of_ble_eq_true rfl | (simp only [rm_X6_split_2_line, rm_X6_put]; omega), by first | exact Nat.le_of_ble_eq_true rfl | (simp only [rm_X6_split_2_line, rm_X6_put]; omega)⟩ dX6_split_2_83 (Nat.le_of_ble_eq_true rfl) rfl rfl) (fun u_1 H locs h_1 hP hD hS => ?_)
        have hP : va_P G.1 vwCl [oX h0 5 [.ref h1], aI G h1 8 (twoF (n / 2) (n / 2) (splL f o t (n / 2)) ln), aI G h2 64 (putF f (twoF (n / 2) (n / 2) (splL f o t (n / 2)) ln) o t n)] _ := hP
        have hD : va_D A [oX h0 5 [.ref h1], aI G h1 8 (twoF (n / 2) (n / 2) (splL f o t (n / 2)) ln), aI G h2 64 (putF f (twoF (n / 2) (n / 2) (splL f o t (n / 2)) ln) o t n)] := hD
        have e_2 : (putF f (twoF (n / 2) (n / 2) (splL f o t (n / 2)) ln) o t n) = (spO f o t n) := by exact putF_cong (twoF_all (by omega))
        have hP : va_P G.1 vwCl [oX h0 5 [.ref h1], aI G h1 8 (twoF (n / 2) (n / 2) (splL f o t (n / 2)) ln), aI G h2 64 (spO f o t n)] _ := cong_P (q0 := 2) (fun j _ => congrFun e_2 j) rfl rfl hP
        have hD : va_D A [oX h0 5 [.ref h1], aI G h1 8 (twoF (n / 2) (n / 2) (splL f o t (n / 2)) ln), aI G h2 64 (spO f o t n)] := cong_D (q0 := 2) rfl rfl hD
        have hP : va_P G.1 vwCl [oX h0 5 [.ref h1], aI G h1 8 (twoF (n / 2) (n / 2) (splL f o t (n / 2)) ln), aI G h2 64 (spO f o t n)] _ := hP
        have hD : va_D A [oX h0 5 [.ref h1], aI G h1 8 (twoF (n / 2) (n / 2) (splL f o t (n / 2)) ln), aI G h2 64 (spO f o t n)] := hD
        rw [hQQ]
        exact rt_v hx hb hr hlk (twoF (n / 2) (n / 2) (splL f o t (n / 2)) ln) dX6_split_2_86 hP hD hS (by first | exact Nat.le_of_ble_eq_true rfl | (simp only [rm_X6_split_2_line]; omega)) (by first | exact Nat.le_of_ble_eq_true rfl | (simp only [rm_X6_split_2_line]; omega)) trivial
      · skip
        refine lv_aload_n hx hb dX6_split_2_16 rfl (lv_at hl 1 rfl) ?_
        refine lv_iload_n hx hb dX6_split_2_17 rfl (lv_at hl 2 rfl) ?_
        refine lv_iconst (v := nI 2) hx hb dX6_split_2_18 (by decide) ?_
        refine lv_iload hx hb dX6_split_2_19 (lv_at hl 6 rfl) ?_
        refine N_imul hx hb dX6_split_2_21 ?_
        refine lv_iload_n hx hb dX6_split_2_22 rfl (lv_at hl 3 rfl) ?_
        refine N_imul hx hb dX6_split_2_23 ?_
        refine N_iadd hx hb dX6_split_2_24 ?_
        refine N_iald hx hb dX6_split_2_25 hK hP 2 0 rfl rfl (by rcases ht with rfl | rfl <;> omega) (by omega) ?_
        refine lv_istore (lv' := [(7, .int (f (o + ((2 * k) * t)))), (0, .ref h0), (1, .ref h2), (2, .int (nI o)), (3, .int (nI t)), (4, .int (nI n)), (5, .int (nI (n / 2))), (6, .int (nI k))]) hx hb dX6_split_2_26 hl (by decide) rfl (fun ls hl => ?_)
        refine lv_aload_n hx hb dX6_split_2_28 rfl (lv_at hl 2 rfl) ?_
        refine lv_iload_n hx hb dX6_split_2_29 rfl (lv_at hl 3 rfl) ?_
        refine lv_iconst (v := nI 2) hx hb dX6_split_2_30 (by decide) ?_
        refine lv_iload hx hb dX6_split_2_31 (lv_at hl 7 rfl) ?_
        refine N_imul hx hb dX6_split_2_33 ?_
        refine lv_iconst (v := nI 1) hx hb dX6_split_2_34 (by decide) ?_
        refine N_iadd hx hb dX6_split_2_35 ?_
        refine lv_iload_n hx hb dX6_split_2_36 rfl (lv_at hl 4 rfl) ?_
        refine N_imul hx hb dX6_split_2_37 ?_
        refine N_iadd hx hb dX6_split_2_38 ?_
        refine N_iald hx hb dX6_split_2_39 hK hP 2 0 rfl rfl (by rcases ht with rfl | rfl <;> omega) (by omega) ?_
        refine lv_istore (lv' := [(8, .int (f (o + (((2 * k) + 1) * t)))), (7, .int (f (o + ((2 * k) * t)))), (0, .ref h0), (1, .ref h2), (2, .int (nI o)), (3, .int (nI t)), (4, .int (nI n)), (5, .int (nI (n / 2))), (6, .int (nI k))]) hx hb dX6_split_2_40 hl (by decide) rfl (fun ls hl => ?_)
        refine lv_aload_n hx hb dX6_split_2_42 rfl (lv_at hl 2 rfl) ?_
        refine va_get (D := G.1) (ci := 5) (v := .ref h1) (C := RX6) (T := TX6) (N := 1) hx hb hts in_X6 hown hK hP 0 rfl rfl 0 (by decide) (hts _ q366) (fun _ h9 => h9) rfl dX6_split_2_43 ?_
        refine lv_iload hx hb dX6_split_2_46 (lv_at hl 8 rfl) ?_
        refine lv_iload hx hb dX6_split_2_48 (lv_at hl 1 rfl) ?_
        refine lv_iload hx hb dX6_split_2_50 (lv_at hl 0 rfl) ?_
        refine fin_i (ws' := (fun (_ : Unit) => [oX h0 5 [.ref h1], aI G h1 8 (twoF k (n / 2) (splL f o t (n / 2)) ln), aI G h2 64 f])) hA hS hP hD [] rfl [(false, 0), (false, 1), (false, 2)] (fun _ => rfl) (by decide) (run_SN (As := [.int (f (o + ((2 * k) * t))), .int (f (o + (((2 * k) + 1) * t)))]) (rest := [.int (nI k), .ref h1]) (n9 := 2) (host := "CrumbPictures") hx hb hml hown hts hE hAb hl.1 hS hP hD [] rfl (by decide) (t_X1_sumOf l G b0 _ (f (o + ((2 * k) * t))) (f (o + (((2 * k) + 1) * t))) ) (lw_meth q1078) q1076 q106 q1077 ⟨by decide, by decide, by decide +kernel⟩ ⟨Nat.le_of_ble_eq_true rfl, Nat.le_of_ble_eq_true rfl⟩ ⟨by first | exact Nat.le_of_ble_eq_true rfl | (simp only [rm_X6_split_2_line, rm_X1_sumOf]; omega), by first | exact Nat.le_of_ble_eq_true rfl | (simp only [rm_X6_split_2_line, rm_X1_sumOf]; omega)⟩ dX6_split_2_52 (Nat.le_of_ble_eq_true rfl) rfl rfl) (fun r_3 u_3 H locs h_3 hP hD hS => ?_)
        have hP : va_P G.1 vwCl [oX h0 5 [.ref h1], aI G h1 8 (twoF k (n / 2) (splL f o t (n / 2)) ln), aI G h2 64 f] _ := hP
        have hD : va_D A [oX h0 5 [.ref h1], aI G h1 8 (twoF k (n / 2) (splL f o t (n / 2)) ln), aI G h2 64 f] := hD
        have h_3 : r_3 = sumO (f (o + ((2 * k) * t))) (f (o + (((2 * k) + 1) * t))) := h_3
        rw [h_3]
        refine N_iast (ws' := [oX h0 5 [.ref h1], aI G h1 8 (upd (twoF k (n / 2) (splL f o t (n / 2)) ln) k (sumO (f (o + ((2 * k) * t))) (f (o + (((2 * k) + 1) * t))))), aI G h2 64 f]) hx hb dX6_split_2_55 hK hP hD hS 1 0 rfl rfl (by omega) (by omega) rfl (fun H locs hP hD hS => ?_)
        refine lv_aload_n hx hb dX6_split_2_56 rfl (lv_at hl 2 rfl) ?_
        refine va_get (D := G.1) (ci := 5) (v := .ref h1) (C := RX6) (T := TX6) (N := 1) hx hb hts in_X6 hown hK hP 0 rfl rfl 0 (by decide) (hts _ q366) (fun _ h9 => h9) rfl dX6_split_2_57 ?_
        refine lv_iload hx hb dX6_split_2_60 (lv_at hl 7 rfl) ?_
        refine lv_iload hx hb dX6_split_2_62 (lv_at hl 8 rfl) ?_
        refine N_iadd hx hb dX6_split_2_64 ?_
        refine lv_iload hx hb dX6_split_2_65 (lv_at hl 1 rfl) ?_
        refine lv_iload hx hb dX6_split_2_67 (lv_at hl 0 rfl) ?_
        refine lv_isub hx hb dX6_split_2_69 ?_
        refine N_iast (ws' := [oX h0 5 [.ref h1], aI G h1 8 (upd (upd (twoF k (n / 2) (splL f o t (n / 2)) ln) k (sumO (f (o + ((2 * k) * t))) (f (o + (((2 * k) + 1) * t))))) ((n / 2) + k) ((f (o + ((2 * k) * t))) - (f (o + (((2 * k) + 1) * t))))), aI G h2 64 f]) hx hb dX6_split_2_70 hK hP hD hS 1 0 rfl rfl (by omega) (by omega) rfl (fun H locs hP hD hS => ?_)
        refine N_iinc (a := k) (b := 1) (k9 := 8) (lv' := [(6, .int (nI (k + 1))), (8, .int (f (o + (((2 * k) + 1) * t)))), (7, .int (f (o + ((2 * k) * t)))), (0, .ref h0), (1, .ref h2), (2, .int (nI o)), (3, .int (nI t)), (4, .int (nI n)), (5, .int (nI (n / 2)))]) hx hb dX6_split_2_71 hl rfl rfl (by decide) rfl (fun ls hl => ?_)
        refine lv_goto (tgt := 9) hx hb dX6_split_2_74 (by decide) ?_
        have e_4 : (upd (upd (twoF k (n / 2) (splL f o t (n / 2)) ln) k (sumO (f (o + ((2 * k) * t))) (f (o + (((2 * k) + 1) * t))))) ((n / 2) + k) ((f (o + ((2 * k) * t))) - (f (o + (((2 * k) + 1) * t))))) = (twoF (k + 1) (n / 2) (splL f o t (n / 2)) ln) := by exact twoF_step (f := 0) (by omega)
        have hP : va_P G.1 vwCl [oX h0 5 [.ref h1], aI G h1 8 (twoF (k + 1) (n / 2) (splL f o t (n / 2)) ln), aI G h2 64 f] _ := cong_P (q0 := 1) (fun j _ => congrFun e_4 j) rfl rfl hP
        have hD : va_D A [oX h0 5 [.ref h1], aI G h1 8 (twoF (k + 1) (n / 2) (splL f o t (n / 2)) ln), aI G h2 64 f] := cong_D (q0 := 1) rfl rfl hD
        have hP : va_P G.1 vwCl [oX h0 5 [.ref h1], aI G h1 8 (twoF (k + 1) (n / 2) (splL f o t (n / 2)) ln), aI G h2 64 f] _ := hP
        have hD : va_D A [oX h0 5 [.ref h1], aI G h1 8 (twoF (k + 1) (n / 2) (splL f o t (n / 2)) ln), aI G h2 64 f] := hD
        have hl : lv_has ls 9 [(0, .ref h0), (1, .ref h2), (2, .int (nI o)), (3, .int (nI t)), (4, .int (nI n)), (5, .int (nI (n / 2))), (6, .int (nI (k + 1)))] := lv_sub hl [3, 4, 5, 6, 7, 8, 0] rfl
        exact ih_9 (k + 1) (by omega) (by omega) _ _ _ hP hD hS hl
  have e_5 : (ln) = (twoF 0 (n / 2) (splL f o t (n / 2)) ln) := by exact twoF_0.symm
  have hP : va_P G.1 vwCl [oX h0 5 [.ref h1], aI G h1 8 (twoF 0 (n / 2) (splL f o t (n / 2)) ln), aI G h2 64 f] _ := cong_P (q0 := 1) (fun j _ => congrFun e_5 j) rfl rfl hP
  have hD : va_D A [oX h0 5 [.ref h1], aI G h1 8 (twoF 0 (n / 2) (splL f o t (n / 2)) ln), aI G h2 64 f] := cong_D (q0 := 1) rfl rfl hD
  have hP : va_P G.1 vwCl [oX h0 5 [.ref h1], aI G h1 8 (twoF 0 (n / 2) (splL f o t (n / 2)) ln), aI G h2 64 f] _ := hP
  have hD : va_D A [oX h0 5 [.ref h1], aI G h1 8 (twoF 0 (n / 2) (splL f o t (n / 2)) ln), aI G h2 64 f] := hD
  have hl : lv_has ls 9 [(0, .ref h0), (1, .ref h2), (2, .int (nI o)), (3, .int (nI t)), (4, .int (nI n)), (5, .int (nI (n / 2))), (6, .int (nI 0))] := lv_sub hl [2, 3, 4, 5, 6, 1, 0] rfl
  exact lp_9 _ 0 (by omega) (Nat.lt_succ_self _) _ _ _ hP hD hS hl
def rm_X6_join_2_line : Room := ({ frames := 1, cells := 0, slots := 0, locals := 28 } : Room)
set_option maxHeartbeats 400000 in
set_option maxRecDepth 100000 in
theorem t_X6_join_2_line (l : Launch) (G : GG) (b0 sz : Nat) (h0 h1 h2 : Nat) (ln f : Nat → Int32) (o t n : Nat) (ht : t = 1 ∨ t = 8) (hn : n = 8 ∨ n = 4 ∨ n = 2) (ho : (t = 1 → o + n ≤ 64) ∧ (t = 8 → o + 8 * n ≤ 71)) : CT l yX6_join_2 cX6_join_2 9 none (rm_X6_join_2_line) G b0 [.ref h0, .ref h2, .int (nI o), .int (nI t), .int (nI n)] [oX h0 5 [.ref h1], aI G h1 8 ln, aI G h2 64 f] sz (Rv G (fun (u : Nat → Int32) => True) (fun (u : Nat → Int32) => [oX h0 5 [.ref h1], aI G h1 8 u, aI G h2 64 (joO f o t n)])) := by
  refine CT.go (by decide) (Nat.le_of_ble_eq_true rfl) (fun p e s m below meth c A ls AR QQ hx hb hr hlk hml hown hnm hts hE hA hAb hsz hP hD hS hl hQQ => ?_)
  have hK := hE.1
  have hown : s.vm.findClass RX6 = some m.cls := hown
  have hl : lv_has ls 9 [(0, .ref h0), (1, .ref h2), (2, .int (nI o)), (3, .int (nI t)), (4, .int (nI n))] := hl
  clear hsz
  refine lv_iload hx hb dX6_join_2_0 (lv_at hl 4 rfl) ?_
  refine lv_iconst (v := nI 2) hx hb dX6_join_2_2 (by decide) ?_
  refine N_idiv hx hb dX6_join_2_3 (by omega) (by omega) (by omega) ?_
  refine lv_istore (lv' := [(5, .int (nI (n / 2))), (0, .ref h0), (1, .ref h2), (2, .int (nI o)), (3, .int (nI t)), (4, .int (nI n))]) hx hb dX6_join_2_4 hl (by decide) rfl (fun ls hl => ?_)
  refine lv_iconst (v := nI 0) hx hb dX6_join_2_6 (by decide) ?_
  refine lv_istore (lv' := [(6, .int (nI 0)), (5, .int (nI (n / 2))), (0, .ref h0), (1, .ref h2), (2, .int (nI o)), (3, .int (nI t)), (4, .int (nI n))]) hx hb dX6_join_2_7 hl (by decide) rfl (fun ls hl => ?_)
  have lp_9 : ∀ (n_9 : Nat) (k : Nat), (k ≤ n / 2) → (n / 2 - k) < n_9 → ∀ (H : Heap) (locs : List Loc) (ls : Array Slot), va_P G.1 vwCl [oX h0 5 [.ref h1], aI G h1 8 (fillTo (2 * k) (joiL f o t (n / 2)) ln), aI G h2 64 f] H → va_D A [oX h0 5 [.ref h1], aI G h1 8 (fillTo (2 * k) (joiL f o t (n / 2)) ln), aI G h2 64 f] → va_S A s.heap H locs → lv_has ls 9 [(0, .ref h0), (1, .ref h2), (2, .int (nI o)), (3, .int (nI t)), (4, .int (nI n)), (5, .int (nI (n / 2))), (6, .int (nI k))] → W p l e (rm_X6_join_2_line) s m AR below meth c H locs 0 0 QQ (F0 m 9 ls []) := by
    intro n_9
    induction n_9 with
    | zero => intro k hk hn_; exact absurd hn_ (Nat.not_lt_zero _)
    | succ n_9 ih_9 =>
      intro k hk hn_9 H locs ls hP hD hS hl
      refine lv_iload hx hb dX6_join_2_9 (lv_at hl 6 rfl) ?_
      refine lv_iload hx hb dX6_join_2_11 (lv_at hl 5 rfl) ?_
      refine N_icmp_ge (tgt := 81) hx hb dX6_join_2_13 (by decide) (by omega) (by omega) (fun c_13 => ?_) (fun c_13 => ?_)
      · skip
        have ek_ : k = n / 2 := by omega
        rw [ek_] at hP hD
        have hl : lv_has ls 9 [(0, .ref h0), (1, .ref h2), (2, .int (nI o)), (3, .int (nI t)), (4, .int (nI n))] := lv_sub hl [0, 1, 2, 3, 4] rfl
        refine lv_aload_n hx hb dX6_join_2_81 rfl (lv_at hl 0 rfl) ?_
        refine lv_aload_n hx hb dX6_join_2_82 rfl (lv_at hl 1 rfl) ?_
        refine lv_iload_n hx hb dX6_join_2_83 rfl (lv_at hl 2 rfl) ?_
        refine lv_iload_n hx hb dX6_join_2_84 rfl (lv_at hl 3 rfl) ?_
        refine lv_iload hx hb dX6_join_2_85 (lv_at hl 4 rfl) ?_
        refine fin_v (ws' := (fun (_ : Unit) => [oX h0 5 [.ref h1], aI G h1 8 (fillTo (2 * (n / 2)) (joiL f o t (n / 2)) ln), aI G h2 64 (putF f (fillTo (2 * (n / 2)) (joiL f o t (n / 2)) ln) o t n)])) hA hS hP hD [0, 1, 2] rfl [(true, 0), (true, 1), (true, 2)] (fun _ => rfl) (by decide) (run_V (As := [.ref h2, .int (nI o), .int (nI t), .int (nI n)]) (rest := []) (n9 := 4) hx hb hml hown hts hE hAb hl.1 hS hP hD [0, 1, 2] rfl (by decide) (t_X6_put l G b0 _ h0 h1 h2 (fillTo (2 * (n / 2)) (joiL f o t (n / 2)) ln) f o t n (by omega) (by omega) (by omega)) (lw_V q1079 q1081 qs21 q118 q1082) 0 rfl rfl ⟨rfl, by decide, by decide, by decide +kernel⟩ ⟨Nat.le_of_ble_eq_true rfl, Nat.le_of_ble_eq_true rfl⟩ ⟨by first | exact Nat.le_of_ble_eq_true rfl | (simp only [rm_X6_join_2_line, rm_X6_put]; omega), by first | exact Nat.le_of_ble_eq_true rfl | (simp only [rm_X6_join_2_line, rm_X6_put]; omega)⟩ dX6_join_2_87 (Nat.le_of_ble_eq_true rfl) rfl rfl) (fun u_1 H locs h_1 hP hD hS => ?_)
        have hP : va_P G.1 vwCl [oX h0 5 [.ref h1], aI G h1 8 (fillTo (2 * (n / 2)) (joiL f o t (n / 2)) ln), aI G h2 64 (putF f (fillTo (2 * (n / 2)) (joiL f o t (n / 2)) ln) o t n)] _ := hP
        have hD : va_D A [oX h0 5 [.ref h1], aI G h1 8 (fillTo (2 * (n / 2)) (joiL f o t (n / 2)) ln), aI G h2 64 (putF f (fillTo (2 * (n / 2)) (joiL f o t (n / 2)) ln) o t n)] := hD
        have e_2 : (putF f (fillTo (2 * (n / 2)) (joiL f o t (n / 2)) ln) o t n) = (joO f o t n) := by exact putF_cong (fun j hj => fill_lt (by omega))
        have hP : va_P G.1 vwCl [oX h0 5 [.ref h1], aI G h1 8 (fillTo (2 * (n / 2)) (joiL f o t (n / 2)) ln), aI G h2 64 (joO f o t n)] _ := cong_P (q0 := 2) (fun j _ => congrFun e_2 j) rfl rfl hP
        have hD : va_D A [oX h0 5 [.ref h1], aI G h1 8 (fillTo (2 * (n / 2)) (joiL f o t (n / 2)) ln), aI G h2 64 (joO f o t n)] := cong_D (q0 := 2) rfl rfl hD
        have hP : va_P G.1 vwCl [oX h0 5 [.ref h1], aI G h1 8 (fillTo (2 * (n / 2)) (joiL f o t (n / 2)) ln), aI G h2 64 (joO f o t n)] _ := hP
        have hD : va_D A [oX h0 5 [.ref h1], aI G h1 8 (fillTo (2 * (n / 2)) (joiL f o t (n / 2)) ln), aI G h2 64 (joO f o t n)] := hD
        rw [hQQ]
        exact rt_v hx hb hr hlk (fillTo (2 * (n / 2)) (joiL f o t (n / 2)) ln) dX6_join_2_90 hP hD hS (by first | exact Nat.le_of_ble_eq_true rfl | (simp only [rm_X6_join_2_line]; omega)) (by first | exact Nat.le_of_ble_eq_true rfl | (simp only [rm_X6_join_2_line]; omega)) trivial
      · skip
        refine lv_aload_n hx hb dX6_join_2_16 rfl (lv_at hl 1 rfl) ?_
        refine lv_iload_n hx hb dX6_join_2_17 rfl (lv_at hl 2 rfl) ?_
        refine lv_iload hx hb dX6_join_2_18 (lv_at hl 6 rfl) ?_
        refine lv_iload_n hx hb dX6_join_2_20 rfl (lv_at hl 3 rfl) ?_
        refine N_imul hx hb dX6_join_2_21 ?_
        refine N_iadd hx hb dX6_join_2_22 ?_
        refine N_iald hx hb dX6_join_2_23 hK hP 2 0 rfl rfl (by rcases ht with rfl | rfl <;> omega) (by omega) ?_
        refine lv_istore (lv' := [(7, .int (f (o + (k * t)))), (0, .ref h0), (1, .ref h2), (2, .int (nI o)), (3, .int (nI t)), (4, .int (nI n)), (5, .int (nI (n / 2))), (6, .int (nI k))]) hx hb dX6_join_2_24 hl (by decide) rfl (fun ls hl => ?_)
        refine lv_aload_n hx hb dX6_join_2_26 rfl (lv_at hl 2 rfl) ?_
        refine lv_iload_n hx hb dX6_join_2_27 rfl (lv_at hl 3 rfl) ?_
        refine lv_iload hx hb dX6_join_2_28 (lv_at hl 6 rfl) ?_
        refine lv_iload hx hb dX6_join_2_30 (lv_at hl 7 rfl) ?_
        refine N_iadd hx hb dX6_join_2_32 ?_
        refine lv_iload_n hx hb dX6_join_2_33 rfl (lv_at hl 4 rfl) ?_
        refine N_imul hx hb dX6_join_2_34 ?_
        refine N_iadd hx hb dX6_join_2_35 ?_
        refine N_iald hx hb dX6_join_2_36 hK hP 2 0 rfl rfl (by rcases ht with rfl | rfl <;> omega) (by omega) ?_
        refine lv_istore (lv' := [(8, .int (f (o + (((n / 2) + k) * t)))), (7, .int (f (o + (k * t)))), (0, .ref h0), (1, .ref h2), (2, .int (nI o)), (3, .int (nI t)), (4, .int (nI n)), (5, .int (nI (n / 2))), (6, .int (nI k))]) hx hb dX6_join_2_37 hl (by decide) rfl (fun ls hl => ?_)
        refine lv_aload_n hx hb dX6_join_2_39 rfl (lv_at hl 2 rfl) ?_
        refine va_get (D := G.1) (ci := 5) (v := .ref h1) (C := RX6) (T := TX6) (N := 1) hx hb hts in_X6 hown hK hP 0 rfl rfl 0 (by decide) (hts _ q366) (fun _ h9 => h9) rfl dX6_join_2_40 ?_
        refine lv_iconst (v := nI 2) hx hb dX6_join_2_43 (by decide) ?_
        refine lv_iload hx hb dX6_join_2_44 (lv_at hl 8 rfl) ?_
        refine N_imul hx hb dX6_join_2_46 ?_
        refine lv_iload hx hb dX6_join_2_47 (lv_at hl 1 rfl) ?_
        refine lv_iload hx hb dX6_join_2_49 (lv_at hl 0 rfl) ?_
        refine lv_iconst (v := nI 0) hx hb dX6_join_2_51 (by decide) ?_
        refine fin_i (ws' := (fun (_ : Unit) => [oX h0 5 [.ref h1], aI G h1 8 (fillTo (2 * k) (joiL f o t (n / 2)) ln), aI G h2 64 f])) hA hS hP hD [] rfl [(false, 0), (false, 1), (false, 2)] (fun _ => rfl) (by decide) (run_SN (As := [.int (f (o + (k * t))), .int (f (o + (((n / 2) + k) * t))), .int (nI 0)]) (rest := [.int (nI (2 * k)), .ref h1]) (n9 := 3) (host := "CrumbPictures") hx hb hml hown hts hE hAb hl.1 hS hP hD [] rfl (by decide) (t_X1_oneOf l G b0 _ (f (o + (k * t))) (f (o + (((n / 2) + k) * t))) 0 (by omega)) (lw_meth q1215) q1213 q106 q1214 ⟨by decide, by decide, by decide +kernel⟩ ⟨Nat.le_of_ble_eq_true rfl, Nat.le_of_ble_eq_true rfl⟩ ⟨by first | exact Nat.le_of_ble_eq_true rfl | (simp only [rm_X6_join_2_line, rm_X1_oneOf]; omega), by first | exact Nat.le_of_ble_eq_true rfl | (simp only [rm_X6_join_2_line, rm_X1_oneOf]; omega)⟩ dX6_join_2_52 (Nat.le_of_ble_eq_true rfl) rfl rfl) (fun r_3 u_3 H locs h_3 hP hD hS => ?_)
        have hP : va_P G.1 vwCl [oX h0 5 [.ref h1], aI G h1 8 (fillTo (2 * k) (joiL f o t (n / 2)) ln), aI G h2 64 f] _ := hP
        have hD : va_D A [oX h0 5 [.ref h1], aI G h1 8 (fillTo (2 * k) (joiL f o t (n / 2)) ln), aI G h2 64 f] := hD
        have h_3 : r_3 = oneO (f (o + (k * t))) (f (o + (((n / 2) + k) * t))) 0 := h_3
        rw [h_3]
        refine N_iast (ws' := [oX h0 5 [.ref h1], aI G h1 8 (upd (fillTo (2 * k) (joiL f o t (n / 2)) ln) (2 * k) (oneO (f (o + (k * t))) (f (o + (((n / 2) + k) * t))) 0)), aI G h2 64 f]) hx hb dX6_join_2_55 hK hP hD hS 1 0 rfl rfl (by omega) (by omega) rfl (fun H locs hP hD hS => ?_)
        refine lv_aload_n hx hb dX6_join_2_56 rfl (lv_at hl 2 rfl) ?_
        refine va_get (D := G.1) (ci := 5) (v := .ref h1) (C := RX6) (T := TX6) (N := 1) hx hb hts in_X6 hown hK hP 0 rfl rfl 0 (by decide) (hts _ q366) (fun _ h9 => h9) rfl dX6_join_2_57 ?_
        refine lv_iconst (v := nI 2) hx hb dX6_join_2_60 (by decide) ?_
        refine lv_iload hx hb dX6_join_2_61 (lv_at hl 8 rfl) ?_
        refine N_imul hx hb dX6_join_2_63 ?_
        refine lv_iconst (v := nI 1) hx hb dX6_join_2_64 (by decide) ?_
        refine N_iadd hx hb dX6_join_2_65 ?_
        refine lv_iload hx hb dX6_join_2_66 (lv_at hl 1 rfl) ?_
        refine lv_iload hx hb dX6_join_2_68 (lv_at hl 0 rfl) ?_
        refine lv_iconst (v := nI 1) hx hb dX6_join_2_70 (by decide) ?_
        refine fin_i (ws' := (fun (_ : Unit) => [oX h0 5 [.ref h1], aI G h1 8 (upd (fillTo (2 * k) (joiL f o t (n / 2)) ln) (2 * k) (oneO (f (o + (k * t))) (f (o + (((n / 2) + k) * t))) 0)), aI G h2 64 f])) hA hS hP hD [] rfl [(false, 0), (false, 1), (false, 2)] (fun _ => rfl) (by decide) (run_SN (As := [.int (f (o + (k * t))), .int (f (o + (((n / 2) + k) * t))), .int (nI 1)]) (rest := [.int (nI ((2 * k) + 1)), .ref h1]) (n9 := 3) (host := "CrumbPictures") hx hb hml hown hts hE hAb hl.1 hS hP hD [] rfl (by decide) (t_X1_oneOf l G b0 _ (f (o + (k * t))) (f (o + (((n / 2) + k) * t))) 1 (by omega)) (lw_meth q1215) q1213 q106 q1214 ⟨by decide, by decide, by decide +kernel⟩ ⟨Nat.le_of_ble_eq_true rfl, Nat.le_of_ble_eq_true rfl⟩ ⟨by first | exact Nat.le_of_ble_eq_true rfl | (simp only [rm_X6_join_2_line, rm_X1_oneOf]; omega), by first | exact Nat.le_of_ble_eq_true rfl | (simp only [rm_X6_join_2_line, rm_X1_oneOf]; omega)⟩ dX6_join_2_71 (Nat.le_of_ble_eq_true rfl) rfl rfl) (fun r_4 u_4 H locs h_4 hP hD hS => ?_)
        have hP : va_P G.1 vwCl [oX h0 5 [.ref h1], aI G h1 8 (upd (fillTo (2 * k) (joiL f o t (n / 2)) ln) (2 * k) (oneO (f (o + (k * t))) (f (o + (((n / 2) + k) * t))) 0)), aI G h2 64 f] _ := hP
        have hD : va_D A [oX h0 5 [.ref h1], aI G h1 8 (upd (fillTo (2 * k) (joiL f o t (n / 2)) ln) (2 * k) (oneO (f (o + (k * t))) (f (o + (((n / 2) + k) * t))) 0)), aI G h2 64 f] := hD
        have h_4 : r_4 = oneO (f (o + (k * t))) (f (o + (((n / 2) + k) * t))) 1 := h_4
        rw [h_4]
        refine N_iast (ws' := [oX h0 5 [.ref h1], aI G h1 8 (upd (upd (fillTo (2 * k) (joiL f o t (n / 2)) ln) (2 * k) (oneO (f (o + (k * t))) (f (o + (((n / 2) + k) * t))) 0)) ((2 * k) + 1) (oneO (f (o + (k * t))) (f (o + (((n / 2) + k) * t))) 1)), aI G h2 64 f]) hx hb dX6_join_2_74 hK hP hD hS 1 0 rfl rfl (by omega) (by omega) rfl (fun H locs hP hD hS => ?_)
        refine N_iinc (a := k) (b := 1) (k9 := 8) (lv' := [(6, .int (nI (k + 1))), (8, .int (f (o + (((n / 2) + k) * t)))), (7, .int (f (o + (k * t)))), (0, .ref h0), (1, .ref h2), (2, .int (nI o)), (3, .int (nI t)), (4, .int (nI n)), (5, .int (nI (n / 2)))]) hx hb dX6_join_2_75 hl rfl rfl (by decide) rfl (fun ls hl => ?_)
        refine lv_goto (tgt := 9) hx hb dX6_join_2_78 (by decide) ?_
        have e_5 : (upd (upd (fillTo (2 * k) (joiL f o t (n / 2)) ln) (2 * k) (oneO (f (o + (k * t))) (f (o + (((n / 2) + k) * t))) 0)) ((2 * k) + 1) (oneO (f (o + (k * t))) (f (o + (((n / 2) + k) * t))) 1)) = (fillTo (2 * (k + 1)) (joiL f o t (n / 2)) ln) := by exact joi_step
        have hP : va_P G.1 vwCl [oX h0 5 [.ref h1], aI G h1 8 (fillTo (2 * (k + 1)) (joiL f o t (n / 2)) ln), aI G h2 64 f] _ := cong_P (q0 := 1) (fun j _ => congrFun e_5 j) rfl rfl hP
        have hD : va_D A [oX h0 5 [.ref h1], aI G h1 8 (fillTo (2 * (k + 1)) (joiL f o t (n / 2)) ln), aI G h2 64 f] := cong_D (q0 := 1) rfl rfl hD
        have hP : va_P G.1 vwCl [oX h0 5 [.ref h1], aI G h1 8 (fillTo (2 * (k + 1)) (joiL f o t (n / 2)) ln), aI G h2 64 f] _ := hP
        have hD : va_D A [oX h0 5 [.ref h1], aI G h1 8 (fillTo (2 * (k + 1)) (joiL f o t (n / 2)) ln), aI G h2 64 f] := hD
        have hl : lv_has ls 9 [(0, .ref h0), (1, .ref h2), (2, .int (nI o)), (3, .int (nI t)), (4, .int (nI n)), (5, .int (nI (n / 2))), (6, .int (nI (k + 1)))] := lv_sub hl [3, 4, 5, 6, 7, 8, 0] rfl
        exact ih_9 (k + 1) (by omega) (by omega) _ _ _ hP hD hS hl
  have e_6 : (ln) = (fillTo (2 * 0) (joiL f o t (n / 2)) ln) := by exact (fill0 _ _).symm
  have hP : va_P G.1 vwCl [oX h0 5 [.ref h1], aI G h1 8 (fillTo (2 * 0) (joiL f o t (n / 2)) ln), aI G h2 64 f] _ := cong_P (q0 := 1) (fun j _ => congrFun e_6 j) rfl rfl hP
  have hD : va_D A [oX h0 5 [.ref h1], aI G h1 8 (fillTo (2 * 0) (joiL f o t (n / 2)) ln), aI G h2 64 f] := cong_D (q0 := 1) rfl rfl hD
  have hP : va_P G.1 vwCl [oX h0 5 [.ref h1], aI G h1 8 (fillTo (2 * 0) (joiL f o t (n / 2)) ln), aI G h2 64 f] _ := hP
  have hD : va_D A [oX h0 5 [.ref h1], aI G h1 8 (fillTo (2 * 0) (joiL f o t (n / 2)) ln), aI G h2 64 f] := hD
  have hl : lv_has ls 9 [(0, .ref h0), (1, .ref h2), (2, .int (nI o)), (3, .int (nI t)), (4, .int (nI n)), (5, .int (nI (n / 2))), (6, .int (nI 0))] := lv_sub hl [2, 3, 4, 5, 6, 1, 0] rfl
  exact lp_9 _ 0 (by omega) (Nat.lt_succ_self _) _ _ _ hP hD hS hl
def rm_X6_split : Room := ({ frames := 2, cells := 0, slots := 0, locals := 56 } : Room)
set_option maxHeartbeats 400000 in
set_option maxRecDepth 100000 in
theorem t_X6_split (l : Launch) (G : GG) (b0 sz : Nat) (h0 h1 h2 h3 : Nat) (ln f g : Nat → Int32) (L : Nat) (hL : L ≤ 3) : CT l yX6_split cX6_split 7 (some (FieldType.array FieldType.int)) (rm_X6_split) G b0 [.ref h0, .ref h2, .ref h3, .int (nI L)] [oX h0 5 [.ref h1], aI G h1 8 ln, aI G h2 64 f, aI G h3 64 g] sz (Rr G (fun (u : Nat → Int32) => True) (fun (u : Nat → Int32) => h3) (fun (u : Nat → Int32) => [oX h0 5 [.ref h1], aI G h1 8 u, aI G h2 64 f, aI G h3 64 (splitP f L)])) := by
  refine CT.go (by decide) (Nat.le_of_ble_eq_true rfl) (fun p e s m below meth c A ls AR QQ hx hb hr hlk hml hown hnm hts hE hA hAb hsz hP hD hS hl hQQ => ?_)
  have hK := hE.1
  have hown : s.vm.findClass RX6 = some m.cls := hown
  have hl : lv_has ls 7 [(0, .ref h0), (1, .ref h2), (2, .ref h3), (3, .int (nI L))] := hl
  clear hsz
  refine lv_aload_n hx hb dX6_split_0 rfl (lv_at hl 1 rfl) ?_
  refine lv_iconst (v := nI 0) hx hb dX6_split_1 (by decide) ?_
  refine lv_aload_n hx hb dX6_split_2 rfl (lv_at hl 2 rfl) ?_
  refine lv_iconst (v := nI 0) hx hb dX6_split_3 (by decide) ?_
  refine lv_bipush (v := nI 64) hx hb dX6_split_4 (by decide) ?_
  refine N_copyi (ws' := [oX h0 5 [.ref h1], aI G h1 8 ln, aI G h2 64 f, aI G h3 64 (va_cpy f g 0 0 64)]) hx hb (hml.trans hl.1.symm) hown hts q1071 q560 q559 q135 hK hP hD hS 2 3 0 rfl rfl rfl (by omega) (by omega) (by omega) (by omega) (Nat.le_of_ble_eq_true rfl) (Nat.le_of_ble_eq_true rfl) dX6_split_6 rfl (fun H locs hP hD hS => ?_)
  refine lv_iconst (v := nI 1) hx hb dX6_split_9 (by decide) ?_
  refine lv_istore (lv' := [(4, .int (nI 1)), (0, .ref h0), (1, .ref h2), (2, .ref h3), (3, .int (nI L))]) hx hb dX6_split_10 hl (by decide) rfl (fun ls hl => ?_)
  have lp_12 : ∀ (n_12 : Nat) (i : Nat) (li : Nat → Int32), (i ≤ L) → (L - i) < n_12 → ∀ (H : Heap) (locs : List Loc) (ls : Array Slot), va_P G.1 vwCl [oX h0 5 [.ref h1], aI G h1 8 li, aI G h2 64 f, aI G h3 64 (splitP f i)] H → va_D A [oX h0 5 [.ref h1], aI G h1 8 li, aI G h2 64 f, aI G h3 64 (splitP f i)] → va_S A s.heap H locs → lv_has ls 7 [(0, .ref h0), (1, .ref h2), (2, .ref h3), (3, .int (nI L)), (4, .int (nI (i + 1)))] → W p l e (rm_X6_split) s m AR below meth c H locs 0 0 QQ (F0 m 12 ls []) := by
    intro n_12
    induction n_12 with
    | zero => intro i li hi hn_; exact absurd hn_ (Nat.not_lt_zero _)
    | succ n_12 ih_12 =>
      intro i li hi hn_12 H locs ls hP hD hS hl
      refine lv_iload hx hb dX6_split_12 (lv_at hl 4 rfl) ?_
      refine lv_iload_n hx hb dX6_split_14 rfl (lv_at hl 3 rfl) ?_
      refine N_icmp_gt (tgt := 89) hx hb dX6_split_15 (by decide) (by omega) (by omega) (fun c_15 => ?_) (fun c_15 => ?_)
      · skip
        have ek_ : i = L := by omega
        rw [ek_] at hP hD
        have hl : lv_has ls 7 [(0, .ref h0), (1, .ref h2), (2, .ref h3), (3, .int (nI L))] := lv_sub hl [0, 1, 2, 3] rfl
        refine lv_aload_n hx hb dX6_split_89 rfl (lv_at hl 2 rfl) ?_
        rw [hQQ]
        exact rt_r hx hb hr hlk (by first | exact Or.inl ⟨_, rfl⟩ | exact Or.inr ⟨_, rfl⟩) li dX6_split_90 hP hD hS (by first | exact Nat.le_of_ble_eq_true rfl | (simp only [rm_X6_split]; omega)) (by first | exact Nat.le_of_ble_eq_true rfl | (simp only [rm_X6_split]; omega)) (by rfl) trivial
      · skip
        refine lv_bipush (v := nI 8) hx hb dX6_split_18 (by decide) ?_
        refine lv_iload hx hb dX6_split_20 (lv_at hl 4 rfl) ?_
        refine lv_iconst (v := nI 1) hx hb dX6_split_22 (by decide) ?_
        refine N_isub hx hb dX6_split_23 (by omega) ?_
        refine N_ishr hx hb dX6_split_24 (by omega) (by omega) ?_
        have hsz_ : 8 / 2 ^ ((i + 1) - 1) = szL i := by first | rfl | (unfold szL; congr 2; omega)
        rw [hsz_]
        have hz := szL_in (show i < 3 by omega)
        refine lv_istore (lv' := [(5, .int (nI (szL i))), (0, .ref h0), (1, .ref h2), (2, .ref h3), (3, .int (nI L)), (4, .int (nI (i + 1)))]) hx hb dX6_split_25 hl (by decide) rfl (fun ls hl => ?_)
        refine lv_iconst (v := nI 0) hx hb dX6_split_27 (by decide) ?_
        refine lv_istore (lv' := [(6, .int (nI 0)), (5, .int (nI (szL i))), (0, .ref h0), (1, .ref h2), (2, .ref h3), (3, .int (nI L)), (4, .int (nI (i + 1)))]) hx hb dX6_split_28 hl (by decide) rfl (fun ls hl => ?_)
        have lp_30 : ∀ (n_30 : Nat) (k : Nat) (lk : Nat → Int32), (k ≤ szL i) → (szL i - k) < n_30 → ∀ (H : Heap) (locs : List Loc) (ls : Array Slot), va_P G.1 vwCl [oX h0 5 [.ref h1], aI G h1 8 lk, aI G h2 64 f, aI G h3 64 (rowS (splitP f i) (szL i) k)] H → va_D A [oX h0 5 [.ref h1], aI G h1 8 lk, aI G h2 64 f, aI G h3 64 (rowS (splitP f i) (szL i) k)] → va_S A s.heap H locs → lv_has ls 7 [(0, .ref h0), (1, .ref h2), (2, .ref h3), (3, .int (nI L)), (4, .int (nI (i + 1))), (5, .int (nI (szL i))), (6, .int (nI k))] → W p l e (rm_X6_split) s m AR below meth c H locs 0 0 QQ (F0 m 30 ls []) := by
          intro n_30
          induction n_30 with
          | zero => intro k lk hk hn_; exact absurd hn_ (Nat.not_lt_zero _)
          | succ n_30 ih_30 =>
            intro k lk hk hn_30 H locs ls hP hD hS hl
            refine lv_iload hx hb dX6_split_30 (lv_at hl 6 rfl) ?_
            refine lv_iload hx hb dX6_split_32 (lv_at hl 5 rfl) ?_
            refine N_icmp_ge (tgt := 56) hx hb dX6_split_34 (by decide) (by omega) (by omega) (fun c_34 => ?_) (fun c_34 => ?_)
            · skip
              have ek_ : k = szL i := by omega
              rw [ek_] at hP hD
              have hl : lv_has ls 7 [(0, .ref h0), (1, .ref h2), (2, .ref h3), (3, .int (nI L)), (4, .int (nI (i + 1))), (5, .int (nI (szL i)))] := lv_sub hl [0, 1, 2, 3, 4, 5] rfl
              refine lv_iconst (v := nI 0) hx hb dX6_split_56 (by decide) ?_
              refine lv_istore (lv' := [(6, .int (nI 0)), (0, .ref h0), (1, .ref h2), (2, .ref h3), (3, .int (nI L)), (4, .int (nI (i + 1))), (5, .int (nI (szL i)))]) hx hb dX6_split_57 hl (by decide) rfl (fun ls hl => ?_)
              have lp_59 : ∀ (n_59 : Nat) (k : Nat) (lk2 : Nat → Int32), (k ≤ szL i) → (szL i - k) < n_59 → ∀ (H : Heap) (locs : List Loc) (ls : Array Slot), va_P G.1 vwCl [oX h0 5 [.ref h1], aI G h1 8 lk2, aI G h2 64 f, aI G h3 64 (colS (rowS (splitP f i) (szL i) (szL i)) (szL i) k)] H → va_D A [oX h0 5 [.ref h1], aI G h1 8 lk2, aI G h2 64 f, aI G h3 64 (colS (rowS (splitP f i) (szL i) (szL i)) (szL i) k)] → va_S A s.heap H locs → lv_has ls 7 [(0, .ref h0), (1, .ref h2), (2, .ref h3), (3, .int (nI L)), (4, .int (nI (i + 1))), (5, .int (nI (szL i))), (6, .int (nI k))] → W p l e (rm_X6_split) s m AR below meth c H locs 0 0 QQ (F0 m 59 ls []) := by
                intro n_59
                induction n_59 with
                | zero => intro k lk2 hk hn_; exact absurd hn_ (Nat.not_lt_zero _)
                | succ n_59 ih_59 =>
                  intro k lk2 hk hn_59 H locs ls hP hD hS hl
                  refine lv_iload hx hb dX6_split_59 (lv_at hl 6 rfl) ?_
                  refine lv_iload hx hb dX6_split_61 (lv_at hl 5 rfl) ?_
                  refine N_icmp_ge (tgt := 83) hx hb dX6_split_63 (by decide) (by omega) (by omega) (fun c_63 => ?_) (fun c_63 => ?_)
                  · skip
                    have ek_ : k = szL i := by omega
                    rw [ek_] at hP hD
                    have hl : lv_has ls 7 [(0, .ref h0), (1, .ref h2), (2, .ref h3), (3, .int (nI L)), (4, .int (nI (i + 1)))] := lv_sub hl [0, 1, 2, 3, 4] rfl
                    refine N_iinc (a := (i + 1)) (b := 1) (k9 := 4) (lv' := [(4, .int (nI ((i + 1) + 1))), (0, .ref h0), (1, .ref h2), (2, .ref h3), (3, .int (nI L))]) hx hb dX6_split_83 hl rfl rfl (by decide) rfl (fun ls hl => ?_)
                    refine lv_goto (tgt := 12) hx hb dX6_split_86 (by decide) ?_
                    have hP : va_P G.1 vwCl [oX h0 5 [.ref h1], aI G h1 8 lk2, aI G h2 64 f, aI G h3 64 (splitP f (i + 1))] _ := hP
                    have hD : va_D A [oX h0 5 [.ref h1], aI G h1 8 lk2, aI G h2 64 f, aI G h3 64 (splitP f (i + 1))] := hD
                    have hl : lv_has ls 7 [(0, .ref h0), (1, .ref h2), (2, .ref h3), (3, .int (nI L)), (4, .int (nI ((i + 1) + 1)))] := lv_sub hl [1, 2, 3, 4, 0] rfl
                    exact ih_12 (i + 1) lk2 (by omega) (by omega) _ _ _ hP hD hS hl
                  · skip
                    refine lv_aload_n hx hb dX6_split_66 rfl (lv_at hl 0 rfl) ?_
                    refine lv_aload_n hx hb dX6_split_67 rfl (lv_at hl 2 rfl) ?_
                    refine lv_iload hx hb dX6_split_68 (lv_at hl 6 rfl) ?_
                    refine lv_bipush (v := nI 8) hx hb dX6_split_70 (by decide) ?_
                    refine lv_iload hx hb dX6_split_72 (lv_at hl 5 rfl) ?_
                    refine fin_v (ws' := (fun (u_1 : Nat → Int32) => [oX h0 5 [.ref h1], aI G h1 8 u_1, aI G h2 64 f, aI G h3 64 (spO (colS (rowS (splitP f i) (szL i) (szL i)) (szL i) k) k 8 (szL i))])) hA hS hP hD [0, 1, 3] rfl [(true, 0), (true, 1), (false, 2), (true, 2)] (fun _ => rfl) (by decide) (run_V (As := [.ref h3, .int (nI k), .int (nI 8), .int (nI (szL i))]) (rest := []) (n9 := 4) hx hb hml hown hts hE hAb hl.1 hS hP hD [0, 1, 3] rfl (by decide) (t_X6_split_2_line l G b0 _ h0 h1 h3 lk2 (colS (rowS (splitP f i) (szL i) (szL i)) (szL i) k) k 8 (szL i) (by omega) (by omega) (by omega)) (lw_V q1072 q1074 qs20 q118 q1075) 0 rfl rfl ⟨rfl, by decide, by decide, by decide +kernel⟩ ⟨Nat.le_of_ble_eq_true rfl, Nat.le_of_ble_eq_true rfl⟩ ⟨by first | exact Nat.le_of_ble_eq_true rfl | (simp only [rm_X6_split, rm_X6_split_2_line]; omega), by first | exact Nat.le_of_ble_eq_true rfl | (simp only [rm_X6_split, rm_X6_split_2_line]; omega)⟩ dX6_split_74 (Nat.le_of_ble_eq_true rfl) rfl rfl) (fun u_1 H locs h_1 hP hD hS => ?_)
                    have hP : va_P G.1 vwCl [oX h0 5 [.ref h1], aI G h1 8 u_1, aI G h2 64 f, aI G h3 64 (spO (colS (rowS (splitP f i) (szL i) (szL i)) (szL i) k) k 8 (szL i))] _ := hP
                    have hD : va_D A [oX h0 5 [.ref h1], aI G h1 8 u_1, aI G h2 64 f, aI G h3 64 (spO (colS (rowS (splitP f i) (szL i) (szL i)) (szL i) k) k 8 (szL i))] := hD
                    refine N_iinc (a := k) (b := 1) (k9 := 6) (lv' := [(6, .int (nI (k + 1))), (0, .ref h0), (1, .ref h2), (2, .ref h3), (3, .int (nI L)), (4, .int (nI (i + 1))), (5, .int (nI (szL i)))]) hx hb dX6_split_77 hl rfl rfl (by decide) rfl (fun ls hl => ?_)
                    refine lv_goto (tgt := 59) hx hb dX6_split_80 (by decide) ?_
                    have hP : va_P G.1 vwCl [oX h0 5 [.ref h1], aI G h1 8 u_1, aI G h2 64 f, aI G h3 64 (colS (rowS (splitP f i) (szL i) (szL i)) (szL i) (k + 1))] _ := hP
                    have hD : va_D A [oX h0 5 [.ref h1], aI G h1 8 u_1, aI G h2 64 f, aI G h3 64 (colS (rowS (splitP f i) (szL i) (szL i)) (szL i) (k + 1))] := hD
                    have hl : lv_has ls 7 [(0, .ref h0), (1, .ref h2), (2, .ref h3), (3, .int (nI L)), (4, .int (nI (i + 1))), (5, .int (nI (szL i))), (6, .int (nI (k + 1)))] := lv_sub hl [1, 2, 3, 4, 5, 6, 0] rfl
                    exact ih_59 (k + 1) u_1 (by omega) (by omega) _ _ _ hP hD hS hl
              have hP : va_P G.1 vwCl [oX h0 5 [.ref h1], aI G h1 8 lk, aI G h2 64 f, aI G h3 64 (colS (rowS (splitP f i) (szL i) (szL i)) (szL i) 0)] _ := hP
              have hD : va_D A [oX h0 5 [.ref h1], aI G h1 8 lk, aI G h2 64 f, aI G h3 64 (colS (rowS (splitP f i) (szL i) (szL i)) (szL i) 0)] := hD
              have hl : lv_has ls 7 [(0, .ref h0), (1, .ref h2), (2, .ref h3), (3, .int (nI L)), (4, .int (nI (i + 1))), (5, .int (nI (szL i))), (6, .int (nI 0))] := lv_sub hl [1, 2, 3, 4, 5, 6, 0] rfl
              exact lp_59 _ 0 lk (by omega) (Nat.lt_succ_self _) _ _ _ hP hD hS hl
            · skip
              refine lv_aload_n hx hb dX6_split_37 rfl (lv_at hl 0 rfl) ?_
              refine lv_aload_n hx hb dX6_split_38 rfl (lv_at hl 2 rfl) ?_
              refine lv_bipush (v := nI 8) hx hb dX6_split_39 (by decide) ?_
              refine lv_iload hx hb dX6_split_41 (lv_at hl 6 rfl) ?_
              refine N_imul hx hb dX6_split_43 ?_
              refine lv_iconst (v := nI 1) hx hb dX6_split_44 (by decide) ?_
              refine lv_iload hx hb dX6_split_45 (lv_at hl 5 rfl) ?_
              refine fin_v (ws' := (fun (u_2 : Nat → Int32) => [oX h0 5 [.ref h1], aI G h1 8 u_2, aI G h2 64 f, aI G h3 64 (spO (rowS (splitP f i) (szL i) k) (8 * k) 1 (szL i))])) hA hS hP hD [0, 1, 3] rfl [(true, 0), (true, 1), (false, 2), (true, 2)] (fun _ => rfl) (by decide) (run_V (As := [.ref h3, .int (nI (8 * k)), .int (nI 1), .int (nI (szL i))]) (rest := []) (n9 := 4) hx hb hml hown hts hE hAb hl.1 hS hP hD [0, 1, 3] rfl (by decide) (t_X6_split_2_line l G b0 _ h0 h1 h3 lk (rowS (splitP f i) (szL i) k) (8 * k) 1 (szL i) (by omega) (by omega) (by omega)) (lw_V q1072 q1074 qs20 q118 q1075) 0 rfl rfl ⟨rfl, by decide, by decide, by decide +kernel⟩ ⟨Nat.le_of_ble_eq_true rfl, Nat.le_of_ble_eq_true rfl⟩ ⟨by first | exact Nat.le_of_ble_eq_true rfl | (simp only [rm_X6_split, rm_X6_split_2_line]; omega), by first | exact Nat.le_of_ble_eq_true rfl | (simp only [rm_X6_split, rm_X6_split_2_line]; omega)⟩ dX6_split_47 (Nat.le_of_ble_eq_true rfl) rfl rfl) (fun u_2 H locs h_2 hP hD hS => ?_)
              have hP : va_P G.1 vwCl [oX h0 5 [.ref h1], aI G h1 8 u_2, aI G h2 64 f, aI G h3 64 (spO (rowS (splitP f i) (szL i) k) (8 * k) 1 (szL i))] _ := hP
              have hD : va_D A [oX h0 5 [.ref h1], aI G h1 8 u_2, aI G h2 64 f, aI G h3 64 (spO (rowS (splitP f i) (szL i) k) (8 * k) 1 (szL i))] := hD
              refine N_iinc (a := k) (b := 1) (k9 := 6) (lv' := [(6, .int (nI (k + 1))), (0, .ref h0), (1, .ref h2), (2, .ref h3), (3, .int (nI L)), (4, .int (nI (i + 1))), (5, .int (nI (szL i)))]) hx hb dX6_split_50 hl rfl rfl (by decide) rfl (fun ls hl => ?_)
              refine lv_goto (tgt := 30) hx hb dX6_split_53 (by decide) ?_
              have hP : va_P G.1 vwCl [oX h0 5 [.ref h1], aI G h1 8 u_2, aI G h2 64 f, aI G h3 64 (rowS (splitP f i) (szL i) (k + 1))] _ := hP
              have hD : va_D A [oX h0 5 [.ref h1], aI G h1 8 u_2, aI G h2 64 f, aI G h3 64 (rowS (splitP f i) (szL i) (k + 1))] := hD
              have hl : lv_has ls 7 [(0, .ref h0), (1, .ref h2), (2, .ref h3), (3, .int (nI L)), (4, .int (nI (i + 1))), (5, .int (nI (szL i))), (6, .int (nI (k + 1)))] := lv_sub hl [1, 2, 3, 4, 5, 6, 0] rfl
              exact ih_30 (k + 1) u_2 (by omega) (by omega) _ _ _ hP hD hS hl
        have hP : va_P G.1 vwCl [oX h0 5 [.ref h1], aI G h1 8 li, aI G h2 64 f, aI G h3 64 (rowS (splitP f i) (szL i) 0)] _ := hP
        have hD : va_D A [oX h0 5 [.ref h1], aI G h1 8 li, aI G h2 64 f, aI G h3 64 (rowS (splitP f i) (szL i) 0)] := hD
        have hl : lv_has ls 7 [(0, .ref h0), (1, .ref h2), (2, .ref h3), (3, .int (nI L)), (4, .int (nI (i + 1))), (5, .int (nI (szL i))), (6, .int (nI 0))] := lv_sub hl [2, 3, 4, 5, 6, 1, 0] rfl
        exact lp_30 _ 0 li (by omega) (Nat.lt_succ_self _) _ _ _ hP hD hS hl
  have e_3 : ∀ j, j < 64 → (va_cpy f g 0 0 64) j = (splitP f 0) j := by intro j hj; simp [va_cpy, hj, splitP]
  have hP : va_P G.1 vwCl [oX h0 5 [.ref h1], aI G h1 8 ln, aI G h2 64 f, aI G h3 64 (splitP f 0)] _ := cong_P (q0 := 3) e_3 rfl rfl hP
  have hD : va_D A [oX h0 5 [.ref h1], aI G h1 8 ln, aI G h2 64 f, aI G h3 64 (splitP f 0)] := cong_D (q0 := 3) rfl rfl hD
  have hP : va_P G.1 vwCl [oX h0 5 [.ref h1], aI G h1 8 ln, aI G h2 64 f, aI G h3 64 (splitP f 0)] _ := hP
  have hD : va_D A [oX h0 5 [.ref h1], aI G h1 8 ln, aI G h2 64 f, aI G h3 64 (splitP f 0)] := hD
  have hl : lv_has ls 7 [(0, .ref h0), (1, .ref h2), (2, .ref h3), (3, .int (nI L)), (4, .int (nI 1))] := lv_sub hl [1, 2, 3, 4, 0] rfl
  have e_4 : nI 1 = nI (0 + 1) := by rfl
  rw [e_4] at hl
  have hl : lv_has ls 7 [(0, .ref h0), (1, .ref h2), (2, .ref h3), (3, .int (nI L)), (4, .int (nI (0 + 1)))] := hl
  exact lp_12 _ 0 ln (by omega) (Nat.lt_succ_self _) _ _ _ hP hD hS hl
def rm_X6_join : Room := ({ frames := 2, cells := 0, slots := 0, locals := 56 } : Room)
set_option maxHeartbeats 400000 in
set_option maxRecDepth 100000 in
theorem t_X6_join (l : Launch) (G : GG) (b0 sz : Nat) (h0 h1 h2 h3 : Nat) (ln f g : Nat → Int32) (L : Nat) (hL : L ≤ 3) : CT l yX6_join cX6_join 7 (some (FieldType.array FieldType.int)) (rm_X6_join) G b0 [.ref h0, .ref h2, .ref h3, .int (nI L)] [oX h0 5 [.ref h1], aI G h1 8 ln, aI G h2 64 f, aI G h3 64 g] sz (Rr G (fun (u : Nat → Int32) => True) (fun (u : Nat → Int32) => h3) (fun (u : Nat → Int32) => [oX h0 5 [.ref h1], aI G h1 8 u, aI G h2 64 f, aI G h3 64 (joinP L f)])) := by
  refine CT.go (by decide) (Nat.le_of_ble_eq_true rfl) (fun p e s m below meth c A ls AR QQ hx hb hr hlk hml hown hnm hts hE hA hAb hsz hP hD hS hl hQQ => ?_)
  have hK := hE.1
  have hown : s.vm.findClass RX6 = some m.cls := hown
  have hl : lv_has ls 7 [(0, .ref h0), (1, .ref h2), (2, .ref h3), (3, .int (nI L))] := hl
  clear hsz
  refine lv_aload_n hx hb dX6_join_0 rfl (lv_at hl 1 rfl) ?_
  refine lv_iconst (v := nI 0) hx hb dX6_join_1 (by decide) ?_
  refine lv_aload_n hx hb dX6_join_2 rfl (lv_at hl 2 rfl) ?_
  refine lv_iconst (v := nI 0) hx hb dX6_join_3 (by decide) ?_
  refine lv_bipush (v := nI 64) hx hb dX6_join_4 (by decide) ?_
  refine N_copyi (ws' := [oX h0 5 [.ref h1], aI G h1 8 ln, aI G h2 64 f, aI G h3 64 (va_cpy f g 0 0 64)]) hx hb (hml.trans hl.1.symm) hown hts q1071 q560 q559 q135 hK hP hD hS 2 3 0 rfl rfl rfl (by omega) (by omega) (by omega) (by omega) (Nat.le_of_ble_eq_true rfl) (Nat.le_of_ble_eq_true rfl) dX6_join_6 rfl (fun H locs hP hD hS => ?_)
  refine lv_iload_n hx hb dX6_join_9 rfl (lv_at hl 3 rfl) ?_
  refine lv_istore (lv' := [(4, .int (nI L)), (0, .ref h0), (1, .ref h2), (2, .ref h3), (3, .int (nI L))]) hx hb dX6_join_10 hl (by decide) rfl (fun ls hl => ?_)
  have lp_12 : ∀ (n_12 : Nat) (i : Nat) (li fi : Nat → Int32), (i ≤ L) → (joinP i fi = joinP L f) → (i) < n_12 → ∀ (H : Heap) (locs : List Loc) (ls : Array Slot), va_P G.1 vwCl [oX h0 5 [.ref h1], aI G h1 8 li, aI G h2 64 f, aI G h3 64 fi] H → va_D A [oX h0 5 [.ref h1], aI G h1 8 li, aI G h2 64 f, aI G h3 64 fi] → va_S A s.heap H locs → lv_has ls 7 [(0, .ref h0), (1, .ref h2), (2, .ref h3), (3, .int (nI L)), (4, .int (nI i))] → W p l e (rm_X6_join) s m AR below meth c H locs 0 0 QQ (F0 m 12 ls []) := by
    intro n_12
    induction n_12 with
    | zero => intro i li fi hi hj hn_; exact absurd hn_ (Nat.not_lt_zero _)
    | succ n_12 ih_12 =>
      intro i li fi hi hj hn_12 H locs ls hP hD hS hl
      refine lv_iload hx hb dX6_join_12 (lv_at hl 4 rfl) ?_
      refine N_if_le (tgt := 88) hx hb dX6_join_14 (by decide) (by omega) (fun c_14 => ?_) (fun c_14 => ?_)
      · skip
        refine lv_aload_n hx hb dX6_join_88 rfl (lv_at hl 2 rfl) ?_
        have e_1 : (fi) = (joinP L f) := by rw [show i = 0 by omega] at hj; exact hj
        have hP : va_P G.1 vwCl [oX h0 5 [.ref h1], aI G h1 8 li, aI G h2 64 f, aI G h3 64 (joinP L f)] _ := cong_P (q0 := 3) (fun j _ => congrFun e_1 j) rfl rfl hP
        have hD : va_D A [oX h0 5 [.ref h1], aI G h1 8 li, aI G h2 64 f, aI G h3 64 (joinP L f)] := cong_D (q0 := 3) rfl rfl hD
        have hP : va_P G.1 vwCl [oX h0 5 [.ref h1], aI G h1 8 li, aI G h2 64 f, aI G h3 64 (joinP L f)] _ := hP
        have hD : va_D A [oX h0 5 [.ref h1], aI G h1 8 li, aI G h2 64 f, aI G h3 64 (joinP L f)] := hD
        rw [hQQ]
        exact rt_r hx hb hr hlk (by first | exact Or.inl ⟨_, rfl⟩ | exact Or.inr ⟨_, rfl⟩) li dX6_join_89 hP hD hS (by first | exact Nat.le_of_ble_eq_true rfl | (simp only [rm_X6_join]; omega)) (by first | exact Nat.le_of_ble_eq_true rfl | (simp only [rm_X6_join]; omega)) (by rfl) trivial
      · skip
        refine lv_bipush (v := nI 8) hx hb dX6_join_17 (by decide) ?_
        refine lv_iload hx hb dX6_join_19 (lv_at hl 4 rfl) ?_
        refine lv_iconst (v := nI 1) hx hb dX6_join_21 (by decide) ?_
        refine N_isub hx hb dX6_join_22 (by omega) ?_
        refine N_ishr hx hb dX6_join_23 (by omega) (by omega) ?_
        have hsz_ : 8 / 2 ^ (i - 1) = szL (i - 1) := by first | rfl | (unfold szL; congr 2; omega)
        rw [hsz_]
        have hz := szL_in (show i - 1 < 3 by omega)
        refine lv_istore (lv' := [(5, .int (nI (szL (i - 1)))), (0, .ref h0), (1, .ref h2), (2, .ref h3), (3, .int (nI L)), (4, .int (nI i))]) hx hb dX6_join_24 hl (by decide) rfl (fun ls hl => ?_)
        refine lv_iconst (v := nI 0) hx hb dX6_join_26 (by decide) ?_
        refine lv_istore (lv' := [(6, .int (nI 0)), (5, .int (nI (szL (i - 1)))), (0, .ref h0), (1, .ref h2), (2, .ref h3), (3, .int (nI L)), (4, .int (nI i))]) hx hb dX6_join_27 hl (by decide) rfl (fun ls hl => ?_)
        have lp_29 : ∀ (n_29 : Nat) (k : Nat) (lk : Nat → Int32), (k ≤ szL (i - 1)) → (szL (i - 1) - k) < n_29 → ∀ (H : Heap) (locs : List Loc) (ls : Array Slot), va_P G.1 vwCl [oX h0 5 [.ref h1], aI G h1 8 lk, aI G h2 64 f, aI G h3 64 (colJ fi (szL (i - 1)) k)] H → va_D A [oX h0 5 [.ref h1], aI G h1 8 lk, aI G h2 64 f, aI G h3 64 (colJ fi (szL (i - 1)) k)] → va_S A s.heap H locs → lv_has ls 7 [(0, .ref h0), (1, .ref h2), (2, .ref h3), (3, .int (nI L)), (4, .int (nI i)), (5, .int (nI (szL (i - 1)))), (6, .int (nI k))] → W p l e (rm_X6_join) s m AR below meth c H locs 0 0 QQ (F0 m 29 ls []) := by
          intro n_29
          induction n_29 with
          | zero => intro k lk hk hn_; exact absurd hn_ (Nat.not_lt_zero _)
          | succ n_29 ih_29 =>
            intro k lk hk hn_29 H locs ls hP hD hS hl
            refine lv_iload hx hb dX6_join_29 (lv_at hl 6 rfl) ?_
            refine lv_iload hx hb dX6_join_31 (lv_at hl 5 rfl) ?_
            refine N_icmp_ge (tgt := 53) hx hb dX6_join_33 (by decide) (by omega) (by omega) (fun c_33 => ?_) (fun c_33 => ?_)
            · skip
              have ek_ : k = szL (i - 1) := by omega
              rw [ek_] at hP hD
              have hl : lv_has ls 7 [(0, .ref h0), (1, .ref h2), (2, .ref h3), (3, .int (nI L)), (4, .int (nI i)), (5, .int (nI (szL (i - 1))))] := lv_sub hl [0, 1, 2, 3, 4, 5] rfl
              refine lv_iconst (v := nI 0) hx hb dX6_join_53 (by decide) ?_
              refine lv_istore (lv' := [(6, .int (nI 0)), (0, .ref h0), (1, .ref h2), (2, .ref h3), (3, .int (nI L)), (4, .int (nI i)), (5, .int (nI (szL (i - 1))))]) hx hb dX6_join_54 hl (by decide) rfl (fun ls hl => ?_)
              have lp_56 : ∀ (n_56 : Nat) (k : Nat) (lk2 : Nat → Int32), (k ≤ szL (i - 1)) → (szL (i - 1) - k) < n_56 → ∀ (H : Heap) (locs : List Loc) (ls : Array Slot), va_P G.1 vwCl [oX h0 5 [.ref h1], aI G h1 8 lk2, aI G h2 64 f, aI G h3 64 (rowJ (colJ fi (szL (i - 1)) (szL (i - 1))) (szL (i - 1)) k)] H → va_D A [oX h0 5 [.ref h1], aI G h1 8 lk2, aI G h2 64 f, aI G h3 64 (rowJ (colJ fi (szL (i - 1)) (szL (i - 1))) (szL (i - 1)) k)] → va_S A s.heap H locs → lv_has ls 7 [(0, .ref h0), (1, .ref h2), (2, .ref h3), (3, .int (nI L)), (4, .int (nI i)), (5, .int (nI (szL (i - 1)))), (6, .int (nI k))] → W p l e (rm_X6_join) s m AR below meth c H locs 0 0 QQ (F0 m 56 ls []) := by
                intro n_56
                induction n_56 with
                | zero => intro k lk2 hk hn_; exact absurd hn_ (Nat.not_lt_zero _)
                | succ n_56 ih_56 =>
                  intro k lk2 hk hn_56 H locs ls hP hD hS hl
                  refine lv_iload hx hb dX6_join_56 (lv_at hl 6 rfl) ?_
                  refine lv_iload hx hb dX6_join_58 (lv_at hl 5 rfl) ?_
                  refine N_icmp_ge (tgt := 82) hx hb dX6_join_60 (by decide) (by omega) (by omega) (fun c_60 => ?_) (fun c_60 => ?_)
                  · skip
                    have hi1 : i = (i - 1) + 1 := by omega
                    have ek_ : k = szL (i - 1) := by omega
                    rw [ek_] at hP hD
                    have hl : lv_has ls 7 [(0, .ref h0), (1, .ref h2), (2, .ref h3), (3, .int (nI L)), (4, .int (nI i))] := lv_sub hl [0, 1, 2, 3, 4] rfl
                    refine N_iincd (a := i) (k9 := 4) (lv' := [(4, .int (nI (i - 1))), (0, .ref h0), (1, .ref h2), (2, .ref h3), (3, .int (nI L))]) hx hb dX6_join_82 hl rfl rfl (by omega) (by decide) rfl (fun ls hl => ?_)
                    refine lv_goto (tgt := 12) hx hb dX6_join_85 (by decide) ?_
                    have hl : lv_has ls 7 [(0, .ref h0), (1, .ref h2), (2, .ref h3), (3, .int (nI L)), (4, .int (nI (i - 1)))] := lv_sub hl [1, 2, 3, 4, 0] rfl
                    exact ih_12 (i - 1) lk2 (rowJ (colJ fi (szL (i - 1)) (szL (i - 1))) (szL (i - 1)) (szL (i - 1))) (by omega) (by rw [← hj, hi1]; rfl) (by omega) _ _ _ hP hD hS hl
                  · skip
                    refine lv_aload_n hx hb dX6_join_63 rfl (lv_at hl 0 rfl) ?_
                    refine lv_aload_n hx hb dX6_join_64 rfl (lv_at hl 2 rfl) ?_
                    refine lv_bipush (v := nI 8) hx hb dX6_join_65 (by decide) ?_
                    refine lv_iload hx hb dX6_join_67 (lv_at hl 6 rfl) ?_
                    refine N_imul hx hb dX6_join_69 ?_
                    refine lv_iconst (v := nI 1) hx hb dX6_join_70 (by decide) ?_
                    refine lv_iload hx hb dX6_join_71 (lv_at hl 5 rfl) ?_
                    refine fin_v (ws' := (fun (u_2 : Nat → Int32) => [oX h0 5 [.ref h1], aI G h1 8 u_2, aI G h2 64 f, aI G h3 64 (joO (rowJ (colJ fi (szL (i - 1)) (szL (i - 1))) (szL (i - 1)) k) (8 * k) 1 (szL (i - 1)))])) hA hS hP hD [0, 1, 3] rfl [(true, 0), (true, 1), (false, 2), (true, 2)] (fun _ => rfl) (by decide) (run_V (As := [.ref h3, .int (nI (8 * k)), .int (nI 1), .int (nI (szL (i - 1)))]) (rest := []) (n9 := 4) hx hb hml hown hts hE hAb hl.1 hS hP hD [0, 1, 3] rfl (by decide) (t_X6_join_2_line l G b0 _ h0 h1 h3 lk2 (rowJ (colJ fi (szL (i - 1)) (szL (i - 1))) (szL (i - 1)) k) (8 * k) 1 (szL (i - 1)) (by omega) (by omega) (by omega)) (lw_V q1209 q1211 qs33 q118 q1212) 0 rfl rfl ⟨rfl, by decide, by decide, by decide +kernel⟩ ⟨Nat.le_of_ble_eq_true rfl, Nat.le_of_ble_eq_true rfl⟩ ⟨by first | exact Nat.le_of_ble_eq_true rfl | (simp only [rm_X6_join, rm_X6_join_2_line]; omega), by first | exact Nat.le_of_ble_eq_true rfl | (simp only [rm_X6_join, rm_X6_join_2_line]; omega)⟩ dX6_join_73 (Nat.le_of_ble_eq_true rfl) rfl rfl) (fun u_2 H locs h_2 hP hD hS => ?_)
                    have hP : va_P G.1 vwCl [oX h0 5 [.ref h1], aI G h1 8 u_2, aI G h2 64 f, aI G h3 64 (joO (rowJ (colJ fi (szL (i - 1)) (szL (i - 1))) (szL (i - 1)) k) (8 * k) 1 (szL (i - 1)))] _ := hP
                    have hD : va_D A [oX h0 5 [.ref h1], aI G h1 8 u_2, aI G h2 64 f, aI G h3 64 (joO (rowJ (colJ fi (szL (i - 1)) (szL (i - 1))) (szL (i - 1)) k) (8 * k) 1 (szL (i - 1)))] := hD
                    refine N_iinc (a := k) (b := 1) (k9 := 6) (lv' := [(6, .int (nI (k + 1))), (0, .ref h0), (1, .ref h2), (2, .ref h3), (3, .int (nI L)), (4, .int (nI i)), (5, .int (nI (szL (i - 1))))]) hx hb dX6_join_76 hl rfl rfl (by decide) rfl (fun ls hl => ?_)
                    refine lv_goto (tgt := 56) hx hb dX6_join_79 (by decide) ?_
                    have hP : va_P G.1 vwCl [oX h0 5 [.ref h1], aI G h1 8 u_2, aI G h2 64 f, aI G h3 64 (rowJ (colJ fi (szL (i - 1)) (szL (i - 1))) (szL (i - 1)) (k + 1))] _ := hP
                    have hD : va_D A [oX h0 5 [.ref h1], aI G h1 8 u_2, aI G h2 64 f, aI G h3 64 (rowJ (colJ fi (szL (i - 1)) (szL (i - 1))) (szL (i - 1)) (k + 1))] := hD
                    have hl : lv_has ls 7 [(0, .ref h0), (1, .ref h2), (2, .ref h3), (3, .int (nI L)), (4, .int (nI i)), (5, .int (nI (szL (i - 1)))), (6, .int (nI (k + 1)))] := lv_sub hl [1, 2, 3, 4, 5, 6, 0] rfl
                    exact ih_56 (k + 1) u_2 (by omega) (by omega) _ _ _ hP hD hS hl
              have hP : va_P G.1 vwCl [oX h0 5 [.ref h1], aI G h1 8 lk, aI G h2 64 f, aI G h3 64 (rowJ (colJ fi (szL (i - 1)) (szL (i - 1))) (szL (i - 1)) 0)] _ := hP
              have hD : va_D A [oX h0 5 [.ref h1], aI G h1 8 lk, aI G h2 64 f, aI G h3 64 (rowJ (colJ fi (szL (i - 1)) (szL (i - 1))) (szL (i - 1)) 0)] := hD
              have hl : lv_has ls 7 [(0, .ref h0), (1, .ref h2), (2, .ref h3), (3, .int (nI L)), (4, .int (nI i)), (5, .int (nI (szL (i - 1)))), (6, .int (nI 0))] := lv_sub hl [1, 2, 3, 4, 5, 6, 0] rfl
              exact lp_56 _ 0 lk (by omega) (Nat.lt_succ_self _) _ _ _ hP hD hS hl
            · skip
              refine lv_aload_n hx hb dX6_join_36 rfl (lv_at hl 0 rfl) ?_
              refine lv_aload_n hx hb dX6_join_37 rfl (lv_at hl 2 rfl) ?_
              refine lv_iload hx hb dX6_join_38 (lv_at hl 6 rfl) ?_
              refine lv_bipush (v := nI 8) hx hb dX6_join_40 (by decide) ?_
              refine lv_iload hx hb dX6_join_42 (lv_at hl 5 rfl) ?_
              refine fin_v (ws' := (fun (u_3 : Nat → Int32) => [oX h0 5 [.ref h1], aI G h1 8 u_3, aI G h2 64 f, aI G h3 64 (joO (colJ fi (szL (i - 1)) k) k 8 (szL (i - 1)))])) hA hS hP hD [0, 1, 3] rfl [(true, 0), (true, 1), (false, 2), (true, 2)] (fun _ => rfl) (by decide) (run_V (As := [.ref h3, .int (nI k), .int (nI 8), .int (nI (szL (i - 1)))]) (rest := []) (n9 := 4) hx hb hml hown hts hE hAb hl.1 hS hP hD [0, 1, 3] rfl (by decide) (t_X6_join_2_line l G b0 _ h0 h1 h3 lk (colJ fi (szL (i - 1)) k) k 8 (szL (i - 1)) (by omega) (by omega) (by omega)) (lw_V q1209 q1211 qs33 q118 q1212) 0 rfl rfl ⟨rfl, by decide, by decide, by decide +kernel⟩ ⟨Nat.le_of_ble_eq_true rfl, Nat.le_of_ble_eq_true rfl⟩ ⟨by first | exact Nat.le_of_ble_eq_true rfl | (simp only [rm_X6_join, rm_X6_join_2_line]; omega), by first | exact Nat.le_of_ble_eq_true rfl | (simp only [rm_X6_join, rm_X6_join_2_line]; omega)⟩ dX6_join_44 (Nat.le_of_ble_eq_true rfl) rfl rfl) (fun u_3 H locs h_3 hP hD hS => ?_)
              have hP : va_P G.1 vwCl [oX h0 5 [.ref h1], aI G h1 8 u_3, aI G h2 64 f, aI G h3 64 (joO (colJ fi (szL (i - 1)) k) k 8 (szL (i - 1)))] _ := hP
              have hD : va_D A [oX h0 5 [.ref h1], aI G h1 8 u_3, aI G h2 64 f, aI G h3 64 (joO (colJ fi (szL (i - 1)) k) k 8 (szL (i - 1)))] := hD
              refine N_iinc (a := k) (b := 1) (k9 := 6) (lv' := [(6, .int (nI (k + 1))), (0, .ref h0), (1, .ref h2), (2, .ref h3), (3, .int (nI L)), (4, .int (nI i)), (5, .int (nI (szL (i - 1))))]) hx hb dX6_join_47 hl rfl rfl (by decide) rfl (fun ls hl => ?_)
              refine lv_goto (tgt := 29) hx hb dX6_join_50 (by decide) ?_
              have hP : va_P G.1 vwCl [oX h0 5 [.ref h1], aI G h1 8 u_3, aI G h2 64 f, aI G h3 64 (colJ fi (szL (i - 1)) (k + 1))] _ := hP
              have hD : va_D A [oX h0 5 [.ref h1], aI G h1 8 u_3, aI G h2 64 f, aI G h3 64 (colJ fi (szL (i - 1)) (k + 1))] := hD
              have hl : lv_has ls 7 [(0, .ref h0), (1, .ref h2), (2, .ref h3), (3, .int (nI L)), (4, .int (nI i)), (5, .int (nI (szL (i - 1)))), (6, .int (nI (k + 1)))] := lv_sub hl [1, 2, 3, 4, 5, 6, 0] rfl
              exact ih_29 (k + 1) u_3 (by omega) (by omega) _ _ _ hP hD hS hl
        have hP : va_P G.1 vwCl [oX h0 5 [.ref h1], aI G h1 8 li, aI G h2 64 f, aI G h3 64 (colJ fi (szL (i - 1)) 0)] _ := hP
        have hD : va_D A [oX h0 5 [.ref h1], aI G h1 8 li, aI G h2 64 f, aI G h3 64 (colJ fi (szL (i - 1)) 0)] := hD
        have hl : lv_has ls 7 [(0, .ref h0), (1, .ref h2), (2, .ref h3), (3, .int (nI L)), (4, .int (nI i)), (5, .int (nI (szL (i - 1)))), (6, .int (nI 0))] := lv_sub hl [2, 3, 4, 5, 6, 1, 0] rfl
        exact lp_29 _ 0 li (by omega) (Nat.lt_succ_self _) _ _ _ hP hD hS hl
  have e_4 : ∀ j, j < 64 → (va_cpy f g 0 0 64) j = (f) j := by intro j hj; simp [va_cpy, hj]
  have hP : va_P G.1 vwCl [oX h0 5 [.ref h1], aI G h1 8 ln, aI G h2 64 f, aI G h3 64 f] _ := cong_P (q0 := 3) e_4 rfl rfl hP
  have hD : va_D A [oX h0 5 [.ref h1], aI G h1 8 ln, aI G h2 64 f, aI G h3 64 f] := cong_D (q0 := 3) rfl rfl hD
  have hP : va_P G.1 vwCl [oX h0 5 [.ref h1], aI G h1 8 ln, aI G h2 64 f, aI G h3 64 f] _ := hP
  have hD : va_D A [oX h0 5 [.ref h1], aI G h1 8 ln, aI G h2 64 f, aI G h3 64 f] := hD
  have hl : lv_has ls 7 [(0, .ref h0), (1, .ref h2), (2, .ref h3), (3, .int (nI L)), (4, .int (nI L))] := lv_sub hl [1, 2, 3, 4, 0] rfl
  exact lp_12 _ L ln f (by omega) (by rfl) (Nat.lt_succ_self _) _ _ _ hP hD hS hl
def rm_X6_init : Room := ({ frames := 1, cells := 1, slots := 8, locals := 20 } : Room)
set_option maxHeartbeats 400000 in
set_option maxRecDepth 100000 in
theorem t_X6_init (l : Launch) (G : GG) (b0 sz : Nat) (h0 : Nat) : CT l yX6_init cX6_init 1 none (rm_X6_init) G b0 [.ref h0] [oX h0 5 [.null]] sz (Rv G (fun (u : Nat) => True) (fun (u : Nat) => [oX h0 5 [.ref u], aI G u 8 (fun _ => 0)])) := by
  refine CT.go (by decide) (Nat.le_of_ble_eq_true rfl) (fun p e s m below meth c A ls AR QQ hx hb hr hlk hml hown hnm hts hE hA hAb hsz hP hD hS hl hQQ => ?_)
  have hK := hE.1
  have hown : s.vm.findClass RX6 = some m.cls := hown
  have hl : lv_has ls 1 [(0, .ref h0)] := hl
  clear hsz
  refine lv_aload_n hx hb dX6_init_0 rfl (lv_at hl 0 rfl) ?_
  refine O_init hx hb (hml.trans hl.1.symm) hown hts q365 q150 q151 dX6_init_1 (Nat.le_of_ble_eq_true rfl) (Nat.le_of_ble_eq_true rfl) ?_
  refine lv_aload_n hx hb dX6_init_4 rfl (lv_at hl 0 rfl) ?_
  refine lv_bipush (v := nI 8) hx hb dX6_init_5 (by decide) ?_
  refine A_newa (atype := .int) (ty := .int) (a9 := (8, .inl (fun _ => 0))) (t0 := 0) hx hb hts q175 rfl (fun _ h_ => by cases h_) hK hP hD hS hA rfl (fun _ => rfl) (by omega) (by first | exact Nat.le_of_ble_eq_true rfl | (simp only [componentBytes]; omega)) (by exact (by first | exact Nat.le_of_ble_eq_true rfl | omega)) (by exact (by first | exact Nat.le_of_ble_eq_true rfl | omega)) dX6_init_7 (fun q1 H hP hD hS => ?_)
  have hP : va_P G.1 vwCl [oX h0 5 [.null], aI G q1 8 (fun _ => 0)] _ := hP
  have hD : va_D A [oX h0 5 [.null], aI G q1 8 (fun _ => 0)] := hD
  refine va_putF (D := G.1) (ci := 5) (v := .ref q1) (ty := (.array .int)) (C := RX6) (T := TX6) (N := 1) hx hb hts in_X6 tyX6 tyX6_ok nmX6 hown hK hP hD hS 0 rfl rfl 0 (by decide) (hts _ q366) (fun _ h9 => h9) rfl hnm rfl (by decide +kernel) rfl rfl (Nat.le_of_ble_eq_true rfl) dX6_init_9 (fun H locs hP hD hS => ?_)
  have hP : va_P G.1 vwCl [oX h0 5 [.ref q1], aI G q1 8 (fun _ => 0)] _ := hP
  have hD : va_D A [oX h0 5 [.ref q1], aI G q1 8 (fun _ => 0)] := hD
  have hP : va_P G.1 vwCl [oX h0 5 [.ref q1], aI G q1 8 (fun _ => 0)] _ := hP
  have hD : va_D A [oX h0 5 [.ref q1], aI G q1 8 (fun _ => 0)] := hD
  rw [hQQ]
  exact rt_v hx hb hr hlk q1 dX6_init_12 hP hD hS (by first | exact Nat.le_of_ble_eq_true rfl | (simp only [rm_X6_init]; omega)) (by first | exact Nat.le_of_ble_eq_true rfl | (simp only [rm_X6_init]; omega)) trivial
