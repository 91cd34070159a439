/-! ===== Sheet ===== -/
/-- 1 where two rows differ -/
def dne (f g : Nat → Int32) : Nat → Int32 := fun j => bI (if f j = g j then false else true)
def turnIx (b : Bool) (k : Nat) : Nat := if b = true then 8 * (k / 8) + 8 - 1 - k % 8 else 8 * (7 - k % 8) + k / 8
def turnF (b : Bool) (sh : Nat → Int32) : Nat → Int32 := fun k => sh (turnIx b k)
def invF (sh : Nat → Int32) : Nat → Int32 := fun k => nI 255 - sh k
theorem l_sum_cong {f g : Nat → Int32} {n : Nat} (h : ∀ j, j < n → f j = g j) : l_sum f n = l_sum g n := by
  induction n with
  | zero => rfl
  | succ n ih =>
    show l_sum f n + f n = l_sum g n + g n
    rw [ih (fun j hj => h j (by omega)), h n (by omega)]
theorem dne_cong {f g f' g' : Nat → Int32} {n : Nat} (h1 : ∀ j, j < n → f j = f' j) (h2 : ∀ j, j < n → g j = g' j) : l_sum (dne f g) n = l_sum (dne f' g') n :=
  l_sum_cong (fun j hj => by simp only [dne, h1 j hj, h2 j hj])
theorem fill_pt {α : Type} {n : Nat} {g f : Nat → α} : ∀ j, j < n → fillTo n g f j = g j := fun _ h => fill_lt h
/-- a row filled from a first shade on -/
def rowF (r : Nat) (v b : Int32) (k : Nat) (sh : Nat → Int32) : Nat → Int32 := fun j => if 8 * r ≤ j ∧ j < 8 * r + k then v + nI (j - 8 * r) * b else sh j
def rowN (r : Nat) (v b : Int32) (sh : Nat → Int32) : Nat → Int32 := fun k => bI (if sh (8 * r + k) = v + nI k * b then false else true)
theorem rowF_0 {r : Nat} {v b : Int32} {sh : Nat → Int32} : rowF r v b 0 sh = sh := by
  funext j
  have : ¬ (8 * r ≤ j ∧ j < 8 * r + 0) := by omega
  simp only [rowF, this, if_false]
theorem rowF_ge {r k : Nat} {v b : Int32} {sh : Nat → Int32} : rowF r v b k sh (8 * r + k) = sh (8 * r + k) := by
  have : ¬ (8 * r ≤ 8 * r + k ∧ 8 * r + k < 8 * r + k) := by omega
  simp only [rowF, this, if_false]
theorem rowF_step {r k : Nat} {v b : Int32} {sh : Nat → Int32} : upd (rowF r v b k sh) (8 * r + k) (v + nI k * b) = rowF r v b (k + 1) sh := by
  funext j
  by_cases h : j = 8 * r + k
  · subst h
    have : 8 * r ≤ 8 * r + k ∧ 8 * r + k < 8 * r + (k + 1) := by omega
    simp only [upd, rowF, this, if_true, Nat.add_sub_cancel_left, and_self]
  · have : (8 * r ≤ j ∧ j < 8 * r + (k + 1)) ↔ (8 * r ≤ j ∧ j < 8 * r + k) := by omega
    simp only [upd, rowF, this, h, if_false]
def rm_X2_setLevels : Room := ({ frames := 0, cells := 0, slots := 0, locals := 0 } : Room)
set_option maxHeartbeats 400000 in
set_option maxRecDepth 100000 in
theorem t_X2_setLevels (l : Launch) (G : GG) (b0 sz : Nat) (h0 h1 : Nat) (sh : Nat → Int32) (lev stp why : Int32) (nx : Int32) : CT l yX2_setLevels cX2_setLevels 3 (some FieldType.int) (rm_X2_setLevels) G b0 [.ref h0, .int nx] [oX h0 1 [.ref h1, .int lev, .int stp, .int why], aI G h1 64 sh] sz (Ri G (fun (r_ : Int32) (_ : Unit) => r_ = lev) (fun (_ : Unit) => [oX h0 1 [.ref h1, .int nx, .int stp, .int why], aI G h1 64 sh])) := by
  refine CT.go (by decide) (Nat.le_of_ble_eq_true rfl) (fun p e s m below meth c A ls AR QQ hx hb hr hlk hml hown hnm hts hE hA hAb hsz hP hD hS hl hQQ => ?_)
  have hK := hE.1
  have hown : s.vm.findClass RX2 = some m.cls := hown
  have hl : lv_has ls 3 [(0, .ref h0), (1, .int nx)] := hl
  clear hsz
  refine lv_aload_n hx hb dX2_setLevels_0 rfl (lv_at hl 0 rfl) ?_
  refine va_get (D := G.1) (ci := 1) (v := .int lev) (C := RX2) (T := TX2) (N := 4) hx hb hts in_X2 hown hK hP 0 rfl rfl 1 (by decide) (hts _ q160) (fun _ h9 => h9) rfl dX2_setLevels_1 ?_
  refine lv_istore_n (lv' := [(2, .int lev), (0, .ref h0), (1, .int nx)]) hx hb dX2_setLevels_4 rfl hl (by decide) rfl (fun ls hl => ?_)
  refine lv_aload_n hx hb dX2_setLevels_5 rfl (lv_at hl 1 rfl) ?_
  refine lv_iload_n hx hb dX2_setLevels_6 rfl (lv_at hl 2 rfl) ?_
  refine va_put (D := G.1) (ci := 1) (v := .int nx) (ty := .int) (C := RX2) (T := TX2) (N := 4) hx hb hts in_X2 tyX2 tyX2_ok nmX2 hown hK hP hD hS 0 rfl rfl 1 (by decide) (hts _ q160) (fun _ h9 => h9) rfl (by decide +kernel) rfl rfl (Nat.le_of_ble_eq_true rfl) dX2_setLevels_7 (fun H locs hP hD hS => ?_)
  have hP : va_P G.1 vwCl [oX h0 1 [.ref h1, .int nx, .int stp, .int why], aI G h1 64 sh] _ := hP
  have hD : va_D A [oX h0 1 [.ref h1, .int nx, .int stp, .int why], aI G h1 64 sh] := hD
  refine lv_iload_n hx hb dX2_setLevels_10 rfl (lv_at hl 0 rfl) ?_
  rw [hQQ]
  exact rt_i hx hb hr hlk  (()) dX2_setLevels_11 hP hD hS (by first | exact Nat.le_of_ble_eq_true rfl | (simp only [rm_X2_setLevels]; omega)) (by first | exact Nat.le_of_ble_eq_true rfl | (simp only [rm_X2_setLevels]; omega)) (by rfl)
def rm_X2_setShade : Room := ({ frames := 0, cells := 0, slots := 0, locals := 0 } : Room)
set_option maxHeartbeats 400000 in
set_option maxRecDepth 100000 in
theorem t_X2_setShade (l : Launch) (G : GG) (b0 sz : Nat) (h0 h1 : Nat) (sh : Nat → Int32) (lev stp why : Int32) (c0 : Nat) (v0 : Int32) (hc0 : c0 < 64) : CT l yX2_setShade cX2_setShade 4 (some FieldType.int) (rm_X2_setShade) G b0 [.ref h0, .int (nI c0), .int v0] [oX h0 1 [.ref h1, .int lev, .int stp, .int why], aI G h1 64 sh] sz (Ri G (fun (r_ : Int32) (_ : Unit) => r_ = sh c0) (fun (_ : Unit) => [oX h0 1 [.ref h1, .int lev, .int stp, .int why], aI G h1 64 (upd sh c0 v0)])) := by
  refine CT.go (by decide) (Nat.le_of_ble_eq_true rfl) (fun p e s m below meth c A ls AR QQ hx hb hr hlk hml hown hnm hts hE hA hAb hsz hP hD hS hl hQQ => ?_)
  have hK := hE.1
  have hown : s.vm.findClass RX2 = some m.cls := hown
  have hl : lv_has ls 4 [(0, .ref h0), (1, .int (nI c0)), (2, .int v0)] := hl
  clear hsz
  refine lv_aload_n hx hb dX2_setShade_0 rfl (lv_at hl 0 rfl) ?_
  refine va_get (D := G.1) (ci := 1) (v := .ref h1) (C := RX2) (T := TX2) (N := 4) hx hb hts in_X2 hown hK hP 0 rfl rfl 0 (by decide) (hts _ q158) (fun _ h9 => h9) rfl dX2_setShade_1 ?_
  refine lv_iload_n hx hb dX2_setShade_4 rfl (lv_at hl 1 rfl) ?_
  refine N_iald hx hb dX2_setShade_5 hK hP 1 0 rfl rfl (by omega) (by omega) ?_
  refine lv_istore_n (lv' := [(3, .int (sh c0)), (0, .ref h0), (1, .int (nI c0)), (2, .int v0)]) hx hb dX2_setShade_6 rfl hl (by decide) rfl (fun ls hl => ?_)
  refine lv_aload_n hx hb dX2_setShade_7 rfl (lv_at hl 1 rfl) ?_
  refine va_get (D := G.1) (ci := 1) (v := .ref h1) (C := RX2) (T := TX2) (N := 4) hx hb hts in_X2 hown hK hP 0 rfl rfl 0 (by decide) (hts _ q158) (fun _ h9 => h9) rfl dX2_setShade_8 ?_
  refine lv_iload_n hx hb dX2_setShade_11 rfl (lv_at hl 2 rfl) ?_
  refine lv_iload_n hx hb dX2_setShade_12 rfl (lv_at hl 3 rfl) ?_
  refine N_iast (ws' := [oX h0 1 [.ref h1, .int lev, .int stp, .int why], aI G h1 64 (upd sh c0 v0)]) hx hb dX2_setShade_13 hK hP hD hS 1 0 rfl rfl (by omega) (by omega) rfl (fun H locs hP hD hS => ?_)
  refine lv_iload_n hx hb dX2_setShade_14 rfl (lv_at hl 0 rfl) ?_
  rw [hQQ]
  exact rt_i hx hb hr hlk  (()) dX2_setShade_15 hP hD hS (by first | exact Nat.le_of_ble_eq_true rfl | (simp only [rm_X2_setShade]; omega)) (by first | exact Nat.le_of_ble_eq_true rfl | (simp only [rm_X2_setShade]; omega)) (by rfl)
def rm_X2_sum : Room := ({ frames := 0, cells := 0, slots := 0, locals := 0 } : Room)
set_option maxHeartbeats 400000 in
set_option maxRecDepth 100000 in
theorem t_X2_sum (l : Launch) (G : GG) (b0 sz : Nat) (h0 h1 : Nat) (sh : Nat → Int32) (lev stp why : Int32) : CT l yX2_sum cX2_sum 6 (some FieldType.int) (rm_X2_sum) G b0 [.ref h0] [oX h0 1 [.ref h1, .int lev, .int stp, .int why], aI G h1 64 sh] sz (Ri G (fun (r_ : Int32) (_ : Unit) => r_ = l_sum sh 64) (fun (_ : Unit) => [oX h0 1 [.ref h1, .int lev, .int stp, .int why], aI G h1 64 sh])) := by
  refine CT.go (by decide) (Nat.le_of_ble_eq_true rfl) (fun p e s m below meth c A ls AR QQ hx hb hr hlk hml hown hnm hts hE hA hAb hsz hP hD hS hl hQQ => ?_)
  have hK := hE.1
  have hown : s.vm.findClass RX2 = some m.cls := hown
  have hl : lv_has ls 6 [(0, .ref h0)] := hl
  clear hsz
  refine lv_iconst (v := nI 0) hx hb dX2_sum_0 (by decide) ?_
  refine lv_istore_n (lv' := [(1, .int (nI 0)), (0, .ref h0)]) hx hb dX2_sum_1 rfl hl (by decide) rfl (fun ls hl => ?_)
  refine lv_aload_n hx hb dX2_sum_2 rfl (lv_at hl 1 rfl) ?_
  refine va_get (D := G.1) (ci := 1) (v := .ref h1) (C := RX2) (T := TX2) (N := 4) hx hb hts in_X2 hown hK hP 0 rfl rfl 0 (by decide) (hts _ q158) (fun _ h9 => h9) rfl dX2_sum_3 ?_
  refine lv_astore_n (lv' := [(2, .ref h1), (1, .int (nI 0)), (0, .ref h0)]) hx hb dX2_sum_6 rfl hl (by decide) rfl (fun ls hl => ?_)
  refine lv_aload_n hx hb dX2_sum_7 rfl (lv_at hl 0 rfl) ?_
  refine va_alen (v := nI 64) hx hb hK hP 1 0 rfl rfl rfl dX2_sum_8 ?_
  refine lv_istore_n (lv' := [(3, .int (nI 64)), (2, .ref h1), (1, .int (nI 0)), (0, .ref h0)]) hx hb dX2_sum_9 rfl hl (by decide) rfl (fun ls hl => ?_)
  refine lv_iconst (v := nI 0) hx hb dX2_sum_10 (by decide) ?_
  refine lv_istore (lv' := [(4, .int (nI 0)), (3, .int (nI 64)), (2, .ref h1), (1, .int (nI 0)), (0, .ref h0)]) hx hb dX2_sum_11 hl (by decide) rfl (fun ls hl => ?_)
  have lp_13 : ∀ (n_13 : Nat) (k : Nat), (k ≤ 64) → (64 - k) < n_13 → ∀ (H : Heap) (locs : List Loc) (ls : Array Slot), va_P G.1 vwCl [oX h0 1 [.ref h1, .int lev, .int stp, .int why], aI G h1 64 sh] H → va_D A [oX h0 1 [.ref h1, .int lev, .int stp, .int why], aI G h1 64 sh] → va_S A s.heap H locs → lv_has ls 6 [(0, .ref h0), (1, .int (l_sum sh k)), (2, .ref h1), (3, .int (nI 64)), (4, .int (nI k))] → W p l e (rm_X2_sum) s m AR below meth c H locs 0 0 QQ (F0 m 13 ls []) := by
    intro n_13
    induction n_13 with
    | zero => intro k hk hn_; exact absurd hn_ (Nat.not_lt_zero _)
    | succ n_13 ih_13 =>
      intro k hk hn_13 H locs ls hP hD hS hl
      refine lv_iload hx hb dX2_sum_13 (lv_at hl 4 rfl) ?_
      refine lv_iload_n hx hb dX2_sum_15 rfl (lv_at hl 3 rfl) ?_
      refine N_icmp_ge (tgt := 36) hx hb dX2_sum_16 (by decide) (by omega) (by omega) (fun c_16 => ?_) (fun c_16 => ?_)
      · skip
        obtain rfl : k = 64 := by omega
        refine lv_iload_n hx hb dX2_sum_36 rfl (lv_at hl 1 rfl) ?_
        rw [hQQ]
        exact rt_i hx hb hr hlk  (()) dX2_sum_37 hP hD hS (by first | exact Nat.le_of_ble_eq_true rfl | (simp only [rm_X2_sum]; omega)) (by first | exact Nat.le_of_ble_eq_true rfl | (simp only [rm_X2_sum]; omega)) (by rfl)
      · skip
        refine lv_aload_n hx hb dX2_sum_19 rfl (lv_at hl 2 rfl) ?_
        refine lv_iload hx hb dX2_sum_20 (lv_at hl 4 rfl) ?_
        refine N_iald hx hb dX2_sum_22 hK hP 1 0 rfl rfl (by omega) (by omega) ?_
        refine lv_istore (lv' := [(5, .int (sh k)), (0, .ref h0), (1, .int (l_sum sh k)), (2, .ref h1), (3, .int (nI 64)), (4, .int (nI k))]) hx hb dX2_sum_23 hl (by decide) rfl (fun ls hl => ?_)
        refine lv_iload_n hx hb dX2_sum_25 rfl (lv_at hl 2 rfl) ?_
        refine lv_iload hx hb dX2_sum_26 (lv_at hl 0 rfl) ?_
        refine lv_iadd hx hb dX2_sum_28 ?_
        refine lv_istore_n (lv' := [(1, .int ((l_sum sh k) + (sh k))), (5, .int (sh k)), (0, .ref h0), (2, .ref h1), (3, .int (nI 64)), (4, .int (nI k))]) hx hb dX2_sum_29 rfl hl (by decide) rfl (fun ls hl => ?_)
        refine N_iinc (a := k) (b := 1) (k9 := 5) (lv' := [(4, .int (nI (k + 1))), (1, .int ((l_sum sh k) + (sh k))), (5, .int (sh k)), (0, .ref h0), (2, .ref h1), (3, .int (nI 64))]) hx hb dX2_sum_30 hl rfl rfl (by decide) rfl (fun ls hl => ?_)
        refine lv_goto (tgt := 13) hx hb dX2_sum_33 (by decide) ?_
        have hl : lv_has ls 6 [(0, .ref h0), (1, .int ((l_sum sh k) + (sh k))), (2, .ref h1), (3, .int (nI 64)), (4, .int (nI (k + 1)))] := lv_sub hl [3, 1, 4, 5, 0] rfl
        have e_1 : (l_sum sh k) + (sh k) = l_sum sh (k + 1) := by rfl
        rw [e_1] at hl
        have hl : lv_has ls 6 [(0, .ref h0), (1, .int (l_sum sh (k + 1))), (2, .ref h1), (3, .int (nI 64)), (4, .int (nI (k + 1)))] := hl
        exact ih_13 (k + 1) (by omega) (by omega) _ _ _ hP hD hS hl
  have hl : lv_has ls 6 [(0, .ref h0), (1, .int (nI 0)), (2, .ref h1), (3, .int (nI 64)), (4, .int (nI 0))] := lv_sub hl [4, 3, 2, 1, 0] rfl
  have e_2 : nI 0 = l_sum sh 0 := by rfl
  rw [e_2] at hl
  have hl : lv_has ls 6 [(0, .ref h0), (1, .int (l_sum sh 0)), (2, .ref h1), (3, .int (nI 64)), (4, .int (nI 0))] := hl
  exact lp_13 _ 0 (by omega) (Nat.lt_succ_self _) _ _ _ hP hD hS hl
def rm_X2_take : Room := ({ frames := 1, cells := 0, slots := 0, locals := 23 } : Room)
set_option maxHeartbeats 400000 in
set_option maxRecDepth 100000 in
theorem t_X2_take (l : Launch) (G : GG) (b0 sz : Nat) (h0 h1 : Nat) (sh : Nat → Int32) (lev stp why : Int32) (h2 : Nat) (so : Nat → Int32) : CT l yX2_take cX2_take 4 (some FieldType.int) (rm_X2_take) G b0 [.ref h0, .ref h2] [oX h0 1 [.ref h1, .int lev, .int stp, .int why], aI G h1 64 sh, aI G h2 64 so] sz (Ri G (fun (r_ : Int32) (_ : Unit) => r_ = l_sum (dne sh so) 64) (fun (_ : Unit) => [oX h0 1 [.ref h1, .int lev, .int stp, .int why], aI G h1 64 so, aI G h2 64 so])) := by
  refine CT.go (by decide) (Nat.le_of_ble_eq_true rfl) (fun p e s m below meth c A ls AR QQ hx hb hr hlk hml hown hnm hts hE hA hAb hsz hP hD hS hl hQQ => ?_)
  have hK := hE.1
  have hown : s.vm.findClass RX2 = some m.cls := hown
  have hl : lv_has ls 4 [(0, .ref h0), (1, .ref h2)] := hl
  clear hsz
  refine lv_iconst (v := nI 0) hx hb dX2_take_0 (by decide) ?_
  refine lv_istore_n (lv' := [(2, .int (nI 0)), (0, .ref h0), (1, .ref h2)]) hx hb dX2_take_1 rfl hl (by decide) rfl (fun ls hl => ?_)
  refine lv_iconst (v := nI 0) hx hb dX2_take_2 (by decide) ?_
  refine lv_istore_n (lv' := [(3, .int (nI 0)), (2, .int (nI 0)), (0, .ref h0), (1, .ref h2)]) hx hb dX2_take_3 rfl hl (by decide) rfl (fun ls hl => ?_)
  have lp_4 : ∀ (n_4 : Nat) (k : Nat), (k ≤ 64) → (64 - k) < n_4 → ∀ (H : Heap) (locs : List Loc) (ls : Array Slot), va_P G.1 vwCl [oX h0 1 [.ref h1, .int lev, .int stp, .int why], aI G h1 64 (fillTo k so sh), aI G h2 64 so] H → va_D A [oX h0 1 [.ref h1, .int lev, .int stp, .int why], aI G h1 64 (fillTo k so sh), aI G h2 64 so] → va_S A s.heap H locs → lv_has ls 4 [(0, .ref h0), (1, .ref h2), (2, .int (l_sum (dne sh so) k)), (3, .int (nI k))] → W p l e (rm_X2_take) s m AR below meth c H locs 0 0 QQ (F0 m 4 ls []) := by
    intro n_4
    induction n_4 with
    | zero => intro k hk hn_; exact absurd hn_ (Nat.not_lt_zero _)
    | succ n_4 ih_4 =>
      intro k hk hn_4 H locs ls hP hD hS hl
      refine lv_iload_n hx hb dX2_take_4 rfl (lv_at hl 3 rfl) ?_
      refine lv_bipush (v := nI 64) hx hb dX2_take_5 (by decide) ?_
      refine N_icmp_ge (tgt := 38) hx hb dX2_take_7 (by decide) (by omega) (by omega) (fun c_7 => ?_) (fun c_7 => ?_)
      · skip
        obtain rfl : k = 64 := by omega
        refine lv_iload_n hx hb dX2_take_38 rfl (lv_at hl 2 rfl) ?_
        have e_1 : ∀ j, j < 64 → (fillTo 64 so sh) j = (so) j := by exact fill_pt
        have hP : va_P G.1 vwCl [oX h0 1 [.ref h1, .int lev, .int stp, .int why], aI G h1 64 so, aI G h2 64 so] _ := cong_P (q0 := 1) e_1 rfl rfl hP
        have hD : va_D A [oX h0 1 [.ref h1, .int lev, .int stp, .int why], aI G h1 64 so, aI G h2 64 so] := cong_D (q0 := 1) rfl rfl hD
        have hP : va_P G.1 vwCl [oX h0 1 [.ref h1, .int lev, .int stp, .int why], aI G h1 64 so, aI G h2 64 so] _ := hP
        have hD : va_D A [oX h0 1 [.ref h1, .int lev, .int stp, .int why], aI G h1 64 so, aI G h2 64 so] := hD
        rw [hQQ]
        exact rt_i hx hb hr hlk  (()) dX2_take_39 hP hD hS (by first | exact Nat.le_of_ble_eq_true rfl | (simp only [rm_X2_take]; omega)) (by first | exact Nat.le_of_ble_eq_true rfl | (simp only [rm_X2_take]; omega)) (by rfl)
      · skip
        refine lv_iload_n hx hb dX2_take_10 rfl (lv_at hl 2 rfl) ?_
        refine lv_aload_n hx hb dX2_take_11 rfl (lv_at hl 0 rfl) ?_
        refine lv_iload_n hx hb dX2_take_12 rfl (lv_at hl 3 rfl) ?_
        refine lv_aload_n hx hb dX2_take_13 rfl (lv_at hl 1 rfl) ?_
        refine lv_iload_n hx hb dX2_take_14 rfl (lv_at hl 3 rfl) ?_
        refine N_iald hx hb dX2_take_15 hK hP 2 0 rfl rfl (by omega) (by omega) ?_
        refine fin_i (ws' := (fun (_ : Unit) => [oX h0 1 [.ref h1, .int lev, .int stp, .int why], aI G h1 64 (upd (fillTo k so sh) k (so k)), aI G h2 64 so])) hA hS hP hD [0, 1] rfl [(true, 0), (true, 1), (false, 2)] (fun _ => rfl) (by decide) (run_V (As := [.int (nI k), .int (so k)]) (rest := [.int (l_sum (dne sh so) k)]) (n9 := 2) hx hb hml hown hts hE hAb hl.1 hS hP hD [0, 1] rfl (by decide) (t_X2_setShade l G b0 _ h0 h1 (fillTo k so sh) lev stp why k (so k) (by omega)) (lw_V q640 q641 q642 q107 q643) 0 rfl rfl ⟨rfl, by decide, by decide, by decide +kernel⟩ ⟨Nat.le_of_ble_eq_true rfl, Nat.le_of_ble_eq_true rfl⟩ ⟨by first | exact Nat.le_of_ble_eq_true rfl | (simp only [rm_X2_take, rm_X2_setShade]; omega), by first | exact Nat.le_of_ble_eq_true rfl | (simp only [rm_X2_take, rm_X2_setShade]; omega)⟩ dX2_take_16 (Nat.le_of_ble_eq_true rfl) rfl rfl) (fun r_2 u_2 H locs h_2 hP hD hS => ?_)
        have hP : va_P G.1 vwCl [oX h0 1 [.ref h1, .int lev, .int stp, .int why], aI G h1 64 (upd (fillTo k so sh) k (so k)), aI G h2 64 so] _ := hP
        have hD : va_D A [oX h0 1 [.ref h1, .int lev, .int stp, .int why], aI G h1 64 (upd (fillTo k so sh) k (so k)), aI G h2 64 so] := hD
        have h_2 : r_2 = (fillTo k so sh) k := h_2
        rw [h_2]
        refine lv_aload_n hx hb dX2_take_19 rfl (lv_at hl 1 rfl) ?_
        refine lv_iload_n hx hb dX2_take_20 rfl (lv_at hl 3 rfl) ?_
        refine N_iald hx hb dX2_take_21 hK hP 2 0 rfl rfl (by omega) (by omega) ?_
        have K_22 : ∀ (v_3 : Bool) (_ : v_3 = if ((fillTo k so sh) k) = (so k) then false else true) (H : Heap) (locs : List Loc) (ls : Array Slot), va_P G.1 vwCl [oX h0 1 [.ref h1, .int lev, .int stp, .int why], aI G h1 64 (upd (fillTo k so sh) k (so k)), aI G h2 64 so] H → va_D A [oX h0 1 [.ref h1, .int lev, .int stp, .int why], aI G h1 64 (upd (fillTo k so sh) k (so k)), aI G h2 64 so] → va_S A s.heap H locs → lv_has ls 4 [(0, .ref h0), (1, .ref h2), (2, .int (l_sum (dne sh so) k)), (3, .int (nI k))] → W p l e (rm_X2_take) s m AR below meth c H locs 0 0 QQ (F0 m 30 ls [.int (bI v_3), .int (l_sum (dne sh so) k)]) := by
          intro v_3 e_v_3 H locs ls hP hD hS hl
          subst e_v_3
          refine lv_iadd hx hb dX2_take_30 ?_
          refine lv_istore_n (lv' := [(2, .int ((l_sum (dne sh so) k) + (bI (if ((fillTo k so sh) k) = (so k) then false else true)))), (0, .ref h0), (1, .ref h2), (3, .int (nI k))]) hx hb dX2_take_31 rfl hl (by decide) rfl (fun ls hl => ?_)
          refine N_iinc (a := k) (b := 1) (k9 := 3) (lv' := [(3, .int (nI (k + 1))), (2, .int ((l_sum (dne sh so) k) + (bI (if ((fillTo k so sh) k) = (so k) then false else true)))), (0, .ref h0), (1, .ref h2)]) hx hb dX2_take_32 hl rfl rfl (by decide) rfl (fun ls hl => ?_)
          refine lv_goto (tgt := 4) hx hb dX2_take_35 (by decide) ?_
          have e_4 : (upd (fillTo k so sh) k (so k)) = (fillTo (k + 1) so sh) := by exact fill_step
          have hP : va_P G.1 vwCl [oX h0 1 [.ref h1, .int lev, .int stp, .int why], aI G h1 64 (fillTo (k + 1) so sh), aI G h2 64 so] _ := cong_P (q0 := 1) (fun j _ => congrFun e_4 j) rfl rfl hP
          have hD : va_D A [oX h0 1 [.ref h1, .int lev, .int stp, .int why], aI G h1 64 (fillTo (k + 1) so sh), aI G h2 64 so] := cong_D (q0 := 1) rfl rfl hD
          have hP : va_P G.1 vwCl [oX h0 1 [.ref h1, .int lev, .int stp, .int why], aI G h1 64 (fillTo (k + 1) so sh), aI G h2 64 so] _ := hP
          have hD : va_D A [oX h0 1 [.ref h1, .int lev, .int stp, .int why], aI G h1 64 (fillTo (k + 1) so sh), aI G h2 64 so] := hD
          have hl : lv_has ls 4 [(0, .ref h0), (1, .ref h2), (2, .int ((l_sum (dne sh so) k) + (bI (if ((fillTo k so sh) k) = (so k) then false else true)))), (3, .int (nI (k + 1)))] := lv_sub hl [2, 3, 1, 0] rfl
          have e_5 : (l_sum (dne sh so) k) + (bI (if ((fillTo k so sh) k) = (so k) then false else true)) = l_sum (dne sh so) (k + 1) := by rw [fill_ge (Nat.le_refl k)]; rfl
          rw [e_5] at hl
          have hl : lv_has ls 4 [(0, .ref h0), (1, .ref h2), (2, .int (l_sum (dne sh so) (k + 1))), (3, .int (nI (k + 1)))] := hl
          exact ih_4 (k + 1) (by omega) (by omega) _ _ _ hP hD hS hl
        refine lv_icmp_ne (tgt := 29) hx hb dX2_take_22 (by decide) (fun c_22 => ?_) (fun c_22 => ?_)
        · skip
          refine lv_iconst (v := nI 1) hx hb dX2_take_29 (by decide) ?_
          exact K_22 true (by first | rfl | (try rw [if_neg c_22]) | simp_all) _ _ _ hP hD hS (lv_sub hl [0, 1, 2, 3] rfl)
        · skip
          refine lv_iconst (v := nI 0) hx hb dX2_take_25 (by decide) ?_
          refine lv_goto (tgt := 30) hx hb dX2_take_26 (by decide) ?_
          exact K_22 false (by first | rfl | (try rw [if_pos c_22]) | simp_all) _ _ _ hP hD hS (lv_sub hl [0, 1, 2, 3] rfl)
  have e_6 : (sh) = (fillTo 0 so sh) := by exact (fill0 _ _).symm
  have hP : va_P G.1 vwCl [oX h0 1 [.ref h1, .int lev, .int stp, .int why], aI G h1 64 (fillTo 0 so sh), aI G h2 64 so] _ := cong_P (q0 := 1) (fun j _ => congrFun e_6 j) rfl rfl hP
  have hD : va_D A [oX h0 1 [.ref h1, .int lev, .int stp, .int why], aI G h1 64 (fillTo 0 so sh), aI G h2 64 so] := cong_D (q0 := 1) rfl rfl hD
  have hP : va_P G.1 vwCl [oX h0 1 [.ref h1, .int lev, .int stp, .int why], aI G h1 64 (fillTo 0 so sh), aI G h2 64 so] _ := hP
  have hD : va_D A [oX h0 1 [.ref h1, .int lev, .int stp, .int why], aI G h1 64 (fillTo 0 so sh), aI G h2 64 so] := hD
  have hl : lv_has ls 4 [(0, .ref h0), (1, .ref h2), (2, .int (nI 0)), (3, .int (nI 0))] := lv_sub hl [2, 3, 1, 0] rfl
  have e_7 : nI 0 = l_sum (dne sh so) 0 := by rfl
  rw [e_7] at hl
  have hl : lv_has ls 4 [(0, .ref h0), (1, .ref h2), (2, .int (l_sum (dne sh so) 0)), (3, .int (nI 0))] := hl
  exact lp_4 _ 0 (by omega) (Nat.lt_succ_self _) _ _ _ hP hD hS hl
def rm_X2_fill : Room := ({ frames := 1, cells := 0, slots := 0, locals := 23 } : Room)
set_option maxHeartbeats 400000 in
set_option maxRecDepth 100000 in
theorem t_X2_fill (l : Launch) (G : GG) (b0 sz : Nat) (h0 h1 : Nat) (sh : Nat → Int32) (lev stp why : Int32) (r0 : Nat) (v0 b0_ : Int32) (hr0 : r0 < 8) : CT l yX2_fill cX2_fill 6 (some FieldType.int) (rm_X2_fill) G b0 [.ref h0, .int (nI r0), .int v0, .int b0_] [oX h0 1 [.ref h1, .int lev, .int stp, .int why], aI G h1 64 sh] sz (Ri G (fun (r_ : Int32) (_ : Unit) => r_ = l_sum (rowN r0 v0 b0_ sh) 8) (fun (_ : Unit) => [oX h0 1 [.ref h1, .int lev, .int stp, .int why], aI G h1 64 (rowF r0 v0 b0_ 8 sh)])) := by
  refine CT.go (by decide) (Nat.le_of_ble_eq_true rfl) (fun p e s m below meth c A ls AR QQ hx hb hr hlk hml hown hnm hts hE hA hAb hsz hP hD hS hl hQQ => ?_)
  have hK := hE.1
  have hown : s.vm.findClass RX2 = some m.cls := hown
  have hl : lv_has ls 6 [(0, .ref h0), (1, .int (nI r0)), (2, .int v0), (3, .int b0_)] := hl
  clear hsz
  refine lv_iconst (v := nI 0) hx hb dX2_fill_0 (by decide) ?_
  refine lv_istore (lv' := [(4, .int (nI 0)), (0, .ref h0), (1, .int (nI r0)), (2, .int v0), (3, .int b0_)]) hx hb dX2_fill_1 hl (by decide) rfl (fun ls hl => ?_)
  refine lv_iconst (v := nI 0) hx hb dX2_fill_3 (by decide) ?_
  refine lv_istore (lv' := [(5, .int (nI 0)), (4, .int (nI 0)), (0, .ref h0), (1, .int (nI r0)), (2, .int v0), (3, .int b0_)]) hx hb dX2_fill_4 hl (by decide) rfl (fun ls hl => ?_)
  have lp_6 : ∀ (n_6 : Nat) (k : Nat), (k ≤ 8) → (8 - k) < n_6 → ∀ (H : Heap) (locs : List Loc) (ls : Array Slot), va_P G.1 vwCl [oX h0 1 [.ref h1, .int lev, .int stp, .int why], aI G h1 64 (rowF r0 v0 b0_ k sh)] H → va_D A [oX h0 1 [.ref h1, .int lev, .int stp, .int why], aI G h1 64 (rowF r0 v0 b0_ k sh)] → va_S A s.heap H locs → lv_has ls 6 [(0, .ref h0), (1, .int (nI r0)), (2, .int v0), (3, .int b0_), (4, .int (l_sum (rowN r0 v0 b0_ sh) k)), (5, .int (nI k))] → W p l e (rm_X2_fill) s m AR below meth c H locs 0 0 QQ (F0 m 6 ls []) := by
    intro n_6
    induction n_6 with
    | zero => intro k hk hn_; exact absurd hn_ (Nat.not_lt_zero _)
    | succ n_6 ih_6 =>
      intro k hk hn_6 H locs ls hP hD hS hl
      refine lv_iload hx hb dX2_fill_6 (lv_at hl 5 rfl) ?_
      refine lv_bipush (v := nI 8) hx hb dX2_fill_8 (by decide) ?_
      refine N_icmp_ge (tgt := 55) hx hb dX2_fill_10 (by decide) (by omega) (by omega) (fun c_10 => ?_) (fun c_10 => ?_)
      · skip
        obtain rfl : k = 8 := by omega
        refine lv_iload hx hb dX2_fill_55 (lv_at hl 4 rfl) ?_
        rw [hQQ]
        exact rt_i hx hb hr hlk  (()) dX2_fill_57 hP hD hS (by first | exact Nat.le_of_ble_eq_true rfl | (simp only [rm_X2_fill]; omega)) (by first | exact Nat.le_of_ble_eq_true rfl | (simp only [rm_X2_fill]; omega)) (by rfl)
      · skip
        refine lv_iload hx hb dX2_fill_13 (lv_at hl 4 rfl) ?_
        refine lv_aload_n hx hb dX2_fill_15 rfl (lv_at hl 0 rfl) ?_
        refine lv_bipush (v := nI 8) hx hb dX2_fill_16 (by decide) ?_
        refine lv_iload_n hx hb dX2_fill_18 rfl (lv_at hl 1 rfl) ?_
        refine N_imul hx hb dX2_fill_19 ?_
        refine lv_iload hx hb dX2_fill_20 (lv_at hl 5 rfl) ?_
        refine N_iadd hx hb dX2_fill_22 ?_
        refine lv_iload_n hx hb dX2_fill_23 rfl (lv_at hl 2 rfl) ?_
        refine lv_iload hx hb dX2_fill_24 (lv_at hl 5 rfl) ?_
        refine lv_iload_n hx hb dX2_fill_26 rfl (lv_at hl 3 rfl) ?_
        refine lv_imul hx hb dX2_fill_27 ?_
        refine lv_iadd hx hb dX2_fill_28 ?_
        refine fin_i (ws' := (fun (_ : Unit) => [oX h0 1 [.ref h1, .int lev, .int stp, .int why], aI G h1 64 (upd (rowF r0 v0 b0_ k sh) ((8 * r0) + k) (v0 + ((nI k) * b0_)))])) hA hS hP hD [0, 1] rfl [(true, 0), (true, 1)] (fun _ => rfl) (by decide) (run_V (As := [.int (nI ((8 * r0) + k)), .int (v0 + ((nI k) * b0_))]) (rest := [.int (l_sum (rowN r0 v0 b0_ sh) k)]) (n9 := 2) hx hb hml hown hts hE hAb hl.1 hS hP hD [0, 1] rfl (by decide) (t_X2_setShade l G b0 _ h0 h1 (rowF r0 v0 b0_ k sh) lev stp why ((8 * r0) + k) (v0 + ((nI k) * b0_)) (by omega)) (lw_V q640 q641 q642 q107 q643) 0 rfl rfl ⟨rfl, by decide, by decide, by decide +kernel⟩ ⟨Nat.le_of_ble_eq_true rfl, Nat.le_of_ble_eq_true rfl⟩ ⟨by first | exact Nat.le_of_ble_eq_true rfl | (simp only [rm_X2_fill, rm_X2_setShade]; omega), by first | exact Nat.le_of_ble_eq_true rfl | (simp only [rm_X2_fill, rm_X2_setShade]; omega)⟩ dX2_fill_29 (Nat.le_of_ble_eq_true rfl) rfl rfl) (fun r_1 u_1 H locs h_1 hP hD hS => ?_)
        have hP : va_P G.1 vwCl [oX h0 1 [.ref h1, .int lev, .int stp, .int why], aI G h1 64 (upd (rowF r0 v0 b0_ k sh) ((8 * r0) + k) (v0 + ((nI k) * b0_)))] _ := hP
        have hD : va_D A [oX h0 1 [.ref h1, .int lev, .int stp, .int why], aI G h1 64 (upd (rowF r0 v0 b0_ k sh) ((8 * r0) + k) (v0 + ((nI k) * b0_)))] := hD
        have h_1 : r_1 = (rowF r0 v0 b0_ k sh) ((8 * r0) + k) := h_1
        rw [h_1]
        refine lv_iload_n hx hb dX2_fill_32 rfl (lv_at hl 2 rfl) ?_
        refine lv_iload hx hb dX2_fill_33 (lv_at hl 5 rfl) ?_
        refine lv_iload_n hx hb dX2_fill_35 rfl (lv_at hl 3 rfl) ?_
        refine lv_imul hx hb dX2_fill_36 ?_
        refine lv_iadd hx hb dX2_fill_37 ?_
        have K_38 : ∀ (v_2 : Bool) (_ : v_2 = if ((rowF r0 v0 b0_ k sh) ((8 * r0) + k)) = (v0 + ((nI k) * b0_)) then false else true) (H : Heap) (locs : List Loc) (ls : Array Slot), va_P G.1 vwCl [oX h0 1 [.ref h1, .int lev, .int stp, .int why], aI G h1 64 (upd (rowF r0 v0 b0_ k sh) ((8 * r0) + k) (v0 + ((nI k) * b0_)))] H → va_D A [oX h0 1 [.ref h1, .int lev, .int stp, .int why], aI G h1 64 (upd (rowF r0 v0 b0_ k sh) ((8 * r0) + k) (v0 + ((nI k) * b0_)))] → va_S A s.heap H locs → lv_has ls 6 [(0, .ref h0), (1, .int (nI r0)), (2, .int v0), (3, .int b0_), (4, .int (l_sum (rowN r0 v0 b0_ sh) k)), (5, .int (nI k))] → W p l e (rm_X2_fill) s m AR below meth c H locs 0 0 QQ (F0 m 46 ls [.int (bI v_2), .int (l_sum (rowN r0 v0 b0_ sh) k)]) := by
          intro v_2 e_v_2 H locs ls hP hD hS hl
          subst e_v_2
          refine lv_iadd hx hb dX2_fill_46 ?_
          refine lv_istore (lv' := [(4, .int ((l_sum (rowN r0 v0 b0_ sh) k) + (bI (if ((rowF r0 v0 b0_ k sh) ((8 * r0) + k)) = (v0 + ((nI k) * b0_)) then false else true)))), (0, .ref h0), (1, .int (nI r0)), (2, .int v0), (3, .int b0_), (5, .int (nI k))]) hx hb dX2_fill_47 hl (by decide) rfl (fun ls hl => ?_)
          refine N_iinc (a := k) (b := 1) (k9 := 5) (lv' := [(5, .int (nI (k + 1))), (4, .int ((l_sum (rowN r0 v0 b0_ sh) k) + (bI (if ((rowF r0 v0 b0_ k sh) ((8 * r0) + k)) = (v0 + ((nI k) * b0_)) then false else true)))), (0, .ref h0), (1, .int (nI r0)), (2, .int v0), (3, .int b0_)]) hx hb dX2_fill_49 hl rfl rfl (by decide) rfl (fun ls hl => ?_)
          refine lv_goto (tgt := 6) hx hb dX2_fill_52 (by decide) ?_
          have e_3 : (upd (rowF r0 v0 b0_ k sh) ((8 * r0) + k) (v0 + ((nI k) * b0_))) = (rowF r0 v0 b0_ (k + 1) sh) := by exact rowF_step
          have hP : va_P G.1 vwCl [oX h0 1 [.ref h1, .int lev, .int stp, .int why], aI G h1 64 (rowF r0 v0 b0_ (k + 1) sh)] _ := cong_P (q0 := 1) (fun j _ => congrFun e_3 j) rfl rfl hP
          have hD : va_D A [oX h0 1 [.ref h1, .int lev, .int stp, .int why], aI G h1 64 (rowF r0 v0 b0_ (k + 1) sh)] := cong_D (q0 := 1) rfl rfl hD
          have hP : va_P G.1 vwCl [oX h0 1 [.ref h1, .int lev, .int stp, .int why], aI G h1 64 (rowF r0 v0 b0_ (k + 1) sh)] _ := hP
          have hD : va_D A [oX h0 1 [.ref h1, .int lev, .int stp, .int why], aI G h1 64 (rowF r0 v0 b0_ (k + 1) sh)] := hD
          have hl : lv_has ls 6 [(0, .ref h0), (1, .int (nI r0)), (2, .int v0), (3, .int b0_), (4, .int ((l_sum (rowN r0 v0 b0_ sh) k) + (bI (if ((rowF r0 v0 b0_ k sh) ((8 * r0) + k)) = (v0 + ((nI k) * b0_)) then false else true)))), (5, .int (nI (k + 1)))] := lv_sub hl [2, 3, 4, 5, 1, 0] rfl
          have e_4 : (l_sum (rowN r0 v0 b0_ sh) k) + (bI (if ((rowF r0 v0 b0_ k sh) ((8 * r0) + k)) = (v0 + ((nI k) * b0_)) then false else true)) = l_sum (rowN r0 v0 b0_ sh) (k + 1) := by rw [rowF_ge]; rfl
          rw [e_4] at hl
          have hl : lv_has ls 6 [(0, .ref h0), (1, .int (nI r0)), (2, .int v0), (3, .int b0_), (4, .int (l_sum (rowN r0 v0 b0_ sh) (k + 1))), (5, .int (nI (k + 1)))] := hl
          exact ih_6 (k + 1) (by omega) (by omega) _ _ _ hP hD hS hl
        refine lv_icmp_ne (tgt := 45) hx hb dX2_fill_38 (by decide) (fun c_38 => ?_) (fun c_38 => ?_)
        · skip
          refine lv_iconst (v := nI 1) hx hb dX2_fill_45 (by decide) ?_
          exact K_38 true (by first | rfl | (try rw [if_neg c_38]) | simp_all) _ _ _ hP hD hS (lv_sub hl [0, 1, 2, 3, 4, 5] rfl)
        · skip
          refine lv_iconst (v := nI 0) hx hb dX2_fill_41 (by decide) ?_
          refine lv_goto (tgt := 46) hx hb dX2_fill_42 (by decide) ?_
          exact K_38 false (by first | rfl | (try rw [if_pos c_38]) | simp_all) _ _ _ hP hD hS (lv_sub hl [0, 1, 2, 3, 4, 5] rfl)
  have e_5 : (sh) = (rowF r0 v0 b0_ 0 sh) := by exact rowF_0.symm
  have hP : va_P G.1 vwCl [oX h0 1 [.ref h1, .int lev, .int stp, .int why], aI G h1 64 (rowF r0 v0 b0_ 0 sh)] _ := cong_P (q0 := 1) (fun j _ => congrFun e_5 j) rfl rfl hP
  have hD : va_D A [oX h0 1 [.ref h1, .int lev, .int stp, .int why], aI G h1 64 (rowF r0 v0 b0_ 0 sh)] := cong_D (q0 := 1) rfl rfl hD
  have hP : va_P G.1 vwCl [oX h0 1 [.ref h1, .int lev, .int stp, .int why], aI G h1 64 (rowF r0 v0 b0_ 0 sh)] _ := hP
  have hD : va_D A [oX h0 1 [.ref h1, .int lev, .int stp, .int why], aI G h1 64 (rowF r0 v0 b0_ 0 sh)] := hD
  have hl : lv_has ls 6 [(0, .ref h0), (1, .int (nI r0)), (2, .int v0), (3, .int b0_), (4, .int (nI 0)), (5, .int (nI 0))] := lv_sub hl [2, 3, 4, 5, 1, 0] rfl
  have e_6 : nI 0 = l_sum (rowN r0 v0 b0_ sh) 0 := by rfl
  rw [e_6] at hl
  have hl : lv_has ls 6 [(0, .ref h0), (1, .int (nI r0)), (2, .int v0), (3, .int b0_), (4, .int (l_sum (rowN r0 v0 b0_ sh) 0)), (5, .int (nI 0))] := hl
  exact lp_6 _ 0 (by omega) (Nat.lt_succ_self _) _ _ _ hP hD hS hl
def rm_X2_turn : Room := ({ frames := 2, cells := 0, slots := 0, locals := 46 } : Room)
set_option maxHeartbeats 400000 in
set_option maxRecDepth 100000 in
theorem t_X2_turn (l : Launch) (G : GG) (b0 sz : Nat) (h0 h1 : Nat) (sh : Nat → Int32) (lev stp why : Int32) (h2 : Nat) (ro : Nat → Int32) (b : Bool) : CT l yX2_turn cX2_turn 6 (some FieldType.int) (rm_X2_turn) G b0 [.ref h0, .ref h2, .int (bI b)] [oX h0 1 [.ref h1, .int lev, .int stp, .int why], aI G h1 64 sh, aI G h2 64 ro] sz (Ri G (fun (r_ : Int32) (_ : Unit) => r_ = l_sum (dne sh (turnF b sh)) 64) (fun (_ : Unit) => [oX h0 1 [.ref h1, .int lev, .int stp, .int why], aI G h1 64 (turnF b sh), aI G h2 64 (turnF b sh)])) := by
  refine CT.go (by decide) (Nat.le_of_ble_eq_true rfl) (fun p e s m below meth c A ls AR QQ hx hb hr hlk hml hown hnm hts hE hA hAb hsz hP hD hS hl hQQ => ?_)
  have hK := hE.1
  have hown : s.vm.findClass RX2 = some m.cls := hown
  have hl : lv_has ls 6 [(0, .ref h0), (1, .ref h2), (2, .int (bI b))] := hl
  clear hsz
  refine lv_iconst (v := nI 0) hx hb dX2_turn_0 (by decide) ?_
  refine lv_istore_n (lv' := [(3, .int (nI 0)), (0, .ref h0), (1, .ref h2), (2, .int (bI b))]) hx hb dX2_turn_1 rfl hl (by decide) rfl (fun ls hl => ?_)
  have lp_2 : ∀ (n_2 : Nat) (k : Nat), (k ≤ 64) → (64 - k) < n_2 → ∀ (H : Heap) (locs : List Loc) (ls : Array Slot), va_P G.1 vwCl [oX h0 1 [.ref h1, .int lev, .int stp, .int why], aI G h1 64 sh, aI G h2 64 (fillTo k (turnF b sh) ro)] H → va_D A [oX h0 1 [.ref h1, .int lev, .int stp, .int why], aI G h1 64 sh, aI G h2 64 (fillTo k (turnF b sh) ro)] → va_S A s.heap H locs → lv_has ls 6 [(0, .ref h0), (1, .ref h2), (2, .int (bI b)), (3, .int (nI k))] → W p l e (rm_X2_turn) s m AR below meth c H locs 0 0 QQ (F0 m 2 ls []) := by
    intro n_2
    induction n_2 with
    | zero => intro k hk hn_; exact absurd hn_ (Nat.not_lt_zero _)
    | succ n_2 ih_2 =>
      intro k hk hn_2 H locs ls hP hD hS hl
      refine lv_iload_n hx hb dX2_turn_2 rfl (lv_at hl 3 rfl) ?_
      refine lv_bipush (v := nI 64) hx hb dX2_turn_3 (by decide) ?_
      refine N_icmp_ge (tgt := 65) hx hb dX2_turn_5 (by decide) (by omega) (by omega) (fun c_5 => ?_) (fun c_5 => ?_)
      · skip
        obtain rfl : k = 64 := by omega
        have e_1 : ∀ j, j < 64 → (fillTo 64 (turnF b sh) ro) j = (turnF b sh) j := by exact fill_pt
        have hP : va_P G.1 vwCl [oX h0 1 [.ref h1, .int lev, .int stp, .int why], aI G h1 64 sh, aI G h2 64 (turnF b sh)] _ := cong_P (q0 := 2) e_1 rfl rfl hP
        have hD : va_D A [oX h0 1 [.ref h1, .int lev, .int stp, .int why], aI G h1 64 sh, aI G h2 64 (turnF b sh)] := cong_D (q0 := 2) rfl rfl hD
        have hP : va_P G.1 vwCl [oX h0 1 [.ref h1, .int lev, .int stp, .int why], aI G h1 64 sh, aI G h2 64 (turnF b sh)] _ := hP
        have hD : va_D A [oX h0 1 [.ref h1, .int lev, .int stp, .int why], aI G h1 64 sh, aI G h2 64 (turnF b sh)] := hD
        refine lv_aload_n hx hb dX2_turn_65 rfl (lv_at hl 0 rfl) ?_
        refine lv_aload_n hx hb dX2_turn_66 rfl (lv_at hl 1 rfl) ?_
        refine fin_i (ws' := (fun (_ : Unit) => [oX h0 1 [.ref h1, .int lev, .int stp, .int why], aI G h1 64 (turnF b sh), aI G h2 64 (turnF b sh)])) hA hS hP hD [0, 1, 2] rfl [(true, 0), (true, 1), (true, 2)] (fun _ => rfl) (by decide) (run_V (As := [.ref h2]) (rest := []) (n9 := 1) hx hb hml hown hts hE hAb hl.1 hS hP hD [0, 1, 2] rfl (by decide) (t_X2_take l G b0 _ h0 h1 sh lev stp why h2 (turnF b sh) ) (lw_V q636 q637 q638 q107 q639) 0 rfl rfl ⟨rfl, by decide, by decide, by decide +kernel⟩ ⟨Nat.le_of_ble_eq_true rfl, Nat.le_of_ble_eq_true rfl⟩ ⟨by first | exact Nat.le_of_ble_eq_true rfl | (simp only [rm_X2_turn, rm_X2_take]; omega), by first | exact Nat.le_of_ble_eq_true rfl | (simp only [rm_X2_turn, rm_X2_take]; omega)⟩ dX2_turn_67 (Nat.le_of_ble_eq_true rfl) rfl rfl) (fun r_2 u_2 H locs h_2 hP hD hS => ?_)
        have hP : va_P G.1 vwCl [oX h0 1 [.ref h1, .int lev, .int stp, .int why], aI G h1 64 (turnF b sh), aI G h2 64 (turnF b sh)] _ := hP
        have hD : va_D A [oX h0 1 [.ref h1, .int lev, .int stp, .int why], aI G h1 64 (turnF b sh), aI G h2 64 (turnF b sh)] := hD
        have h_2 : r_2 = l_sum (dne sh (turnF b sh)) 64 := h_2
        rw [h_2]
        rw [hQQ]
        exact rt_i hx hb hr hlk  (()) dX2_turn_70 hP hD hS (by first | exact Nat.le_of_ble_eq_true rfl | (simp only [rm_X2_turn]; omega)) (by first | exact Nat.le_of_ble_eq_true rfl | (simp only [rm_X2_turn]; omega)) (by rfl)
      · skip
        refine lv_iload_n hx hb dX2_turn_8 rfl (lv_at hl 3 rfl) ?_
        refine lv_bipush (v := nI 8) hx hb dX2_turn_9 (by decide) ?_
        refine N_idiv hx hb dX2_turn_11 (by omega) (by omega) (by omega) ?_
        refine lv_istore (lv' := [(4, .int (nI (k / 8))), (0, .ref h0), (1, .ref h2), (2, .int (bI b)), (3, .int (nI k))]) hx hb dX2_turn_12 hl (by decide) rfl (fun ls hl => ?_)
        refine lv_iload_n hx hb dX2_turn_14 rfl (lv_at hl 4 rfl) ?_
        refine lv_bipush (v := nI 8) hx hb dX2_turn_15 (by decide) ?_
        refine N_irem hx hb dX2_turn_17 (by omega) (by omega) (by omega) ?_
        refine lv_istore (lv' := [(5, .int (nI (k % 8))), (4, .int (nI (k / 8))), (0, .ref h0), (1, .ref h2), (2, .int (bI b)), (3, .int (nI k))]) hx hb dX2_turn_18 hl (by decide) rfl (fun ls hl => ?_)
        refine lv_aload_n hx hb dX2_turn_20 rfl (lv_at hl 3 rfl) ?_
        refine lv_iload_n hx hb dX2_turn_21 rfl (lv_at hl 5 rfl) ?_
        refine lv_aload_n hx hb dX2_turn_22 rfl (lv_at hl 2 rfl) ?_
        refine va_get (D := G.1) (ci := 1) (v := .ref h1) (C := RX2) (T := TX2) (N := 4) hx hb hts in_X2 hown hK hP 0 rfl rfl 0 (by decide) (hts _ q158) (fun _ h9 => h9) rfl dX2_turn_23 ?_
        refine lv_iload_n hx hb dX2_turn_26 rfl (lv_at hl 4 rfl) ?_
        have K_27 : ∀ (v_3 : Nat) (_ : v_3 = if b = true then ((((8 * (k / 8)) + 8) - 1) - (k % 8)) else ((8 * (7 - (k % 8))) + (k / 8))) (H : Heap) (locs : List Loc) (ls : Array Slot), va_P G.1 vwCl [oX h0 1 [.ref h1, .int lev, .int stp, .int why], aI G h1 64 sh, aI G h2 64 (fillTo k (turnF b sh) ro)] H → va_D A [oX h0 1 [.ref h1, .int lev, .int stp, .int why], aI G h1 64 sh, aI G h2 64 (fillTo k (turnF b sh) ro)] → va_S A s.heap H locs → lv_has ls 6 [(5, .int (nI (k % 8))), (4, .int (nI (k / 8))), (0, .ref h0), (1, .ref h2), (2, .int (bI b)), (3, .int (nI k))] → W p l e (rm_X2_turn) s m AR below meth c H locs 0 0 QQ (F0 m 57 ls [.int (nI v_3), .ref h1, .int (nI k), .ref h2]) := by
          intro v_3 e_v_3 H locs ls hP hD hS hl
          subst e_v_3
          refine N_iald hx hb dX2_turn_57 hK hP 1 0 rfl rfl (by split <;> omega) (by omega) ?_
          refine N_iast (ws' := [oX h0 1 [.ref h1, .int lev, .int stp, .int why], aI G h1 64 sh, aI G h2 64 (upd (fillTo k (turnF b sh) ro) k (sh (if b = true then ((((8 * (k / 8)) + 8) - 1) - (k % 8)) else ((8 * (7 - (k % 8))) + (k / 8)))))]) hx hb dX2_turn_58 hK hP hD hS 2 0 rfl rfl (by omega) (by omega) rfl (fun H locs hP hD hS => ?_)
          refine N_iinc (a := k) (b := 1) (k9 := 5) (lv' := [(3, .int (nI (k + 1))), (5, .int (nI (k % 8))), (4, .int (nI (k / 8))), (0, .ref h0), (1, .ref h2), (2, .int (bI b))]) hx hb dX2_turn_59 hl rfl rfl (by decide) rfl (fun ls hl => ?_)
          refine lv_goto (tgt := 2) hx hb dX2_turn_62 (by decide) ?_
          have e_4 : (upd (fillTo k (turnF b sh) ro) k (sh (if b = true then ((((8 * (k / 8)) + 8) - 1) - (k % 8)) else ((8 * (7 - (k % 8))) + (k / 8))))) = (fillTo (k + 1) (turnF b sh) ro) := by exact fill_step
          have hP : va_P G.1 vwCl [oX h0 1 [.ref h1, .int lev, .int stp, .int why], aI G h1 64 sh, aI G h2 64 (fillTo (k + 1) (turnF b sh) ro)] _ := cong_P (q0 := 2) (fun j _ => congrFun e_4 j) rfl rfl hP
          have hD : va_D A [oX h0 1 [.ref h1, .int lev, .int stp, .int why], aI G h1 64 sh, aI G h2 64 (fillTo (k + 1) (turnF b sh) ro)] := cong_D (q0 := 2) rfl rfl hD
          have hP : va_P G.1 vwCl [oX h0 1 [.ref h1, .int lev, .int stp, .int why], aI G h1 64 sh, aI G h2 64 (fillTo (k + 1) (turnF b sh) ro)] _ := hP
          have hD : va_D A [oX h0 1 [.ref h1, .int lev, .int stp, .int why], aI G h1 64 sh, aI G h2 64 (fillTo (k + 1) (turnF b sh) ro)] := hD
          have hl : lv_has ls 6 [(0, .ref h0), (1, .ref h2), (2, .int (bI b)), (3, .int (nI (k + 1)))] := lv_sub hl [3, 4, 5, 0] rfl
          exact ih_2 (k + 1) (by omega) (by omega) _ _ _ hP hD hS hl
        refine B_if_eq (tgt := 46) hx hb dX2_turn_27 (by decide) (fun c_27 => ?_) (fun c_27 => ?_)
        · skip
          refine lv_bipush (v := nI 8) hx hb dX2_turn_46 (by decide) ?_
          refine lv_bipush (v := nI 7) hx hb dX2_turn_48 (by decide) ?_
          refine lv_iload hx hb dX2_turn_50 (lv_at hl 0 rfl) ?_
          refine N_isub hx hb dX2_turn_52 (by omega) ?_
          refine N_imul hx hb dX2_turn_53 ?_
          refine lv_iload hx hb dX2_turn_54 (lv_at hl 1 rfl) ?_
          refine N_iadd hx hb dX2_turn_56 ?_
          exact K_27 ((8 * (7 - (k % 8))) + (k / 8)) (by first | rfl | (try rw [if_neg (ne_true_of_eq_false c_27)]) | simp_all) _ _ _ hP hD hS (lv_sub hl [0, 1, 2, 3, 4, 5] rfl)
        · skip
          refine lv_bipush (v := nI 8) hx hb dX2_turn_30 (by decide) ?_
          refine lv_iload hx hb dX2_turn_32 (lv_at hl 1 rfl) ?_
          refine N_imul hx hb dX2_turn_34 ?_
          refine lv_bipush (v := nI 8) hx hb dX2_turn_35 (by decide) ?_
          refine N_iadd hx hb dX2_turn_37 ?_
          refine lv_iconst (v := nI 1) hx hb dX2_turn_38 (by decide) ?_
          refine N_isub hx hb dX2_turn_39 (by omega) ?_
          refine lv_iload hx hb dX2_turn_40 (lv_at hl 0 rfl) ?_
          refine N_isub hx hb dX2_turn_42 (by omega) ?_
          refine lv_goto (tgt := 57) hx hb dX2_turn_43 (by decide) ?_
          exact K_27 ((((8 * (k / 8)) + 8) - 1) - (k % 8)) (by first | rfl | (try rw [if_pos c_27]) | simp_all) _ _ _ hP hD hS (lv_sub hl [0, 1, 2, 3, 4, 5] rfl)
  have e_5 : (ro) = (fillTo 0 (turnF b sh) ro) := by exact (fill0 _ _).symm
  have hP : va_P G.1 vwCl [oX h0 1 [.ref h1, .int lev, .int stp, .int why], aI G h1 64 sh, aI G h2 64 (fillTo 0 (turnF b sh) ro)] _ := cong_P (q0 := 2) (fun j _ => congrFun e_5 j) rfl rfl hP
  have hD : va_D A [oX h0 1 [.ref h1, .int lev, .int stp, .int why], aI G h1 64 sh, aI G h2 64 (fillTo 0 (turnF b sh) ro)] := cong_D (q0 := 2) rfl rfl hD
  have hP : va_P G.1 vwCl [oX h0 1 [.ref h1, .int lev, .int stp, .int why], aI G h1 64 sh, aI G h2 64 (fillTo 0 (turnF b sh) ro)] _ := hP
  have hD : va_D A [oX h0 1 [.ref h1, .int lev, .int stp, .int why], aI G h1 64 sh, aI G h2 64 (fillTo 0 (turnF b sh) ro)] := hD
  have hl : lv_has ls 6 [(0, .ref h0), (1, .ref h2), (2, .int (bI b)), (3, .int (nI 0))] := lv_sub hl [1, 2, 3, 0] rfl
  exact lp_2 _ 0 (by omega) (Nat.lt_succ_self _) _ _ _ hP hD hS hl
def rm_X2_invert : Room := ({ frames := 1, cells := 0, slots := 0, locals := 25 } : Room)
set_option maxHeartbeats 400000 in
set_option maxRecDepth 100000 in
theorem t_X2_invert (l : Launch) (G : GG) (b0 sz : Nat) (h0 h1 : Nat) (sh : Nat → Int32) (lev stp why : Int32) : CT l yX2_invert cX2_invert 2 (some FieldType.int) (rm_X2_invert) G b0 [.ref h0] [oX h0 1 [.ref h1, .int lev, .int stp, .int why], aI G h1 64 sh] sz (Ri G (fun (r_ : Int32) (_ : Unit) => r_ = l_sum (invF sh) 64) (fun (_ : Unit) => [oX h0 1 [.ref h1, .int lev, .int stp, .int why], aI G h1 64 (invF sh)])) := by
  refine CT.go (by decide) (Nat.le_of_ble_eq_true rfl) (fun p e s m below meth c A ls AR QQ hx hb hr hlk hml hown hnm hts hE hA hAb hsz hP hD hS hl hQQ => ?_)
  have hK := hE.1
  have hown : s.vm.findClass RX2 = some m.cls := hown
  have hl : lv_has ls 2 [(0, .ref h0)] := hl
  clear hsz
  refine lv_iconst (v := nI 0) hx hb dX2_invert_0 (by decide) ?_
  refine lv_istore_n (lv' := [(1, .int (nI 0)), (0, .ref h0)]) hx hb dX2_invert_1 rfl hl (by decide) rfl (fun ls hl => ?_)
  have lp_2 : ∀ (n_2 : Nat) (k : Nat), (k ≤ 64) → (64 - k) < n_2 → ∀ (H : Heap) (locs : List Loc) (ls : Array Slot), va_P G.1 vwCl [oX h0 1 [.ref h1, .int lev, .int stp, .int why], aI G h1 64 (fillTo k (invF sh) sh)] H → va_D A [oX h0 1 [.ref h1, .int lev, .int stp, .int why], aI G h1 64 (fillTo k (invF sh) sh)] → va_S A s.heap H locs → lv_has ls 2 [(0, .ref h0), (1, .int (nI k))] → W p l e (rm_X2_invert) s m AR below meth c H locs 0 0 QQ (F0 m 2 ls []) := by
    intro n_2
    induction n_2 with
    | zero => intro k hk hn_; exact absurd hn_ (Nat.not_lt_zero _)
    | succ n_2 ih_2 =>
      intro k hk hn_2 H locs ls hP hD hS hl
      refine lv_iload_n hx hb dX2_invert_2 rfl (lv_at hl 1 rfl) ?_
      refine lv_bipush (v := nI 64) hx hb dX2_invert_3 (by decide) ?_
      refine N_icmp_ge (tgt := 30) hx hb dX2_invert_5 (by decide) (by omega) (by omega) (fun c_5 => ?_) (fun c_5 => ?_)
      · skip
        obtain rfl : k = 64 := by omega
        have e_1 : ∀ j, j < 64 → (fillTo 64 (invF sh) sh) j = (invF sh) j := by exact fill_pt
        have hP : va_P G.1 vwCl [oX h0 1 [.ref h1, .int lev, .int stp, .int why], aI G h1 64 (invF sh)] _ := cong_P (q0 := 1) e_1 rfl rfl hP
        have hD : va_D A [oX h0 1 [.ref h1, .int lev, .int stp, .int why], aI G h1 64 (invF sh)] := cong_D (q0 := 1) rfl rfl hD
        have hP : va_P G.1 vwCl [oX h0 1 [.ref h1, .int lev, .int stp, .int why], aI G h1 64 (invF sh)] _ := hP
        have hD : va_D A [oX h0 1 [.ref h1, .int lev, .int stp, .int why], aI G h1 64 (invF sh)] := hD
        refine lv_aload_n hx hb dX2_invert_30 rfl (lv_at hl 0 rfl) ?_
        refine fin_i (ws' := (fun (_ : Unit) => [oX h0 1 [.ref h1, .int lev, .int stp, .int why], aI G h1 64 (invF sh)])) hA hS hP hD [0, 1] rfl [(true, 0), (true, 1)] (fun _ => rfl) (by decide) (run_V (As := []) (rest := []) (n9 := 0) hx hb hml hown hts hE hAb hl.1 hS hP hD [0, 1] rfl (by decide) (t_X2_sum l G b0 _ h0 h1 (invF sh) lev stp why ) (lw_V q656 q657 q658 q107 q659) 0 rfl rfl ⟨rfl, by decide, by decide, by decide +kernel⟩ ⟨Nat.le_of_ble_eq_true rfl, Nat.le_of_ble_eq_true rfl⟩ ⟨by first | exact Nat.le_of_ble_eq_true rfl | (simp only [rm_X2_invert, rm_X2_sum]; omega), by first | exact Nat.le_of_ble_eq_true rfl | (simp only [rm_X2_invert, rm_X2_sum]; omega)⟩ dX2_invert_31 (Nat.le_of_ble_eq_true rfl) rfl rfl) (fun r_2 u_2 H locs h_2 hP hD hS => ?_)
        have hP : va_P G.1 vwCl [oX h0 1 [.ref h1, .int lev, .int stp, .int why], aI G h1 64 (invF sh)] _ := hP
        have hD : va_D A [oX h0 1 [.ref h1, .int lev, .int stp, .int why], aI G h1 64 (invF sh)] := hD
        have h_2 : r_2 = l_sum (invF sh) 64 := h_2
        rw [h_2]
        rw [hQQ]
        exact rt_i hx hb hr hlk  (()) dX2_invert_34 hP hD hS (by first | exact Nat.le_of_ble_eq_true rfl | (simp only [rm_X2_invert]; omega)) (by first | exact Nat.le_of_ble_eq_true rfl | (simp only [rm_X2_invert]; omega)) (by rfl)
      · skip
        refine lv_aload_n hx hb dX2_invert_8 rfl (lv_at hl 0 rfl) ?_
        refine va_get (D := G.1) (ci := 1) (v := .ref h1) (C := RX2) (T := TX2) (N := 4) hx hb hts in_X2 hown hK hP 0 rfl rfl 0 (by decide) (hts _ q158) (fun _ h9 => h9) rfl dX2_invert_9 ?_
        refine lv_iload_n hx hb dX2_invert_12 rfl (lv_at hl 1 rfl) ?_
        refine lv_sipush (v := nI 255) hx hb dX2_invert_13 (by decide) ?_
        refine lv_aload_n hx hb dX2_invert_16 rfl (lv_at hl 0 rfl) ?_
        refine va_get (D := G.1) (ci := 1) (v := .ref h1) (C := RX2) (T := TX2) (N := 4) hx hb hts in_X2 hown hK hP 0 rfl rfl 0 (by decide) (hts _ q158) (fun _ h9 => h9) rfl dX2_invert_17 ?_
        refine lv_iload_n hx hb dX2_invert_20 rfl (lv_at hl 1 rfl) ?_
        refine N_iald hx hb dX2_invert_21 hK hP 1 0 rfl rfl (by omega) (by omega) ?_
        refine top_i (y := sh k) (by first | exact fill_ge (Nat.le_refl _) | exact congrArg nI (fill_ge (Nat.le_refl _)) | exact congrArg bI (fill_ge (Nat.le_refl _))) ?_
        refine lv_isub hx hb dX2_invert_22 ?_
        refine N_iast (ws' := [oX h0 1 [.ref h1, .int lev, .int stp, .int why], aI G h1 64 (upd (fillTo k (invF sh) sh) k ((nI 255) - (sh k)))]) hx hb dX2_invert_23 hK hP hD hS 1 0 rfl rfl (by omega) (by omega) rfl (fun H locs hP hD hS => ?_)
        refine N_iinc (a := k) (b := 1) (k9 := 1) (lv' := [(1, .int (nI (k + 1))), (0, .ref h0)]) hx hb dX2_invert_24 hl rfl rfl (by decide) rfl (fun ls hl => ?_)
        refine lv_goto (tgt := 2) hx hb dX2_invert_27 (by decide) ?_
        have e_3 : (upd (fillTo k (invF sh) sh) k ((nI 255) - (sh k))) = (fillTo (k + 1) (invF sh) sh) := by exact fill_step
        have hP : va_P G.1 vwCl [oX h0 1 [.ref h1, .int lev, .int stp, .int why], aI G h1 64 (fillTo (k + 1) (invF sh) sh)] _ := cong_P (q0 := 1) (fun j _ => congrFun e_3 j) rfl rfl hP
        have hD : va_D A [oX h0 1 [.ref h1, .int lev, .int stp, .int why], aI G h1 64 (fillTo (k + 1) (invF sh) sh)] := cong_D (q0 := 1) rfl rfl hD
        have hP : va_P G.1 vwCl [oX h0 1 [.ref h1, .int lev, .int stp, .int why], aI G h1 64 (fillTo (k + 1) (invF sh) sh)] _ := hP
        have hD : va_D A [oX h0 1 [.ref h1, .int lev, .int stp, .int why], aI G h1 64 (fillTo (k + 1) (invF sh) sh)] := hD
        have hl : lv_has ls 2 [(0, .ref h0), (1, .int (nI (k + 1)))] := lv_sub hl [1, 0] rfl
        exact ih_2 (k + 1) (by omega) (by omega) _ _ _ hP hD hS hl
  have e_4 : (sh) = (fillTo 0 (invF sh) sh) := by exact (fill0 _ _).symm
  have hP : va_P G.1 vwCl [oX h0 1 [.ref h1, .int lev, .int stp, .int why], aI G h1 64 (fillTo 0 (invF sh) sh)] _ := cong_P (q0 := 1) (fun j _ => congrFun e_4 j) rfl rfl hP
  have hD : va_D A [oX h0 1 [.ref h1, .int lev, .int stp, .int why], aI G h1 64 (fillTo 0 (invF sh) sh)] := cong_D (q0 := 1) rfl rfl hD
  have hP : va_P G.1 vwCl [oX h0 1 [.ref h1, .int lev, .int stp, .int why], aI G h1 64 (fillTo 0 (invF sh) sh)] _ := hP
  have hD : va_D A [oX h0 1 [.ref h1, .int lev, .int stp, .int why], aI G h1 64 (fillTo 0 (invF sh) sh)] := hD
  have hl : lv_has ls 2 [(0, .ref h0), (1, .int (nI 0))] := lv_sub hl [1, 0] rfl
  exact lp_2 _ 0 (by omega) (Nat.lt_succ_self _) _ _ _ hP hD hS hl
def rm_X2_become : Room := ({ frames := 1, cells := 0, slots := 0, locals := 40 } : Room)
set_option maxHeartbeats 400000 in
set_option maxRecDepth 100000 in
theorem t_X2_become (l : Launch) (G : GG) (b0 sz : Nat) (h0 h1 : Nat) (sh : Nat → Int32) (lev stp why : Int32) (g0 g1 : Nat) (sh2 : Nat → Int32) (lev2 stp2 why2 : Int32) : CT l yX2_become cX2_become 2 (some (FieldType.object "CrumbPictures$Sheet")) (rm_X2_become) G b0 [.ref h0, .ref g0] [oX h0 1 [.ref h1, .int lev, .int stp, .int why], aI G h1 64 sh, oX g0 1 [.ref g1, .int lev2, .int stp2, .int why2], aI G g1 64 sh2] sz (Rr G (fun (_ : Unit) => True) (fun (_ : Unit) => h0) (fun (_ : Unit) => [oX h0 1 [.ref h1, .int lev2, .int stp2, .int why2], aI G h1 64 sh2, oX g0 1 [.ref g1, .int lev2, .int stp2, .int why2], aI G g1 64 sh2])) := by
  refine CT.go (by decide) (Nat.le_of_ble_eq_true rfl) (fun p e s m below meth c A ls AR QQ hx hb hr hlk hml hown hnm hts hE hA hAb hsz hP hD hS hl hQQ => ?_)
  have hK := hE.1
  have hown : s.vm.findClass RX2 = some m.cls := hown
  have hl : lv_has ls 2 [(0, .ref h0), (1, .ref g0)] := hl
  clear hsz
  refine lv_aload_n hx hb dX2_become_0 rfl (lv_at hl 1 rfl) ?_
  refine va_get (D := G.1) (ci := 1) (v := .ref g1) (C := RX2) (T := TX2) (N := 4) hx hb hts in_X2 hown hK hP 2 rfl rfl 0 (by decide) (hts _ q158) (fun _ h9 => h9) rfl dX2_become_1 ?_
  refine lv_iconst (v := nI 0) hx hb dX2_become_4 (by decide) ?_
  refine lv_aload_n hx hb dX2_become_5 rfl (lv_at hl 0 rfl) ?_
  refine va_get (D := G.1) (ci := 1) (v := .ref h1) (C := RX2) (T := TX2) (N := 4) hx hb hts in_X2 hown hK hP 0 rfl rfl 0 (by decide) (hts _ q158) (fun _ h9 => h9) rfl dX2_become_6 ?_
  refine lv_iconst (v := nI 0) hx hb dX2_become_9 (by decide) ?_
  refine lv_bipush (v := nI 64) hx hb dX2_become_10 (by decide) ?_
  refine N_copyi (ws' := [oX h0 1 [.ref h1, .int lev, .int stp, .int why], aI G h1 64 (va_cpy sh2 sh 0 0 64), oX g0 1 [.ref g1, .int lev2, .int stp2, .int why2], aI G g1 64 sh2]) hx hb (hml.trans hl.1.symm) hown hts q565 q560 q559 q135 hK hP hD hS 3 1 0 rfl rfl rfl (by omega) (by omega) (by omega) (by omega) (Nat.le_of_ble_eq_true rfl) (Nat.le_of_ble_eq_true rfl) dX2_become_12 rfl (fun H locs hP hD hS => ?_)
  refine lv_aload_n hx hb dX2_become_15 rfl (lv_at hl 0 rfl) ?_
  refine lv_aload_n hx hb dX2_become_16 rfl (lv_at hl 1 rfl) ?_
  refine va_get (D := G.1) (ci := 1) (v := .int lev2) (C := RX2) (T := TX2) (N := 4) hx hb hts in_X2 hown hK hP 2 rfl rfl 1 (by decide) (hts _ q160) (fun _ h9 => h9) rfl dX2_become_17 ?_
  refine va_put (D := G.1) (ci := 1) (v := .int lev2) (ty := .int) (C := RX2) (T := TX2) (N := 4) hx hb hts in_X2 tyX2 tyX2_ok nmX2 hown hK hP hD hS 0 rfl rfl 1 (by decide) (hts _ q160) (fun _ h9 => h9) rfl (by decide +kernel) rfl rfl (Nat.le_of_ble_eq_true rfl) dX2_become_20 (fun H locs hP hD hS => ?_)
  have hP : va_P G.1 vwCl [oX h0 1 [.ref h1, .int lev2, .int stp, .int why], aI G h1 64 (va_cpy sh2 sh 0 0 64), oX g0 1 [.ref g1, .int lev2, .int stp2, .int why2], aI G g1 64 sh2] _ := hP
  have hD : va_D A [oX h0 1 [.ref h1, .int lev2, .int stp, .int why], aI G h1 64 (va_cpy sh2 sh 0 0 64), oX g0 1 [.ref g1, .int lev2, .int stp2, .int why2], aI G g1 64 sh2] := hD
  refine lv_aload_n hx hb dX2_become_23 rfl (lv_at hl 0 rfl) ?_
  refine lv_aload_n hx hb dX2_become_24 rfl (lv_at hl 1 rfl) ?_
  refine va_get (D := G.1) (ci := 1) (v := .int stp2) (C := RX2) (T := TX2) (N := 4) hx hb hts in_X2 hown hK hP 2 rfl rfl 2 (by decide) (hts _ q162) (fun _ h9 => h9) rfl dX2_become_25 ?_
  refine va_put (D := G.1) (ci := 1) (v := .int stp2) (ty := .int) (C := RX2) (T := TX2) (N := 4) hx hb hts in_X2 tyX2 tyX2_ok nmX2 hown hK hP hD hS 0 rfl rfl 2 (by decide) (hts _ q162) (fun _ h9 => h9) rfl (by decide +kernel) rfl rfl (Nat.le_of_ble_eq_true rfl) dX2_become_28 (fun H locs hP hD hS => ?_)
  have hP : va_P G.1 vwCl [oX h0 1 [.ref h1, .int lev2, .int stp2, .int why], aI G h1 64 (va_cpy sh2 sh 0 0 64), oX g0 1 [.ref g1, .int lev2, .int stp2, .int why2], aI G g1 64 sh2] _ := hP
  have hD : va_D A [oX h0 1 [.ref h1, .int lev2, .int stp2, .int why], aI G h1 64 (va_cpy sh2 sh 0 0 64), oX g0 1 [.ref g1, .int lev2, .int stp2, .int why2], aI G g1 64 sh2] := hD
  refine lv_aload_n hx hb dX2_become_31 rfl (lv_at hl 0 rfl) ?_
  refine lv_aload_n hx hb dX2_become_32 rfl (lv_at hl 1 rfl) ?_
  refine va_get (D := G.1) (ci := 1) (v := .int why2) (C := RX2) (T := TX2) (N := 4) hx hb hts in_X2 hown hK hP 2 rfl rfl 3 (by decide) (hts _ q164) (fun _ h9 => h9) rfl dX2_become_33 ?_
  refine va_put (D := G.1) (ci := 1) (v := .int why2) (ty := .int) (C := RX2) (T := TX2) (N := 4) hx hb hts in_X2 tyX2 tyX2_ok nmX2 hown hK hP hD hS 0 rfl rfl 3 (by decide) (hts _ q164) (fun _ h9 => h9) rfl (by decide +kernel) rfl rfl (Nat.le_of_ble_eq_true rfl) dX2_become_36 (fun H locs hP hD hS => ?_)
  have hP : va_P G.1 vwCl [oX h0 1 [.ref h1, .int lev2, .int stp2, .int why2], aI G h1 64 (va_cpy sh2 sh 0 0 64), oX g0 1 [.ref g1, .int lev2, .int stp2, .int why2], aI G g1 64 sh2] _ := hP
  have hD : va_D A [oX h0 1 [.ref h1, .int lev2, .int stp2, .int why2], aI G h1 64 (va_cpy sh2 sh 0 0 64), oX g0 1 [.ref g1, .int lev2, .int stp2, .int why2], aI G g1 64 sh2] := hD
  refine lv_aload_n hx hb dX2_become_39 rfl (lv_at hl 0 rfl) ?_
  have e_1 : ∀ j, j < 64 → (va_cpy sh2 sh 0 0 64) j = (sh2) j := by intro j hj; simp [va_cpy, hj]
  have hP : va_P G.1 vwCl [oX h0 1 [.ref h1, .int lev2, .int stp2, .int why2], aI G h1 64 sh2, oX g0 1 [.ref g1, .int lev2, .int stp2, .int why2], aI G g1 64 sh2] _ := cong_P (q0 := 1) e_1 rfl rfl hP
  have hD : va_D A [oX h0 1 [.ref h1, .int lev2, .int stp2, .int why2], aI G h1 64 sh2, oX g0 1 [.ref g1, .int lev2, .int stp2, .int why2], aI G g1 64 sh2] := cong_D (q0 := 1) rfl rfl hD
  have hP : va_P G.1 vwCl [oX h0 1 [.ref h1, .int lev2, .int stp2, .int why2], aI G h1 64 sh2, oX g0 1 [.ref g1, .int lev2, .int stp2, .int why2], aI G g1 64 sh2] _ := hP
  have hD : va_D A [oX h0 1 [.ref h1, .int lev2, .int stp2, .int why2], aI G h1 64 sh2, oX g0 1 [.ref g1, .int lev2, .int stp2, .int why2], aI G g1 64 sh2] := hD
  rw [hQQ]
  exact rt_r hx hb hr hlk (by first | exact Or.inl ⟨_, rfl⟩ | exact Or.inr ⟨_, rfl⟩) (()) dX2_become_40 hP hD hS (by first | exact Nat.le_of_ble_eq_true rfl | (simp only [rm_X2_become]; omega)) (by first | exact Nat.le_of_ble_eq_true rfl | (simp only [rm_X2_become]; omega)) (by rfl) trivial
def rm_X2_init : Room := ({ frames := 1, cells := 1, slots := 64, locals := 20 } : Room)
set_option maxHeartbeats 400000 in
set_option maxRecDepth 100000 in
theorem t_X2_init (l : Launch) (G : GG) (b0 sz : Nat) (h0 : Nat) : CT l yX2_init cX2_init 1 none (rm_X2_init) G b0 [.ref h0] [oX h0 1 [.null, .int (nI 0), .int (nI 0), .int (nI 0)]] sz (Rv G (fun (u : Nat) => True) (fun (u : Nat) => [oX h0 1 [.ref u, .int (nI 3), .int ((-1)), .int (nI 0)], aI G u 64 (fun _ => 0)])) := by
  refine CT.go (by decide) (Nat.le_of_ble_eq_true rfl) (fun p e s m below meth c A ls AR QQ hx hb hr hlk hml hown hnm hts hE hA hAb hsz hP hD hS hl hQQ => ?_)
  have hK := hE.1
  have hown : s.vm.findClass RX2 = some m.cls := hown
  have hl : lv_has ls 1 [(0, .ref h0)] := hl
  clear hsz
  refine lv_aload_n hx hb dX2_init_0 rfl (lv_at hl 0 rfl) ?_
  refine O_init hx hb (hml.trans hl.1.symm) hown hts q157 q150 q151 dX2_init_1 (Nat.le_of_ble_eq_true rfl) (Nat.le_of_ble_eq_true rfl) ?_
  refine lv_aload_n hx hb dX2_init_4 rfl (lv_at hl 0 rfl) ?_
  refine lv_bipush (v := nI 64) hx hb dX2_init_5 (by decide) ?_
  refine A_newa (atype := .int) (ty := .int) (a9 := (64, .inl (fun _ => 0))) (t0 := 0) hx hb hts q175 rfl (fun _ h_ => by cases h_) hK hP hD hS hA rfl (fun _ => rfl) (by omega) (by first | exact Nat.le_of_ble_eq_true rfl | (simp only [componentBytes]; omega)) (by exact (by first | exact Nat.le_of_ble_eq_true rfl | omega)) (by exact (by first | exact Nat.le_of_ble_eq_true rfl | omega)) dX2_init_7 (fun q1 H hP hD hS => ?_)
  have hP : va_P G.1 vwCl [oX h0 1 [.null, .int (nI 0), .int (nI 0), .int (nI 0)], aI G q1 64 (fun _ => 0)] _ := hP
  have hD : va_D A [oX h0 1 [.null, .int (nI 0), .int (nI 0), .int (nI 0)], aI G q1 64 (fun _ => 0)] := hD
  refine va_putF (D := G.1) (ci := 1) (v := .ref q1) (ty := (.array .int)) (C := RX2) (T := TX2) (N := 4) hx hb hts in_X2 tyX2 tyX2_ok nmX2 hown hK hP hD hS 0 rfl rfl 0 (by decide) (hts _ q158) (fun _ h9 => h9) rfl hnm rfl (by decide +kernel) rfl rfl (Nat.le_of_ble_eq_true rfl) dX2_init_9 (fun H locs hP hD hS => ?_)
  have hP : va_P G.1 vwCl [oX h0 1 [.ref q1, .int (nI 0), .int (nI 0), .int (nI 0)], aI G q1 64 (fun _ => 0)] _ := hP
  have hD : va_D A [oX h0 1 [.ref q1, .int (nI 0), .int (nI 0), .int (nI 0)], aI G q1 64 (fun _ => 0)] := hD
  refine lv_aload_n hx hb dX2_init_12 rfl (lv_at hl 0 rfl) ?_
  refine lv_iconst (v := nI 3) hx hb dX2_init_13 (by decide) ?_
  refine va_put (D := G.1) (ci := 1) (v := .int (nI 3)) (ty := .int) (C := RX2) (T := TX2) (N := 4) hx hb hts in_X2 tyX2 tyX2_ok nmX2 hown hK hP hD hS 0 rfl rfl 1 (by decide) (hts _ q160) (fun _ h9 => h9) rfl (by decide +kernel) rfl rfl (Nat.le_of_ble_eq_true rfl) dX2_init_14 (fun H locs hP hD hS => ?_)
  have hP : va_P G.1 vwCl [oX h0 1 [.ref q1, .int (nI 3), .int (nI 0), .int (nI 0)], aI G q1 64 (fun _ => 0)] _ := hP
  have hD : va_D A [oX h0 1 [.ref q1, .int (nI 3), .int (nI 0), .int (nI 0)], aI G q1 64 (fun _ => 0)] := hD
  refine lv_aload_n hx hb dX2_init_17 rfl (lv_at hl 0 rfl) ?_
  refine lv_iconst (v := (-1)) hx hb dX2_init_18 (by decide) ?_
  refine va_put (D := G.1) (ci := 1) (v := .int ((-1))) (ty := .int) (C := RX2) (T := TX2) (N := 4) hx hb hts in_X2 tyX2 tyX2_ok nmX2 hown hK hP hD hS 0 rfl rfl 2 (by decide) (hts _ q162) (fun _ h9 => h9) rfl (by decide +kernel) rfl rfl (Nat.le_of_ble_eq_true rfl) dX2_init_19 (fun H locs hP hD hS => ?_)
  have hP : va_P G.1 vwCl [oX h0 1 [.ref q1, .int (nI 3), .int ((-1)), .int (nI 0)], aI G q1 64 (fun _ => 0)] _ := hP
  have hD : va_D A [oX h0 1 [.ref q1, .int (nI 3), .int ((-1)), .int (nI 0)], aI G q1 64 (fun _ => 0)] := hD
  have hP : va_P G.1 vwCl [oX h0 1 [.ref q1, .int (nI 3), .int ((-1)), .int (nI 0)], aI G q1 64 (fun _ => 0)] _ := hP
  have hD : va_D A [oX h0 1 [.ref q1, .int (nI 3), .int ((-1)), .int (nI 0)], aI G q1 64 (fun _ => 0)] := hD
  rw [hQQ]
  exact rt_v hx hb hr hlk q1 dX2_init_22 hP hD hS (by first | exact Nat.le_of_ble_eq_true rfl | (simp only [rm_X2_init]; omega)) (by first | exact Nat.le_of_ble_eq_true rfl | (simp only [rm_X2_init]; omega)) trivial
