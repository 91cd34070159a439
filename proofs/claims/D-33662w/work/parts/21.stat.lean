/-! ===== CrumbPictures: statics ===== -/
theorem bI_of1 {b : Bool} (h : b = true) : nI 1 = bI b := by rw [h]; rfl
theorem bI_of0 {b : Bool} (h : b = false) : nI 0 = bI b := by rw [h]; rfl
theorem ite_bt {c : Bool} (h : c = true) {α : Type} (a b : α) : (if c = true then a else b) = a := by rw [h]; rfl
/-- whether v is from a to b -/
def inB (v a b : Int32) : Bool := !(decide (v < a)) && !(decide (b < v))
def sumO (a b : Int32) : Int32 := (a + b) >>> (nI 1 &&& 31)
def oneO (s d : Int32) (w : Nat) : Int32 := if w = 1 then (s + ((d + nI 1) >>> (nI 1 &&& 31))) - d else s + ((d + nI 1) >>> (nI 1 &&& 31))
/-- the level of a cell, by its row and column; 4 for the first cell -/
def rawLv (r c : Nat) : Nat := if 4 ≤ r ∨ 4 ≤ c then 1 else if 2 ≤ r ∨ 2 ≤ c then 2 else if 1 ≤ r ∨ 1 ≤ c then 3 else 4
def levC (x L : Nat) : Nat := if L < rawLv (x / 8) (x % 8) then 0 else rawLv (x / 8) (x % 8)
theorem levC_le {x L : Nat} (h : L ≤ 3) : levC x L ≤ L := by
  unfold levC
  split <;> omega
def bndC (x L : Nat) : Nat := if levC x L = 0 then 0 else 3 * (levC x L - 1) + (if x % 8 < 8 / 2 ^ levC x L then 0 else 1) + (if x / 8 < 8 / 2 ^ levC x L then 0 else 2)
def rm_X1_in : Room := ({ frames := 0, cells := 0, slots := 0, locals := 0 } : Room)
set_option maxHeartbeats 400000 in
set_option maxRecDepth 100000 in
theorem t_X1_in (l : Launch) (G : GG) (b0 sz : Nat) (v a b : Int32) : CT l yX1_in cX1_in 3 (some FieldType.boolean) (rm_X1_in) G b0 [.int v, .int a, .int b] [] sz (Ri G (fun (r_ : Int32) (_ : Unit) => r_ = bI (inB v a b)) (fun (_ : Unit) => [])) := by
  refine CT.go (by decide) (Nat.le_of_ble_eq_true rfl) (fun p e s m below meth c A ls AR QQ hx hb hr hlk hml hown hnm hts hE hA hAb hsz hP hD hS hl hQQ => ?_)
  have hK := hE.1
  have hown : s.vm.findClass RX1 = some m.cls := hown
  have hl : lv_has ls 3 [(0, .int v), (1, .int a), (2, .int b)] := hl
  clear hsz
  refine lv_iload_n hx hb dX1_in_0 rfl (lv_at hl 0 rfl) ?_
  refine lv_iload_n hx hb dX1_in_1 rfl (lv_at hl 1 rfl) ?_
  refine lv_icmp_lt (tgt := 14) hx hb dX1_in_2 (by decide) (fun c_2 => ?_) (fun c_2 => ?_)
  · skip
    refine lv_iconst (v := nI 0) hx hb dX1_in_14 (by decide) ?_
    rw [hQQ]
    exact rt_z hx hb hr hlk (by first | exact bI_nar _ | rfl) (()) dX1_in_15 hP hD hS (by first | exact Nat.le_of_ble_eq_true rfl | (simp only [rm_X1_in]; omega)) (by first | exact Nat.le_of_ble_eq_true rfl | (simp only [rm_X1_in]; omega)) (by first | exact bI_of1 (by simp [inB, *]) | exact bI_of0 (by simp [inB, *]))
  · skip
    refine lv_iload_n hx hb dX1_in_5 rfl (lv_at hl 0 rfl) ?_
    refine lv_iload_n hx hb dX1_in_6 rfl (lv_at hl 2 rfl) ?_
    refine lv_icmp_gt (tgt := 14) hx hb dX1_in_7 (by decide) (fun c_7 => ?_) (fun c_7 => ?_)
    · skip
      refine lv_iconst (v := nI 0) hx hb dX1_in_14 (by decide) ?_
      rw [hQQ]
      exact rt_z hx hb hr hlk (by first | exact bI_nar _ | rfl) (()) dX1_in_15 hP hD hS (by first | exact Nat.le_of_ble_eq_true rfl | (simp only [rm_X1_in]; omega)) (by first | exact Nat.le_of_ble_eq_true rfl | (simp only [rm_X1_in]; omega)) (by first | exact bI_of1 (by simp [inB, *]) | exact bI_of0 (by simp [inB, *]))
    · skip
      refine lv_iconst (v := nI 1) hx hb dX1_in_10 (by decide) ?_
      refine lv_goto (tgt := 15) hx hb dX1_in_11 (by decide) ?_
      rw [hQQ]
      exact rt_z hx hb hr hlk (by first | exact bI_nar _ | rfl) (()) dX1_in_15 hP hD hS (by first | exact Nat.le_of_ble_eq_true rfl | (simp only [rm_X1_in]; omega)) (by first | exact Nat.le_of_ble_eq_true rfl | (simp only [rm_X1_in]; omega)) (by first | exact bI_of1 (by simp [inB, *]) | exact bI_of0 (by simp [inB, *]))
def rm_X1_sumOf : Room := ({ frames := 0, cells := 0, slots := 0, locals := 0 } : Room)
set_option maxHeartbeats 400000 in
set_option maxRecDepth 100000 in
theorem t_X1_sumOf (l : Launch) (G : GG) (b0 sz : Nat) (a b : Int32) : CT l yX1_sumOf cX1_sumOf 2 (some FieldType.int) (rm_X1_sumOf) G b0 [.int a, .int b] [] sz (Ri G (fun (r_ : Int32) (_ : Unit) => r_ = sumO a b) (fun (_ : Unit) => [])) := by
  refine CT.go (by decide) (Nat.le_of_ble_eq_true rfl) (fun p e s m below meth c A ls AR QQ hx hb hr hlk hml hown hnm hts hE hA hAb hsz hP hD hS hl hQQ => ?_)
  have hK := hE.1
  have hown : s.vm.findClass RX1 = some m.cls := hown
  have hl : lv_has ls 2 [(0, .int a), (1, .int b)] := hl
  clear hsz
  refine lv_iload_n hx hb dX1_sumOf_0 rfl (lv_at hl 0 rfl) ?_
  refine lv_iload_n hx hb dX1_sumOf_1 rfl (lv_at hl 1 rfl) ?_
  refine lv_iadd hx hb dX1_sumOf_2 ?_
  refine lv_iconst (v := nI 1) hx hb dX1_sumOf_3 (by decide) ?_
  refine lv_ishr hx hb dX1_sumOf_4 ?_
  rw [hQQ]
  exact rt_i hx hb hr hlk  (()) dX1_sumOf_5 hP hD hS (by first | exact Nat.le_of_ble_eq_true rfl | (simp only [rm_X1_sumOf]; omega)) (by first | exact Nat.le_of_ble_eq_true rfl | (simp only [rm_X1_sumOf]; omega)) (by rfl)
def rm_X1_oneOf : Room := ({ frames := 0, cells := 0, slots := 0, locals := 0 } : Room)
set_option maxHeartbeats 400000 in
set_option maxRecDepth 100000 in
theorem t_X1_oneOf (l : Launch) (G : GG) (b0 sz : Nat) (a b : Int32) (w : Nat) (hw : w < 8) : CT l yX1_oneOf cX1_oneOf 4 (some FieldType.int) (rm_X1_oneOf) G b0 [.int a, .int b, .int (nI w)] [] sz (Ri G (fun (r_ : Int32) (_ : Unit) => r_ = oneO a b w) (fun (_ : Unit) => [])) := by
  refine CT.go (by decide) (Nat.le_of_ble_eq_true rfl) (fun p e s m below meth c A ls AR QQ hx hb hr hlk hml hown hnm hts hE hA hAb hsz hP hD hS hl hQQ => ?_)
  have hK := hE.1
  have hown : s.vm.findClass RX1 = some m.cls := hown
  have hl : lv_has ls 4 [(0, .int a), (1, .int b), (2, .int (nI w))] := hl
  clear hsz
  refine lv_iload_n hx hb dX1_oneOf_0 rfl (lv_at hl 0 rfl) ?_
  refine lv_iload_n hx hb dX1_oneOf_1 rfl (lv_at hl 1 rfl) ?_
  refine lv_iconst (v := nI 1) hx hb dX1_oneOf_2 (by decide) ?_
  refine lv_iadd hx hb dX1_oneOf_3 ?_
  refine lv_iconst (v := nI 1) hx hb dX1_oneOf_4 (by decide) ?_
  refine lv_ishr hx hb dX1_oneOf_5 ?_
  refine lv_iadd hx hb dX1_oneOf_6 ?_
  refine lv_istore_n (lv' := [(3, .int (a + ((b + (nI 1)) >>> ((nI 1) &&& 31)))), (0, .int a), (1, .int b), (2, .int (nI w))]) hx hb dX1_oneOf_7 rfl hl (by decide) rfl (fun ls hl => ?_)
  refine lv_iload_n hx hb dX1_oneOf_8 rfl (lv_at hl 3 rfl) ?_
  refine lv_iconst (v := nI 1) hx hb dX1_oneOf_9 (by decide) ?_
  refine N_icmp_ne (tgt := 19) hx hb dX1_oneOf_10 (by decide) (by omega) (by omega) (fun c_10 => ?_) (fun c_10 => ?_)
  · skip
    refine lv_iload_n hx hb dX1_oneOf_19 rfl (lv_at hl 0 rfl) ?_
    rw [hQQ]
    exact rt_i hx hb hr hlk  (()) dX1_oneOf_20 hP hD hS (by first | exact Nat.le_of_ble_eq_true rfl | (simp only [rm_X1_oneOf]; omega)) (by first | exact Nat.le_of_ble_eq_true rfl | (simp only [rm_X1_oneOf]; omega)) (by simp only [oneO, *, if_true, if_false])
  · skip
    refine lv_iload_n hx hb dX1_oneOf_13 rfl (lv_at hl 0 rfl) ?_
    refine lv_iload_n hx hb dX1_oneOf_14 rfl (lv_at hl 2 rfl) ?_
    refine lv_isub hx hb dX1_oneOf_15 ?_
    refine lv_goto (tgt := 20) hx hb dX1_oneOf_16 (by decide) ?_
    rw [hQQ]
    exact rt_i hx hb hr hlk  (()) dX1_oneOf_20 hP hD hS (by first | exact Nat.le_of_ble_eq_true rfl | (simp only [rm_X1_oneOf]; omega)) (by first | exact Nat.le_of_ble_eq_true rfl | (simp only [rm_X1_oneOf]; omega)) (by simp only [oneO, *, if_true, if_false])
def rm_X1_levelOf : Room := ({ frames := 0, cells := 0, slots := 0, locals := 0 } : Room)
set_option maxHeartbeats 400000 in
set_option maxRecDepth 100000 in
theorem t_X1_levelOf (l : Launch) (G : GG) (b0 sz : Nat) (x L : Nat) (hxx : x < 64) (hL : L ≤ 3) : CT l yX1_levelOf cX1_levelOf 6 (some FieldType.int) (rm_X1_levelOf) G b0 [.int (nI x), .int (nI L)] [] sz (Ri G (fun (r_ : Int32) (_ : Unit) => r_ = nI (levC x L)) (fun (_ : Unit) => [])) := by
  refine CT.go (by decide) (Nat.le_of_ble_eq_true rfl) (fun p e s m below meth c A ls AR QQ hx hb hr hlk hml hown hnm hts hE hA hAb hsz hP hD hS hl hQQ => ?_)
  have hK := hE.1
  have hown : s.vm.findClass RX1 = some m.cls := hown
  have hl : lv_has ls 6 [(0, .int (nI x)), (1, .int (nI L))] := hl
  clear hsz
  refine lv_iload_n hx hb dX1_levelOf_0 rfl (lv_at hl 0 rfl) ?_
  refine lv_bipush (v := nI 8) hx hb dX1_levelOf_1 (by decide) ?_
  refine N_idiv hx hb dX1_levelOf_3 (by omega) (by omega) (by omega) ?_
  refine lv_istore_n (lv' := [(2, .int (nI (x / 8))), (0, .int (nI x)), (1, .int (nI L))]) hx hb dX1_levelOf_4 rfl hl (by decide) rfl (fun ls hl => ?_)
  refine lv_iload_n hx hb dX1_levelOf_5 rfl (lv_at hl 1 rfl) ?_
  refine lv_bipush (v := nI 8) hx hb dX1_levelOf_6 (by decide) ?_
  refine N_irem hx hb dX1_levelOf_8 (by omega) (by omega) (by omega) ?_
  refine lv_istore_n (lv' := [(3, .int (nI (x % 8))), (2, .int (nI (x / 8))), (0, .int (nI x)), (1, .int (nI L))]) hx hb dX1_levelOf_9 rfl hl (by decide) rfl (fun ls hl => ?_)
  refine lv_iconst (v := nI 1) hx hb dX1_levelOf_10 (by decide) ?_
  refine lv_istore (lv' := [(4, .int (nI 1)), (3, .int (nI (x % 8))), (2, .int (nI (x / 8))), (0, .int (nI x)), (1, .int (nI L))]) hx hb dX1_levelOf_11 hl (by decide) rfl (fun ls hl => ?_)
  refine lv_iconst (v := nI 4) hx hb dX1_levelOf_13 (by decide) ?_
  refine lv_istore (lv' := [(5, .int (nI 4)), (4, .int (nI 1)), (3, .int (nI (x % 8))), (2, .int (nI (x / 8))), (0, .int (nI x)), (1, .int (nI L))]) hx hb dX1_levelOf_14 hl (by decide) rfl (fun ls hl => ?_)
  have lp_16 : ∀ (n_16 : Nat) (i hf : Nat), (i ≤ L) → ((i = 0 ∧ hf = 4) ∨ (i = 1 ∧ hf = 2 ∧ x / 8 < 4 ∧ x % 8 < 4) ∨ (i = 2 ∧ hf = 1 ∧ x / 8 < 2 ∧ x % 8 < 2) ∨ (i = 3 ∧ hf = 0 ∧ x / 8 < 1 ∧ x % 8 < 1)) → (L + 1 - i) < n_16 → ∀ (H : Heap) (locs : List Loc) (ls : Array Slot), va_P G.1 vwCl [] H → va_D A [] → va_S A s.heap H locs → lv_has ls 6 [(0, .int (nI x)), (1, .int (nI L)), (2, .int (nI (x / 8))), (3, .int (nI (x % 8))), (4, .int (nI (i + 1))), (5, .int (nI hf))] → W p l e (rm_X1_levelOf) s m AR below meth c H locs 0 0 QQ (F0 m 16 ls []) := by
    intro n_16
    induction n_16 with
    | zero => intro i hf hi hif hn_; exact absurd hn_ (Nat.not_lt_zero _)
    | succ n_16 ih_16 =>
      intro i hf hi hif hn_16 H locs ls hP hD hS hl
      refine lv_iload hx hb dX1_levelOf_16 (lv_at hl 4 rfl) ?_
      refine lv_iload_n hx hb dX1_levelOf_18 rfl (lv_at hl 1 rfl) ?_
      refine N_icmp_gt (tgt := 46) hx hb dX1_levelOf_19 (by decide) (by omega) (by omega) (fun c_19 => ?_) (fun c_19 => ?_)
      · skip
        refine lv_iload hx hb dX1_levelOf_46 (lv_at hl 4 rfl) ?_
        refine lv_iload_n hx hb dX1_levelOf_48 rfl (lv_at hl 1 rfl) ?_
        refine N_icmp_le (tgt := 56) hx hb dX1_levelOf_49 (by decide) (by omega) (by omega) (fun c_49 => ?_) (fun c_49 => ?_)
        · skip
          refine lv_iload hx hb dX1_levelOf_56 (lv_at hl 4 rfl) ?_
          rw [hQQ]
          exact rt_i hx hb hr hlk  (()) dX1_levelOf_58 hP hD hS (by first | exact Nat.le_of_ble_eq_true rfl | (simp only [rm_X1_levelOf]; omega)) (by first | exact Nat.le_of_ble_eq_true rfl | (simp only [rm_X1_levelOf]; omega)) (by congr 1; unfold levC rawLv; (repeat' split) <;> omega)
        · skip
          refine lv_iconst (v := nI 0) hx hb dX1_levelOf_52 (by decide) ?_
          refine lv_goto (tgt := 58) hx hb dX1_levelOf_53 (by decide) ?_
          rw [hQQ]
          exact rt_i hx hb hr hlk  (()) dX1_levelOf_58 hP hD hS (by first | exact Nat.le_of_ble_eq_true rfl | (simp only [rm_X1_levelOf]; omega)) (by first | exact Nat.le_of_ble_eq_true rfl | (simp only [rm_X1_levelOf]; omega)) (by congr 1; unfold levC rawLv; (repeat' split) <;> omega)
      · skip
        refine lv_iload_n hx hb dX1_levelOf_22 rfl (lv_at hl 2 rfl) ?_
        refine lv_iload hx hb dX1_levelOf_23 (lv_at hl 5 rfl) ?_
        refine N_icmp_ge (tgt := 46) hx hb dX1_levelOf_25 (by decide) (by omega) (by omega) (fun c_25 => ?_) (fun c_25 => ?_)
        · skip
          refine lv_iload hx hb dX1_levelOf_46 (lv_at hl 4 rfl) ?_
          refine lv_iload_n hx hb dX1_levelOf_48 rfl (lv_at hl 1 rfl) ?_
          refine N_icmp_le (tgt := 56) hx hb dX1_levelOf_49 (by decide) (by omega) (by omega) (fun c_49 => ?_) (fun c_49 => ?_)
          · skip
            refine lv_iload hx hb dX1_levelOf_56 (lv_at hl 4 rfl) ?_
            rw [hQQ]
            exact rt_i hx hb hr hlk  (()) dX1_levelOf_58 hP hD hS (by first | exact Nat.le_of_ble_eq_true rfl | (simp only [rm_X1_levelOf]; omega)) (by first | exact Nat.le_of_ble_eq_true rfl | (simp only [rm_X1_levelOf]; omega)) (by congr 1; unfold levC rawLv; (repeat' split) <;> omega)
          · skip
            refine lv_iconst (v := nI 0) hx hb dX1_levelOf_52 (by decide) ?_
            refine lv_goto (tgt := 58) hx hb dX1_levelOf_53 (by decide) ?_
            rw [hQQ]
            exact rt_i hx hb hr hlk  (()) dX1_levelOf_58 hP hD hS (by first | exact Nat.le_of_ble_eq_true rfl | (simp only [rm_X1_levelOf]; omega)) (by first | exact Nat.le_of_ble_eq_true rfl | (simp only [rm_X1_levelOf]; omega)) (by congr 1; unfold levC rawLv; (repeat' split) <;> omega)
        · skip
          refine lv_iload_n hx hb dX1_levelOf_28 rfl (lv_at hl 3 rfl) ?_
          refine lv_iload hx hb dX1_levelOf_29 (lv_at hl 5 rfl) ?_
          refine N_icmp_ge (tgt := 46) hx hb dX1_levelOf_31 (by decide) (by omega) (by omega) (fun c_31 => ?_) (fun c_31 => ?_)
          · skip
            refine lv_iload hx hb dX1_levelOf_46 (lv_at hl 4 rfl) ?_
            refine lv_iload_n hx hb dX1_levelOf_48 rfl (lv_at hl 1 rfl) ?_
            refine N_icmp_le (tgt := 56) hx hb dX1_levelOf_49 (by decide) (by omega) (by omega) (fun c_49 => ?_) (fun c_49 => ?_)
            · skip
              refine lv_iload hx hb dX1_levelOf_56 (lv_at hl 4 rfl) ?_
              rw [hQQ]
              exact rt_i hx hb hr hlk  (()) dX1_levelOf_58 hP hD hS (by first | exact Nat.le_of_ble_eq_true rfl | (simp only [rm_X1_levelOf]; omega)) (by first | exact Nat.le_of_ble_eq_true rfl | (simp only [rm_X1_levelOf]; omega)) (by congr 1; unfold levC rawLv; (repeat' split) <;> omega)
            · skip
              refine lv_iconst (v := nI 0) hx hb dX1_levelOf_52 (by decide) ?_
              refine lv_goto (tgt := 58) hx hb dX1_levelOf_53 (by decide) ?_
              rw [hQQ]
              exact rt_i hx hb hr hlk  (()) dX1_levelOf_58 hP hD hS (by first | exact Nat.le_of_ble_eq_true rfl | (simp only [rm_X1_levelOf]; omega)) (by first | exact Nat.le_of_ble_eq_true rfl | (simp only [rm_X1_levelOf]; omega)) (by congr 1; unfold levC rawLv; (repeat' split) <;> omega)
          · skip
            refine N_iinc (a := (i + 1)) (b := 1) (k9 := 4) (lv' := [(4, .int (nI ((i + 1) + 1))), (0, .int (nI x)), (1, .int (nI L)), (2, .int (nI (x / 8))), (3, .int (nI (x % 8))), (5, .int (nI hf))]) hx hb dX1_levelOf_34 hl rfl rfl (by decide) rfl (fun ls hl => ?_)
            refine lv_iload hx hb dX1_levelOf_37 (lv_at hl 5 rfl) ?_
            refine lv_iconst (v := nI 2) hx hb dX1_levelOf_39 (by decide) ?_
            refine N_idiv hx hb dX1_levelOf_40 (by omega) (by omega) (by omega) ?_
            refine lv_istore (lv' := [(5, .int (nI (hf / 2))), (4, .int (nI ((i + 1) + 1))), (0, .int (nI x)), (1, .int (nI L)), (2, .int (nI (x / 8))), (3, .int (nI (x % 8)))]) hx hb dX1_levelOf_41 hl (by decide) rfl (fun ls hl => ?_)
            refine lv_goto (tgt := 16) hx hb dX1_levelOf_43 (by decide) ?_
            have hl : lv_has ls 6 [(0, .int (nI x)), (1, .int (nI L)), (2, .int (nI (x / 8))), (3, .int (nI (x % 8))), (4, .int (nI ((i + 1) + 1))), (5, .int (nI (hf / 2)))] := lv_sub hl [2, 3, 4, 5, 1, 0] rfl
            have e_1 : nI (hf / 2) = nI ((hf / 2)) := by rfl
            rw [e_1] at hl
            have hl : lv_has ls 6 [(0, .int (nI x)), (1, .int (nI L)), (2, .int (nI (x / 8))), (3, .int (nI (x % 8))), (4, .int (nI ((i + 1) + 1))), (5, .int (nI ((hf / 2))))] := hl
            exact ih_16 (i + 1) (hf / 2) (by omega) (by omega) (by omega) _ _ _ hP hD hS hl
  have hl : lv_has ls 6 [(0, .int (nI x)), (1, .int (nI L)), (2, .int (nI (x / 8))), (3, .int (nI (x % 8))), (4, .int (nI 1)), (5, .int (nI 4))] := lv_sub hl [4, 5, 3, 2, 1, 0] rfl
  have e_2 : nI 1 = nI (0 + 1) := by rfl
  rw [e_2] at hl
  have hl : lv_has ls 6 [(0, .int (nI x)), (1, .int (nI L)), (2, .int (nI (x / 8))), (3, .int (nI (x % 8))), (4, .int (nI (0 + 1))), (5, .int (nI 4))] := hl
  exact lp_16 _ 0 4 (by omega) (by omega) (Nat.lt_succ_self _) _ _ _ hP hD hS hl
def rm_X1_bandTold : Room := ({ frames := 1, cells := 0, slots := 0, locals := 25 } : Room)
set_option maxHeartbeats 400000 in
set_option maxRecDepth 100000 in
theorem t_X1_bandTold (l : Launch) (G : GG) (b0 sz : Nat) (x L : Nat) (hxx : x < 64) (hL : L ≤ 3) : CT l yX1_bandTold cX1_bandTold 4 (some FieldType.int) (rm_X1_bandTold) G b0 [.int (nI x), .int (nI L)] [] sz (Ri G (fun (r_ : Int32) (_ : Unit) => r_ = nI (bndC x L)) (fun (_ : Unit) => [])) := by
  refine CT.go (by decide) (Nat.le_of_ble_eq_true rfl) (fun p e s m below meth c A ls AR QQ hx hb hr hlk hml hown hnm hts hE hA hAb hsz hP hD hS hl hQQ => ?_)
  have hK := hE.1
  have hown : s.vm.findClass RX1 = some m.cls := hown
  have hl : lv_has ls 4 [(0, .int (nI x)), (1, .int (nI L))] := hl
  clear hsz
  have hlv : levC x L ≤ L := levC_le hL
  have hdv : 8 / 2 ^ levC x L ≤ 8 := Nat.div_le_self _ _
  refine lv_iload_n hx hb dX1_bandTold_0 rfl (lv_at hl 0 rfl) ?_
  refine lv_iload_n hx hb dX1_bandTold_1 rfl (lv_at hl 1 rfl) ?_
  refine fin_i (ws' := (fun (_ : Unit) => [])) hA hS hP hD [] rfl [] (fun _ => rfl) (by decide) (run_S (As := [.int (nI x), .int (nI L)]) (rest := []) (n9 := 2) hx hb hml hown hts hE hAb hl.1 hS hP hD [] rfl (by decide) (t_X1_levelOf l G b0 _ x L (by omega) (by omega)) (lw_S q200 q201 q106 q202) ⟨by decide, by decide, by decide +kernel⟩ ⟨Nat.le_of_ble_eq_true rfl, Nat.le_of_ble_eq_true rfl⟩ ⟨by first | exact Nat.le_of_ble_eq_true rfl | (simp only [rm_X1_bandTold, rm_X1_levelOf]; omega), by first | exact Nat.le_of_ble_eq_true rfl | (simp only [rm_X1_bandTold, rm_X1_levelOf]; omega)⟩ dX1_bandTold_2 (Nat.le_of_ble_eq_true rfl) rfl rfl) (fun r_1 u_1 H locs h_1 hP hD hS => ?_)
  have hP : va_P G.1 vwCl [] _ := hP
  have hD : va_D A [] := hD
  have h_1 : r_1 = nI (levC x L) := h_1
  rw [h_1]
  refine lv_istore_n (lv' := [(2, .int (nI (levC x L))), (0, .int (nI x)), (1, .int (nI L))]) hx hb dX1_bandTold_5 rfl hl (by decide) rfl (fun ls hl => ?_)
  refine lv_iload_n hx hb dX1_bandTold_6 rfl (lv_at hl 0 rfl) ?_
  refine N_if_ne (tgt := 14) hx hb dX1_bandTold_7 (by decide) (by omega) (fun c_7 => ?_) (fun c_7 => ?_)
  · skip
    refine lv_bipush (v := nI 8) hx hb dX1_bandTold_14 (by decide) ?_
    refine lv_iload_n hx hb dX1_bandTold_16 rfl (lv_at hl 0 rfl) ?_
    refine N_ishr hx hb dX1_bandTold_17 (by omega) (by omega) ?_
    refine lv_istore_n (lv' := [(3, .int (nI (8 / 2 ^ (levC x L)))), (2, .int (nI (levC x L))), (0, .int (nI x)), (1, .int (nI L))]) hx hb dX1_bandTold_18 rfl hl (by decide) rfl (fun ls hl => ?_)
    refine lv_iload_n hx hb dX1_bandTold_19 rfl (lv_at hl 1 rfl) ?_
    refine N_if_ne (tgt := 27) hx hb dX1_bandTold_20 (by decide) (by omega) (fun c_20 => ?_) (fun c_20 => ?_)
    · skip
      refine lv_iconst (v := nI 3) hx hb dX1_bandTold_27 (by decide) ?_
      refine lv_iload_n hx hb dX1_bandTold_28 rfl (lv_at hl 1 rfl) ?_
      refine lv_iconst (v := nI 1) hx hb dX1_bandTold_29 (by decide) ?_
      refine N_isub hx hb dX1_bandTold_30 (by omega) ?_
      refine N_imul hx hb dX1_bandTold_31 ?_
      refine lv_iload_n hx hb dX1_bandTold_32 rfl (lv_at hl 2 rfl) ?_
      refine lv_bipush (v := nI 8) hx hb dX1_bandTold_33 (by decide) ?_
      refine N_irem hx hb dX1_bandTold_35 (by omega) (by omega) (by omega) ?_
      refine lv_iload_n hx hb dX1_bandTold_36 rfl (lv_at hl 0 rfl) ?_
      refine N_icmp_lt (tgt := 44) hx hb dX1_bandTold_37 (by decide) (by omega) (by omega) (fun c_37 => ?_) (fun c_37 => ?_)
      · skip
        refine lv_iconst (v := nI 0) hx hb dX1_bandTold_44 (by decide) ?_
        refine N_iadd hx hb dX1_bandTold_45 ?_
        refine lv_iload_n hx hb dX1_bandTold_46 rfl (lv_at hl 2 rfl) ?_
        refine lv_bipush (v := nI 8) hx hb dX1_bandTold_47 (by decide) ?_
        refine N_idiv hx hb dX1_bandTold_49 (by omega) (by omega) (by omega) ?_
        refine lv_iload_n hx hb dX1_bandTold_50 rfl (lv_at hl 0 rfl) ?_
        refine N_icmp_lt (tgt := 58) hx hb dX1_bandTold_51 (by decide) (by omega) (by omega) (fun c_51 => ?_) (fun c_51 => ?_)
        · skip
          refine lv_iconst (v := nI 0) hx hb dX1_bandTold_58 (by decide) ?_
          refine N_iadd hx hb dX1_bandTold_59 ?_
          rw [hQQ]
          exact rt_i hx hb hr hlk  (()) dX1_bandTold_60 hP hD hS (by first | exact Nat.le_of_ble_eq_true rfl | (simp only [rm_X1_bandTold]; omega)) (by first | exact Nat.le_of_ble_eq_true rfl | (simp only [rm_X1_bandTold]; omega)) (by congr 1; unfold bndC; (repeat' split) <;> omega)
        · skip
          refine lv_iconst (v := nI 2) hx hb dX1_bandTold_54 (by decide) ?_
          refine lv_goto (tgt := 59) hx hb dX1_bandTold_55 (by decide) ?_
          refine N_iadd hx hb dX1_bandTold_59 ?_
          rw [hQQ]
          exact rt_i hx hb hr hlk  (()) dX1_bandTold_60 hP hD hS (by first | exact Nat.le_of_ble_eq_true rfl | (simp only [rm_X1_bandTold]; omega)) (by first | exact Nat.le_of_ble_eq_true rfl | (simp only [rm_X1_bandTold]; omega)) (by congr 1; unfold bndC; (repeat' split) <;> omega)
      · skip
        refine lv_iconst (v := nI 1) hx hb dX1_bandTold_40 (by decide) ?_
        refine lv_goto (tgt := 45) hx hb dX1_bandTold_41 (by decide) ?_
        refine N_iadd hx hb dX1_bandTold_45 ?_
        refine lv_iload_n hx hb dX1_bandTold_46 rfl (lv_at hl 2 rfl) ?_
        refine lv_bipush (v := nI 8) hx hb dX1_bandTold_47 (by decide) ?_
        refine N_idiv hx hb dX1_bandTold_49 (by omega) (by omega) (by omega) ?_
        refine lv_iload_n hx hb dX1_bandTold_50 rfl (lv_at hl 0 rfl) ?_
        refine N_icmp_lt (tgt := 58) hx hb dX1_bandTold_51 (by decide) (by omega) (by omega) (fun c_51 => ?_) (fun c_51 => ?_)
        · skip
          refine lv_iconst (v := nI 0) hx hb dX1_bandTold_58 (by decide) ?_
          refine N_iadd hx hb dX1_bandTold_59 ?_
          rw [hQQ]
          exact rt_i hx hb hr hlk  (()) dX1_bandTold_60 hP hD hS (by first | exact Nat.le_of_ble_eq_true rfl | (simp only [rm_X1_bandTold]; omega)) (by first | exact Nat.le_of_ble_eq_true rfl | (simp only [rm_X1_bandTold]; omega)) (by congr 1; unfold bndC; (repeat' split) <;> omega)
        · skip
          refine lv_iconst (v := nI 2) hx hb dX1_bandTold_54 (by decide) ?_
          refine lv_goto (tgt := 59) hx hb dX1_bandTold_55 (by decide) ?_
          refine N_iadd hx hb dX1_bandTold_59 ?_
          rw [hQQ]
          exact rt_i hx hb hr hlk  (()) dX1_bandTold_60 hP hD hS (by first | exact Nat.le_of_ble_eq_true rfl | (simp only [rm_X1_bandTold]; omega)) (by first | exact Nat.le_of_ble_eq_true rfl | (simp only [rm_X1_bandTold]; omega)) (by congr 1; unfold bndC; (repeat' split) <;> omega)
    · skip
      refine lv_iconst (v := nI 0) hx hb dX1_bandTold_23 (by decide) ?_
      refine lv_goto (tgt := 60) hx hb dX1_bandTold_24 (by decide) ?_
      rw [hQQ]
      exact rt_i hx hb hr hlk  (()) dX1_bandTold_60 hP hD hS (by first | exact Nat.le_of_ble_eq_true rfl | (simp only [rm_X1_bandTold]; omega)) (by first | exact Nat.le_of_ble_eq_true rfl | (simp only [rm_X1_bandTold]; omega)) (by congr 1; unfold bndC; (repeat' split) <;> omega)
  · skip
    refine lv_iconst (v := nI 0) hx hb dX1_bandTold_10 (by decide) ?_
    refine lv_goto (tgt := 18) hx hb dX1_bandTold_11 (by decide) ?_
    refine lv_istore_n (lv' := [(3, .int (nI 0)), (2, .int (nI (levC x L))), (0, .int (nI x)), (1, .int (nI L))]) hx hb dX1_bandTold_18 rfl hl (by decide) rfl (fun ls hl => ?_)
    refine lv_iload_n hx hb dX1_bandTold_19 rfl (lv_at hl 1 rfl) ?_
    refine N_if_ne (tgt := 27) hx hb dX1_bandTold_20 (by decide) (by omega) (fun c_20 => ?_) (fun c_20 => ?_)
    · skip
      refine lv_iconst (v := nI 3) hx hb dX1_bandTold_27 (by decide) ?_
      refine lv_iload_n hx hb dX1_bandTold_28 rfl (lv_at hl 1 rfl) ?_
      refine lv_iconst (v := nI 1) hx hb dX1_bandTold_29 (by decide) ?_
      refine N_isub hx hb dX1_bandTold_30 (by omega) ?_
      refine N_imul hx hb dX1_bandTold_31 ?_
      refine lv_iload_n hx hb dX1_bandTold_32 rfl (lv_at hl 2 rfl) ?_
      refine lv_bipush (v := nI 8) hx hb dX1_bandTold_33 (by decide) ?_
      refine N_irem hx hb dX1_bandTold_35 (by omega) (by omega) (by omega) ?_
      refine lv_iload_n hx hb dX1_bandTold_36 rfl (lv_at hl 0 rfl) ?_
      refine N_icmp_lt (tgt := 44) hx hb dX1_bandTold_37 (by decide) (by omega) (by omega) (fun c_37 => ?_) (fun c_37 => ?_)
      · skip
        refine lv_iconst (v := nI 0) hx hb dX1_bandTold_44 (by decide) ?_
        refine N_iadd hx hb dX1_bandTold_45 ?_
        refine lv_iload_n hx hb dX1_bandTold_46 rfl (lv_at hl 2 rfl) ?_
        refine lv_bipush (v := nI 8) hx hb dX1_bandTold_47 (by decide) ?_
        refine N_idiv hx hb dX1_bandTold_49 (by omega) (by omega) (by omega) ?_
        refine lv_iload_n hx hb dX1_bandTold_50 rfl (lv_at hl 0 rfl) ?_
        refine N_icmp_lt (tgt := 58) hx hb dX1_bandTold_51 (by decide) (by omega) (by omega) (fun c_51 => ?_) (fun c_51 => ?_)
        · skip
          refine lv_iconst (v := nI 0) hx hb dX1_bandTold_58 (by decide) ?_
          refine N_iadd hx hb dX1_bandTold_59 ?_
          rw [hQQ]
          exact rt_i hx hb hr hlk  (()) dX1_bandTold_60 hP hD hS (by first | exact Nat.le_of_ble_eq_true rfl | (simp only [rm_X1_bandTold]; omega)) (by first | exact Nat.le_of_ble_eq_true rfl | (simp only [rm_X1_bandTold]; omega)) (by congr 1; unfold bndC; (repeat' split) <;> omega)
        · skip
          refine lv_iconst (v := nI 2) hx hb dX1_bandTold_54 (by decide) ?_
          refine lv_goto (tgt := 59) hx hb dX1_bandTold_55 (by decide) ?_
          refine N_iadd hx hb dX1_bandTold_59 ?_
          rw [hQQ]
          exact rt_i hx hb hr hlk  (()) dX1_bandTold_60 hP hD hS (by first | exact Nat.le_of_ble_eq_true rfl | (simp only [rm_X1_bandTold]; omega)) (by first | exact Nat.le_of_ble_eq_true rfl | (simp only [rm_X1_bandTold]; omega)) (by congr 1; unfold bndC; (repeat' split) <;> omega)
      · skip
        refine lv_iconst (v := nI 1) hx hb dX1_bandTold_40 (by decide) ?_
        refine lv_goto (tgt := 45) hx hb dX1_bandTold_41 (by decide) ?_
        refine N_iadd hx hb dX1_bandTold_45 ?_
        refine lv_iload_n hx hb dX1_bandTold_46 rfl (lv_at hl 2 rfl) ?_
        refine lv_bipush (v := nI 8) hx hb dX1_bandTold_47 (by decide) ?_
        refine N_idiv hx hb dX1_bandTold_49 (by omega) (by omega) (by omega) ?_
        refine lv_iload_n hx hb dX1_bandTold_50 rfl (lv_at hl 0 rfl) ?_
        refine N_icmp_lt (tgt := 58) hx hb dX1_bandTold_51 (by decide) (by omega) (by omega) (fun c_51 => ?_) (fun c_51 => ?_)
        · skip
          refine lv_iconst (v := nI 0) hx hb dX1_bandTold_58 (by decide) ?_
          refine N_iadd hx hb dX1_bandTold_59 ?_
          rw [hQQ]
          exact rt_i hx hb hr hlk  (()) dX1_bandTold_60 hP hD hS (by first | exact Nat.le_of_ble_eq_true rfl | (simp only [rm_X1_bandTold]; omega)) (by first | exact Nat.le_of_ble_eq_true rfl | (simp only [rm_X1_bandTold]; omega)) (by congr 1; unfold bndC; (repeat' split) <;> omega)
        · skip
          refine lv_iconst (v := nI 2) hx hb dX1_bandTold_54 (by decide) ?_
          refine lv_goto (tgt := 59) hx hb dX1_bandTold_55 (by decide) ?_
          refine N_iadd hx hb dX1_bandTold_59 ?_
          rw [hQQ]
          exact rt_i hx hb hr hlk  (()) dX1_bandTold_60 hP hD hS (by first | exact Nat.le_of_ble_eq_true rfl | (simp only [rm_X1_bandTold]; omega)) (by first | exact Nat.le_of_ble_eq_true rfl | (simp only [rm_X1_bandTold]; omega)) (by congr 1; unfold bndC; (repeat' split) <;> omega)
    · skip
      refine lv_iconst (v := nI 0) hx hb dX1_bandTold_23 (by decide) ?_
      refine lv_goto (tgt := 60) hx hb dX1_bandTold_24 (by decide) ?_
      rw [hQQ]
      exact rt_i hx hb hr hlk  (()) dX1_bandTold_60 hP hD hS (by first | exact Nat.le_of_ble_eq_true rfl | (simp only [rm_X1_bandTold]; omega)) (by first | exact Nat.le_of_ble_eq_true rfl | (simp only [rm_X1_bandTold]; omega)) (by congr 1; unfold bndC; (repeat' split) <;> omega)
