/-! ===== the code: bits and numbers ===== -/
def capB (n i : Nat) (b : Bool) : Nat := if b = true ∧ n ≤ i / 64 then gwN n (i / 64 + 1) else n
theorem capB_f {n i : Nat} : capB n i false = n := if_neg (fun z => by cases z.1)
theorem capB_0 {n i : Nat} (h : i / 64 < n) : capB n i true = n := if_neg (fun z => by omega)
theorem capB_1 {n i : Nat} (h : n ≤ i / 64) : capB n i true = gwN n (i / 64 + 1) := if_pos ⟨rfl, h⟩
theorem capB_ge {n i : Nat} {b : Bool} : n ≤ capB n i b := by
  unfold capB
  split
  · have := gw_ge (n := n) (r := i / 64 + 1) (by omega); omega
  · exact Nat.le_refl _
theorem capB_le {n i : Nat} {b : Bool} {m : Nat} (hi : 2 * (i / 64) ≤ m) (hn : n ≤ m) (hn1 : 1 ≤ n) : capB n i b ≤ m := by
  unfold capB
  split
  · rename_i h
    unfold gwN
    split <;> omega
  · exact hn
/-- what is known of a row after it has been written to -/
def BF (n wu : Nat) (w : Nat → Int64) (i : Nat) (b : Bool) (n' wu' : Nat) (w' : Nat → Int64) : Prop := n' = capB n i b ∧ BW n' wu' w' ∧ ∀ j, rb w' wu' j = if j = i then b else rb w wu j
theorem BF_f {n wu i : Nat} {w : Nat → Int64} (hi : i < 2147483648) (hB : BW n wu w) : BF n wu w i false n (clU w wu i) (clW w wu i) := ⟨capB_f.symm, BW_cl hB, rb_cl hi hB⟩
theorem BF_0 {n wu i : Nat} {w : Nat → Int64} (hi : i < 2147483648) (hB : BW n wu w) (hk : i / 64 < n) : BF n wu w i true n (exU wu (i / 64)) (orW w i) := ⟨(capB_0 hk).symm, BW_or hB hk, rb_or hi hB hk⟩
theorem BF_1 {n wu i : Nat} {w : Nat → Int64} (hi : i < 2147483648) (hB : BW n wu w) (hk : n ≤ i / 64) : BF n wu w i true (gwN n (i / 64 + 1)) (i / 64 + 1) (orW (cpW w n) i) := by
  have hg := gw_ge (n := n) (r := i / 64 + 1) (by omega)
  have hB1 : BW (gwN n (i / 64 + 1)) wu (cpW w n) := BW_cp hB (by omega)
  have e : exU wu (i / 64) = i / 64 + 1 := if_pos (by have := hB.2.1; omega)
  have h1 := BW_or (i := i) hB1 (by omega)
  have h2 := rb_or (i := i) hi hB1 (by omega)
  rw [e] at h1 h2
  refine ⟨(capB_1 hk).symm, h1, fun j => ?_⟩
  rw [h2 j, rb_cp hB.2.1]
def rm_J6_set_f : Room := ({ frames := 5, cells := 0, slots := 0, locals := 200 } : Room)
set_option maxHeartbeats 400000 in
set_option maxRecDepth 100000 in
theorem t_J6_set_f (l : Launch) (G : GG) (b0 sz : Nat) (h a n wu : Nat) (w : Nat → Int64) (i : Nat) (hn1 : 1 ≤ n) (hn : n ≤ 500) (hwn : wu ≤ n) (hi : i < 20000) : CT l yJ6_set cJ6_set 3 none (rm_J6_set_f) G b0 [.ref h, .int (nI i), .int (bI false)] [oX h 10 [.ref a, .int (nI wu), .int (bI false)], aJ G a n w] sz (Rv G (fun (_ : Unit) => True) (fun (_ : Unit) => [oX h 10 [.ref a, .int (nI (clU w wu i)), .int (bI false)], aJ G a n (clW w wu i)])) := by
  refine CT.go (by decide) (Nat.le_of_ble_eq_true rfl) (fun p e s m below meth c A ls AR QQ hx hb hr hlk hml hown hnm hts hE hA hAb hsz hP hD hS hl hQQ => ?_)
  have hK := hE.1
  have hown : s.vm.findClass RJ6 = some m.cls := hown
  have hl : lv_has ls 3 [(0, .ref h), (1, .int (nI i)), (2, .int (bI false))] := hl
  clear hsz
  refine lv_iload_n hx hb dJ6_set_0 rfl (lv_at hl 2 rfl) ?_
  refine B_if_eq (tgt := 12) hx hb dJ6_set_1 (by decide) (fun c_1 => ?_) (fun c_1 => ?_)
  · skip
    refine lv_aload_n hx hb dJ6_set_12 rfl (lv_at hl 0 rfl) ?_
    refine lv_iload_n hx hb dJ6_set_13 rfl (lv_at hl 1 rfl) ?_
    refine fin_v (ws' := (fun (_ : Unit) => [oX h 10 [.ref a, .int (nI (clU w wu i)), .int (bI false)], aJ G a n (clW w wu i)])) hA hS hP hD [0, 1] rfl [(true, 0), (true, 1)] (fun _ => rfl) (by decide) (run_V (As := [.int (nI i)]) (rest := []) (n9 := 1) hx hb hml hown hts hE hAb hl.1 hS hP hD [0, 1] rfl (by decide) (t_J6_clear_2 l G b0 _ h a n wu w i (by omega) (by omega) (by omega) (by omega)) (lw_V q1151 q1152 q1153 q121 q1154) 0 rfl rfl ⟨rfl, by decide, by decide, by decide +kernel⟩ ⟨Nat.le_of_ble_eq_true rfl, Nat.le_of_ble_eq_true rfl⟩ ⟨by first | exact Nat.le_of_ble_eq_true rfl | (simp only [rm_J6_set_f, rm_J6_clear_2]; omega), by first | exact Nat.le_of_ble_eq_true rfl | (simp only [rm_J6_set_f, rm_J6_clear_2]; omega)⟩ dJ6_set_14 (Nat.le_of_ble_eq_true rfl) rfl rfl) (fun u_1 H locs h_1 hP hD hS => ?_)
    have hP : va_P G.1 vwCl [oX h 10 [.ref a, .int (nI (clU w wu i)), .int (bI false)], aJ G a n (clW w wu i)] _ := hP
    have hD : va_D A [oX h 10 [.ref a, .int (nI (clU w wu i)), .int (bI false)], aJ G a n (clW w wu i)] := hD
    rw [hQQ]
    exact rt_v hx hb hr hlk (()) dJ6_set_17 hP hD hS (by first | exact Nat.le_of_ble_eq_true rfl | (simp only [rm_J6_set_f, rm_J6_clear_2]; omega) | omega) (by first | exact Nat.le_of_ble_eq_true rfl | (simp only [rm_J6_set_f, rm_J6_clear_2]; omega) | omega) trivial
  · skip
    exfalso; first | exact absurd c_1 (by decide) | cases c_1 | omega
def rm_J6_set_0 : Room := ({ frames := 5, cells := 0, slots := 0, locals := 200 } : Room)
set_option maxHeartbeats 400000 in
set_option maxRecDepth 100000 in
theorem t_J6_set_0 (l : Launch) (G : GG) (b0 sz : Nat) (h a n wu : Nat) (w : Nat → Int64) (i : Nat) (hn1 : 1 ≤ n) (hn : n ≤ 500) (hwn : wu ≤ n) (hi : i < 20000) (hk : i / 64 < n) : CT l yJ6_set cJ6_set 3 none (rm_J6_set_0) G b0 [.ref h, .int (nI i), .int (bI true)] [oX h 10 [.ref a, .int (nI wu), .int (bI false)], aJ G a n w] sz (Rv G (fun (_ : Unit) => True) (fun (_ : Unit) => [oX h 10 [.ref a, .int (nI (exU wu (i / 64))), .int (bI false)], aJ G a n (orW w i)])) := by
  refine CT.go (by decide) (Nat.le_of_ble_eq_true rfl) (fun p e s m below meth c A ls AR QQ hx hb hr hlk hml hown hnm hts hE hA hAb hsz hP hD hS hl hQQ => ?_)
  have hK := hE.1
  have hown : s.vm.findClass RJ6 = some m.cls := hown
  have hl : lv_has ls 3 [(0, .ref h), (1, .int (nI i)), (2, .int (bI true))] := hl
  clear hsz
  refine lv_iload_n hx hb dJ6_set_0 rfl (lv_at hl 2 rfl) ?_
  refine B_if_eq (tgt := 12) hx hb dJ6_set_1 (by decide) (fun c_1 => ?_) (fun c_1 => ?_)
  · skip
    exfalso; first | exact absurd c_1 (by decide) | cases c_1 | omega
  · skip
    refine lv_aload_n hx hb dJ6_set_4 rfl (lv_at hl 0 rfl) ?_
    refine lv_iload_n hx hb dJ6_set_5 rfl (lv_at hl 1 rfl) ?_
    refine fin_v (ws' := (fun (_ : Unit) => [oX h 10 [.ref a, .int (nI (exU wu (i / 64))), .int (bI false)], aJ G a n (orW w i)])) hA hS hP hD [0, 1] rfl [(true, 0), (true, 1)] (fun _ => rfl) (by decide) (run_V (As := [.int (nI i)]) (rest := []) (n9 := 1) hx hb hml hown hts hE hAb hl.1 hS hP hD [0, 1] rfl (by decide) (t_J6_set_2_0 l G b0 _ h a n wu w i (by omega) (by omega) (by omega) (by omega) (by omega)) (lw_V q1106 q1107 q1108 q121 q1109) 0 rfl rfl ⟨rfl, by decide, by decide, by decide +kernel⟩ ⟨Nat.le_of_ble_eq_true rfl, Nat.le_of_ble_eq_true rfl⟩ ⟨by first | exact Nat.le_of_ble_eq_true rfl | (simp only [rm_J6_set_0, rm_J6_set_2_0]; omega), by first | exact Nat.le_of_ble_eq_true rfl | (simp only [rm_J6_set_0, rm_J6_set_2_0]; omega)⟩ dJ6_set_6 (Nat.le_of_ble_eq_true rfl) rfl rfl) (fun u_1 H locs h_1 hP hD hS => ?_)
    have hP : va_P G.1 vwCl [oX h 10 [.ref a, .int (nI (exU wu (i / 64))), .int (bI false)], aJ G a n (orW w i)] _ := hP
    have hD : va_D A [oX h 10 [.ref a, .int (nI (exU wu (i / 64))), .int (bI false)], aJ G a n (orW w i)] := hD
    refine lv_goto (tgt := 17) hx hb dJ6_set_9 (by decide) ?_
    rw [hQQ]
    exact rt_v hx hb hr hlk (()) dJ6_set_17 hP hD hS (by first | exact Nat.le_of_ble_eq_true rfl | (simp only [rm_J6_set_0, rm_J6_set_2_0]; omega) | omega) (by first | exact Nat.le_of_ble_eq_true rfl | (simp only [rm_J6_set_0, rm_J6_set_2_0]; omega) | omega) trivial
def rm_J6_set_1 (n : Nat) (i : Nat) : Room := ({ frames := 5, cells := 1, slots := gwN n (i / 64 + 1), locals := 200 } : Room)
set_option maxHeartbeats 400000 in
set_option maxRecDepth 100000 in
theorem t_J6_set_1 (l : Launch) (G : GG) (b0 sz : Nat) (h a n wu : Nat) (w : Nat → Int64) (i : Nat) (hn1 : 1 ≤ n) (hn : n ≤ 500) (hwn : wu ≤ n) (hi : i < 20000) (hk : n ≤ i / 64) : CT l yJ6_set cJ6_set 3 none (rm_J6_set_1 n i) G b0 [.ref h, .int (nI i), .int (bI true)] [oX h 10 [.ref a, .int (nI wu), .int (bI false)], aJ G a n w] sz (Rv G (fun (u : Nat) => True) (fun (u : Nat) => [oX h 10 [.ref u, .int (nI (i / 64 + 1)), .int (bI false)], aJ G u (gwN n (i / 64 + 1)) (orW (cpW w n) i)])) := by
  refine CT.go (by decide) (Nat.le_of_ble_eq_true rfl) (fun p e s m below meth c A ls AR QQ hx hb hr hlk hml hown hnm hts hE hA hAb hsz hP hD hS hl hQQ => ?_)
  have hK := hE.1
  have hown : s.vm.findClass RJ6 = some m.cls := hown
  have hl : lv_has ls 3 [(0, .ref h), (1, .int (nI i)), (2, .int (bI true))] := hl
  clear hsz
  refine lv_iload_n hx hb dJ6_set_0 rfl (lv_at hl 2 rfl) ?_
  refine B_if_eq (tgt := 12) hx hb dJ6_set_1 (by decide) (fun c_1 => ?_) (fun c_1 => ?_)
  · skip
    exfalso; first | exact absurd c_1 (by decide) | cases c_1 | omega
  · skip
    refine lv_aload_n hx hb dJ6_set_4 rfl (lv_at hl 0 rfl) ?_
    refine lv_iload_n hx hb dJ6_set_5 rfl (lv_at hl 1 rfl) ?_
    refine fin_v (ws' := (fun (u_1 : Nat) => [oX h 10 [.ref u_1, .int (nI (i / 64 + 1)), .int (bI false)], aJ G u_1 (gwN n (i / 64 + 1)) (orW (cpW w n) i)])) hA hS hP hD [0, 1] rfl [(true, 0), (true, 1)] (fun _ => rfl) (by decide) (run_V (As := [.int (nI i)]) (rest := []) (n9 := 1) hx hb hml hown hts hE hAb hl.1 hS hP hD [0, 1] rfl (by decide) (t_J6_set_2_1 l G b0 _ h a n wu w i (by omega) (by omega) (by omega) (by omega) (by omega)) (lw_V q1106 q1107 q1108 q121 q1109) 0 rfl rfl ⟨rfl, by decide, by decide, by decide +kernel⟩ ⟨Nat.le_of_ble_eq_true rfl, Nat.le_of_ble_eq_true rfl⟩ ⟨by first | exact Nat.le_of_ble_eq_true rfl | (simp only [rm_J6_set_1, rm_J6_set_2_1]; omega), by first | exact Nat.le_of_ble_eq_true rfl | (simp only [rm_J6_set_1, rm_J6_set_2_1]; omega)⟩ dJ6_set_6 (Nat.le_of_ble_eq_true rfl) rfl rfl) (fun u_1 H locs h_1 hP hD hS => ?_)
    have hP : va_P G.1 vwCl [oX h 10 [.ref u_1, .int (nI (i / 64 + 1)), .int (bI false)], aJ G u_1 (gwN n (i / 64 + 1)) (orW (cpW w n) i)] _ := hP
    have hD : va_D A [oX h 10 [.ref u_1, .int (nI (i / 64 + 1)), .int (bI false)], aJ G u_1 (gwN n (i / 64 + 1)) (orW (cpW w n) i)] := hD
    refine lv_goto (tgt := 17) hx hb dJ6_set_9 (by decide) ?_
    rw [hQQ]
    exact rt_v hx hb hr hlk u_1 dJ6_set_17 hP hD hS (by first | exact Nat.le_of_ble_eq_true rfl | (simp only [rm_J6_set_1, rm_J6_set_2_1]; omega) | omega) (by first | exact Nat.le_of_ble_eq_true rfl | (simp only [rm_J6_set_1, rm_J6_set_2_1]; omega) | omega) trivial
def rm_X8_bit (n : Nat) (ln : Nat) (b : Bool) : Room := ({ frames := 6, cells := capB n ln b - n, slots := 2 * (capB n ln b - n), locals := 240 } : Room)
set_option maxHeartbeats 400000 in
set_option maxRecDepth 100000 in
theorem t_X8_bit (l : Launch) (G : GG) (b0 sz : Nat) (h bs cp a n wu ln at_ : Nat) (w : Nat → Int64) (b : Bool) (hB : BW n wu w) (hn : n ≤ 500) (hln : ln < 19000) : CT l yX8_bit cX8_bit 2 none (rm_X8_bit n ln b) G b0 [.ref h, .int (bI b)] [oX h 7 [.ref bs, .ref cp, .int (nI ln), .int (nI at_)], oX bs 10 [.ref a, .int (nI wu), .int (bI false)], aJ G a n w] sz (Rv G (fun (u : Nat × Nat × Nat × (Nat → Int64)) => BF n wu w ln b u.2.1 u.2.2.1 u.2.2.2) (fun (u : Nat × Nat × Nat × (Nat → Int64)) => [oX h 7 [.ref bs, .ref cp, .int (nI (ln + 1)), .int (nI at_)], oX bs 10 [.ref u.1, .int (nI u.2.2.1), .int (bI false)], aJ G u.1 u.2.1 u.2.2.2])) := by
  refine CT.go (by decide) (Nat.le_of_ble_eq_true rfl) (fun p e s m below meth c A ls AR QQ hx hb hr hlk hml hown hnm hts hE hA hAb hsz hP hD hS hl hQQ => ?_)
  have hK := hE.1
  have hown : s.vm.findClass RX8 = some m.cls := hown
  have hl : lv_has ls 2 [(0, .ref h), (1, .int (bI b))] := hl
  clear hsz
  have hn1 := hB.1
  have hwn := hB.2.1
  refine lv_aload_n hx hb dX8_bit_0 rfl (lv_at hl 0 rfl) ?_
  refine va_get (D := G.1) (ci := 7) (v := .ref bs) (C := RX8) (T := TX8) (N := 4) hx hb hts in_X8 hown hK hP 0 rfl rfl 0 (by decide) (hts _ q420) (fun _ h9 => h9) rfl dX8_bit_1 ?_
  refine lv_aload_n hx hb dX8_bit_4 rfl (lv_at hl 0 rfl) ?_
  refine va_get (D := G.1) (ci := 7) (v := .int (nI ln)) (C := RX8) (T := TX8) (N := 4) hx hb hts in_X8 hown hK hP 0 rfl rfl 2 (by decide) (hts _ q423) (fun _ h9 => h9) rfl dX8_bit_5 ?_
  refine lv_iload_n hx hb dX8_bit_8 rfl (lv_at hl 1 rfl) ?_
  cases b with
  | false =>
    have hbf := BF_f (i := ln) (by omega) hB
    have hcp : capB n ln false = n := capB_f
    refine fin_v (ws' := (fun (_ : Unit) => [oX h 7 [.ref bs, .ref cp, .int (nI ln), .int (nI at_)], oX bs 10 [.ref a, .int (nI (clU w wu ln)), .int (bI false)], aJ G a n (clW w wu ln)])) hA hS hP hD [1, 2] rfl [(false, 0), (true, 0), (true, 1)] (fun _ => rfl) (by decide) (run_V (As := [.int (nI ln), .int (bI false)]) (rest := []) (n9 := 2) hx hb hml hown hts hE hAb hl.1 hS hP hD [1, 2] rfl (by decide) (t_J6_set_f l G b0 _ bs a n wu w ln (by omega) (by omega) (by omega) (by omega)) (lw_V q1102 q1103 q1104 q121 q1105) 1 rfl rfl ⟨rfl, by decide, by decide, by decide +kernel⟩ ⟨Nat.le_of_ble_eq_true rfl, Nat.le_of_ble_eq_true rfl⟩ ⟨by first | exact Nat.le_of_ble_eq_true rfl | (simp only [rm_X8_bit, rm_J6_set_f]; omega), by first | exact Nat.le_of_ble_eq_true rfl | (simp only [rm_X8_bit, rm_J6_set_f]; omega)⟩ dX8_bit_9 (Nat.le_of_ble_eq_true rfl) rfl rfl) (fun u_1 H locs h_1 hP hD hS => ?_)
    have hP : va_P G.1 vwCl [oX h 7 [.ref bs, .ref cp, .int (nI ln), .int (nI at_)], oX bs 10 [.ref a, .int (nI (clU w wu ln)), .int (bI false)], aJ G a n (clW w wu ln)] _ := hP
    have hD : va_D A [oX h 7 [.ref bs, .ref cp, .int (nI ln), .int (nI at_)], oX bs 10 [.ref a, .int (nI (clU w wu ln)), .int (bI false)], aJ G a n (clW w wu ln)] := hD
    refine lv_aload_n hx hb dX8_bit_12 rfl (lv_at hl 0 rfl) ?_
    refine lv_dup hx hb dX8_bit_13 rfl ?_
    refine va_get (D := G.1) (ci := 7) (v := .int (nI ln)) (C := RX8) (T := TX8) (N := 4) hx hb hts in_X8 hown hK hP 0 rfl rfl 2 (by decide) (hts _ q423) (fun _ h9 => h9) rfl dX8_bit_14 ?_
    refine lv_iconst (v := nI 1) hx hb dX8_bit_17 (by decide) ?_
    refine N_iadd hx hb dX8_bit_18 ?_
    refine va_put (D := G.1) (ci := 7) (v := .int (nI (ln + 1))) (ty := .int) (C := RX8) (T := TX8) (N := 4) hx hb hts in_X8 tyX8 tyX8_ok nmX8 hown hK hP hD hS 0 rfl rfl 2 (by decide) (hts _ q423) (fun _ h9 => h9) rfl (by decide +kernel) rfl rfl (Nat.le_of_ble_eq_true rfl) dX8_bit_19 (fun H locs hP hD hS => ?_)
    have hP : va_P G.1 vwCl [oX h 7 [.ref bs, .ref cp, .int (nI (ln + 1)), .int (nI at_)], oX bs 10 [.ref a, .int (nI (clU w wu ln)), .int (bI false)], aJ G a n (clW w wu ln)] _ := hP
    have hD : va_D A [oX h 7 [.ref bs, .ref cp, .int (nI (ln + 1)), .int (nI at_)], oX bs 10 [.ref a, .int (nI (clU w wu ln)), .int (bI false)], aJ G a n (clW w wu ln)] := hD
    rw [hQQ]
    exact rt_v hx hb hr hlk ((a, n, clU w wu ln, clW w wu ln)) dX8_bit_22 hP hD hS (by first | exact Nat.le_of_ble_eq_true rfl | (simp only [rm_X8_bit, rm_J6_set_f]; omega) | omega) (by first | exact Nat.le_of_ble_eq_true rfl | (simp only [rm_X8_bit, rm_J6_set_f]; omega) | omega) (by exact hbf)
  | true =>
    by_cases hk : ln / 64 < n
    · have hbf := BF_0 (i := ln) (by omega) hB hk
      have hcp : capB n ln true = n := capB_0 hk
      refine fin_v (ws' := (fun (_ : Unit) => [oX h 7 [.ref bs, .ref cp, .int (nI ln), .int (nI at_)], oX bs 10 [.ref a, .int (nI (exU wu (ln / 64))), .int (bI false)], aJ G a n (orW w ln)])) hA hS hP hD [1, 2] rfl [(false, 0), (true, 0), (true, 1)] (fun _ => rfl) (by decide) (run_V (As := [.int (nI ln), .int (bI true)]) (rest := []) (n9 := 2) hx hb hml hown hts hE hAb hl.1 hS hP hD [1, 2] rfl (by decide) (t_J6_set_0 l G b0 _ bs a n wu w ln (by omega) (by omega) (by omega) (by omega) (by exact hk)) (lw_V q1102 q1103 q1104 q121 q1105) 1 rfl rfl ⟨rfl, by decide, by decide, by decide +kernel⟩ ⟨Nat.le_of_ble_eq_true rfl, Nat.le_of_ble_eq_true rfl⟩ ⟨by first | exact Nat.le_of_ble_eq_true rfl | (simp only [rm_X8_bit, rm_J6_set_0, rm_J6_set_f]; omega), by first | exact Nat.le_of_ble_eq_true rfl | (simp only [rm_X8_bit, rm_J6_set_0, rm_J6_set_f]; omega)⟩ dX8_bit_9 (Nat.le_of_ble_eq_true rfl) rfl rfl) (fun u_2 H locs h_2 hP hD hS => ?_)
      have hP : va_P G.1 vwCl [oX h 7 [.ref bs, .ref cp, .int (nI ln), .int (nI at_)], oX bs 10 [.ref a, .int (nI (exU wu (ln / 64))), .int (bI false)], aJ G a n (orW w ln)] _ := hP
      have hD : va_D A [oX h 7 [.ref bs, .ref cp, .int (nI ln), .int (nI at_)], oX bs 10 [.ref a, .int (nI (exU wu (ln / 64))), .int (bI false)], aJ G a n (orW w ln)] := hD
      refine lv_aload_n hx hb dX8_bit_12 rfl (lv_at hl 0 rfl) ?_
      refine lv_dup hx hb dX8_bit_13 rfl ?_
      refine va_get (D := G.1) (ci := 7) (v := .int (nI ln)) (C := RX8) (T := TX8) (N := 4) hx hb hts in_X8 hown hK hP 0 rfl rfl 2 (by decide) (hts _ q423) (fun _ h9 => h9) rfl dX8_bit_14 ?_
      refine lv_iconst (v := nI 1) hx hb dX8_bit_17 (by decide) ?_
      refine N_iadd hx hb dX8_bit_18 ?_
      refine va_put (D := G.1) (ci := 7) (v := .int (nI (ln + 1))) (ty := .int) (C := RX8) (T := TX8) (N := 4) hx hb hts in_X8 tyX8 tyX8_ok nmX8 hown hK hP hD hS 0 rfl rfl 2 (by decide) (hts _ q423) (fun _ h9 => h9) rfl (by decide +kernel) rfl rfl (Nat.le_of_ble_eq_true rfl) dX8_bit_19 (fun H locs hP hD hS => ?_)
      have hP : va_P G.1 vwCl [oX h 7 [.ref bs, .ref cp, .int (nI (ln + 1)), .int (nI at_)], oX bs 10 [.ref a, .int (nI (exU wu (ln / 64))), .int (bI false)], aJ G a n (orW w ln)] _ := hP
      have hD : va_D A [oX h 7 [.ref bs, .ref cp, .int (nI (ln + 1)), .int (nI at_)], oX bs 10 [.ref a, .int (nI (exU wu (ln / 64))), .int (bI false)], aJ G a n (orW w ln)] := hD
      rw [hQQ]
      exact rt_v hx hb hr hlk ((a, n, exU wu (ln / 64), orW w ln)) dX8_bit_22 hP hD hS (by first | exact Nat.le_of_ble_eq_true rfl | (simp only [rm_X8_bit, rm_J6_set_f, rm_J6_set_0]; omega) | omega) (by first | exact Nat.le_of_ble_eq_true rfl | (simp only [rm_X8_bit, rm_J6_set_f, rm_J6_set_0]; omega) | omega) (by exact hbf)
    · have hk : n ≤ ln / 64 := by omega
      have hbf := BF_1 (i := ln) (by omega) hB hk
      have hcp : capB n ln true = gwN n (ln / 64 + 1) := capB_1 hk
      have hgw := gw_ge (show n < ln / 64 + 1 by omega)
      refine fin_v (ws' := (fun (u_3 : Nat) => [oX h 7 [.ref bs, .ref cp, .int (nI ln), .int (nI at_)], oX bs 10 [.ref u_3, .int (nI (ln / 64 + 1)), .int (bI false)], aJ G u_3 (gwN n (ln / 64 + 1)) (orW (cpW w n) ln)])) hA hS hP hD [1, 2] rfl [(false, 0), (true, 0), (true, 1)] (fun _ => rfl) (by decide) (run_V (As := [.int (nI ln), .int (bI true)]) (rest := []) (n9 := 2) hx hb hml hown hts hE hAb hl.1 hS hP hD [1, 2] rfl (by decide) (t_J6_set_1 l G b0 _ bs a n wu w ln (by omega) (by omega) (by omega) (by omega) (by exact hk)) (lw_V q1102 q1103 q1104 q121 q1105) 1 rfl rfl ⟨rfl, by decide, by decide, by decide +kernel⟩ ⟨Nat.le_of_ble_eq_true rfl, Nat.le_of_ble_eq_true rfl⟩ ⟨by first | exact Nat.le_of_ble_eq_true rfl | (simp only [rm_X8_bit, rm_J6_set_1, rm_J6_set_f, rm_J6_set_0]; omega), by first | exact Nat.le_of_ble_eq_true rfl | (simp only [rm_X8_bit, rm_J6_set_1, rm_J6_set_f, rm_J6_set_0]; omega)⟩ dX8_bit_9 (Nat.le_of_ble_eq_true rfl) rfl rfl) (fun u_3 H locs h_3 hP hD hS => ?_)
      have hP : va_P G.1 vwCl [oX h 7 [.ref bs, .ref cp, .int (nI ln), .int (nI at_)], oX bs 10 [.ref u_3, .int (nI (ln / 64 + 1)), .int (bI false)], aJ G u_3 (gwN n (ln / 64 + 1)) (orW (cpW w n) ln)] _ := hP
      have hD : va_D A [oX h 7 [.ref bs, .ref cp, .int (nI ln), .int (nI at_)], oX bs 10 [.ref u_3, .int (nI (ln / 64 + 1)), .int (bI false)], aJ G u_3 (gwN n (ln / 64 + 1)) (orW (cpW w n) ln)] := hD
      refine lv_aload_n hx hb dX8_bit_12 rfl (lv_at hl 0 rfl) ?_
      refine lv_dup hx hb dX8_bit_13 rfl ?_
      refine va_get (D := G.1) (ci := 7) (v := .int (nI ln)) (C := RX8) (T := TX8) (N := 4) hx hb hts in_X8 hown hK hP 0 rfl rfl 2 (by decide) (hts _ q423) (fun _ h9 => h9) rfl dX8_bit_14 ?_
      refine lv_iconst (v := nI 1) hx hb dX8_bit_17 (by decide) ?_
      refine N_iadd hx hb dX8_bit_18 ?_
      refine va_put (D := G.1) (ci := 7) (v := .int (nI (ln + 1))) (ty := .int) (C := RX8) (T := TX8) (N := 4) hx hb hts in_X8 tyX8 tyX8_ok nmX8 hown hK hP hD hS 0 rfl rfl 2 (by decide) (hts _ q423) (fun _ h9 => h9) rfl (by decide +kernel) rfl rfl (Nat.le_of_ble_eq_true rfl) dX8_bit_19 (fun H locs hP hD hS => ?_)
      have hP : va_P G.1 vwCl [oX h 7 [.ref bs, .ref cp, .int (nI (ln + 1)), .int (nI at_)], oX bs 10 [.ref u_3, .int (nI (ln / 64 + 1)), .int (bI false)], aJ G u_3 (gwN n (ln / 64 + 1)) (orW (cpW w n) ln)] _ := hP
      have hD : va_D A [oX h 7 [.ref bs, .ref cp, .int (nI (ln + 1)), .int (nI at_)], oX bs 10 [.ref u_3, .int (nI (ln / 64 + 1)), .int (bI false)], aJ G u_3 (gwN n (ln / 64 + 1)) (orW (cpW w n) ln)] := hD
      rw [hQQ]
      exact rt_v hx hb hr hlk ((u_3, gwN n (ln / 64 + 1), ln / 64 + 1, orW (cpW w n) ln)) dX8_bit_22 hP hD hS (by first | exact Nat.le_of_ble_eq_true rfl | (simp only [rm_X8_bit, rm_J6_set_f, rm_J6_set_0, rm_J6_set_1]; omega) | omega) (by first | exact Nat.le_of_ble_eq_true rfl | (simp only [rm_X8_bit, rm_J6_set_f, rm_J6_set_0, rm_J6_set_1]; omega) | omega) (by exact hbf)
