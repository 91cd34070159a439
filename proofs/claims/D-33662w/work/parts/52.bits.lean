/-! ===== bits: set and cleared ===== -/
def gwN (n r : Nat) : Nat := if 2 * n < r then r else 2 * n
theorem gw_max {n r : Nat} (h : n < 100000) (hr : r < 100000) : maxI (nI (2 * n)) (nI r) = nI (gwN n r) := by
  unfold maxI gwN
  by_cases c : 2 * n < r
  · rw [if_pos c, if_pos ((nI_ltI (by omega) (by omega)).mpr c)]
  · rw [if_neg c, if_neg (fun z => c ((nI_ltI (by omega) (by omega)).mp z))]
theorem gw_ge {n r : Nat} (h : n < r) : r ≤ gwN n r ∧ n < gwN n r ∧ (r ≤ n + 1 → gwN n r ≤ 2 * n + 1) ∧ 2 * n ≤ gwN n r := by
  unfold gwN
  split <;> omega
def exU (wu k : Nat) : Nat := if wu < k + 1 then k + 1 else wu
abbrev bit1 (i : Nat) : Int64 := 1 <<< ((nI i).toInt64 &&& 63)
abbrev orW (w : Nat → Int64) (i : Nat) : Nat → Int64 := vp_updL w (i / 64) (w (i / 64) ||| bit1 i)
abbrev cpW (w : Nat → Int64) (n : Nat) : Nat → Int64 := va_cpy w (fun _ => 0) 0 0 n
def rm_J6_ensureCapacity_0 : Room := ({ frames := 2, cells := 0, slots := 0, locals := 100 } : Room)
set_option maxHeartbeats 400000 in
set_option maxRecDepth 100000 in
theorem t_J6_ensureCapacity_0 (l : Launch) (G : GG) (b0 sz : Nat) (h a n wu : Nat) (w : Nat → Int64) (r : Nat) (hn1 : 1 ≤ n) (hn : n ≤ 500) (hwn : wu ≤ n) (hrq : r ≤ n) : CT l yJ6_ensureCapacity cJ6_ensureCapacity 3 none (rm_J6_ensureCapacity_0) G b0 [.ref h, .int (nI r)] [oX h 10 [.ref a, .int (nI wu), .int (bI false)], aJ G a n w] sz (Rv G (fun (_ : Unit) => True) (fun (_ : Unit) => [oX h 10 [.ref a, .int (nI wu), .int (bI false)], aJ G a n w])) := by
  refine CT.go (by decide) (Nat.le_of_ble_eq_true rfl) (fun p e s m below meth c A ls AR QQ hx hb hr hlk hml hown hnm hts hE hA hAb hsz hP hD hS hl hQQ => ?_)
  have hK := hE.1
  have hown : s.vm.findClass RJ6 = some m.cls := hown
  have hl : lv_has ls 3 [(0, .ref h), (1, .int (nI r))] := hl
  clear hsz
  refine lv_aload_n hx hb dJ6_ensureCapacity_0 rfl (lv_at hl 0 rfl) ?_
  refine va_get (D := G.1) (ci := 10) (v := .ref a) (C := RJ6) (T := TJ6) (N := 3) hx hb hts in_J6 hown hK hP 0 rfl rfl 0 (by decide) (hts _ q409) (fun _ h9 => h9) rfl dJ6_ensureCapacity_1 ?_
  refine va_alen (v := nI n) hx hb hK hP 1 2 rfl rfl rfl dJ6_ensureCapacity_4 ?_
  refine lv_iload_n hx hb dJ6_ensureCapacity_5 rfl (lv_at hl 1 rfl) ?_
  refine N_icmp_ge (tgt := 38) hx hb dJ6_ensureCapacity_6 (by decide) (by omega) (by omega) (fun c_6 => ?_) (fun c_6 => ?_)
  · skip
    rw [hQQ]
    exact rt_v hx hb hr hlk (()) dJ6_ensureCapacity_38 hP hD hS (by first | exact Nat.le_of_ble_eq_true rfl | (simp only [rm_J6_ensureCapacity_0]; omega) | omega) (by first | exact Nat.le_of_ble_eq_true rfl | (simp only [rm_J6_ensureCapacity_0]; omega) | omega) trivial
  · skip
    exfalso; omega
def rm_J6_ensureCapacity_1 (n : Nat) (r : Nat) : Room := ({ frames := 2, cells := 1, slots := gwN n r, locals := 100 } : Room)
set_option maxHeartbeats 400000 in
set_option maxRecDepth 100000 in
theorem t_J6_ensureCapacity_1 (l : Launch) (G : GG) (b0 sz : Nat) (h a n wu : Nat) (w : Nat → Int64) (r : Nat) (hn1 : 1 ≤ n) (hn : n ≤ 500) (hwn : wu ≤ n) (hrq : n < r) (hr5 : r ≤ 500) : CT l yJ6_ensureCapacity cJ6_ensureCapacity 3 none (rm_J6_ensureCapacity_1 n r) G b0 [.ref h, .int (nI r)] [oX h 10 [.ref a, .int (nI wu), .int (bI false)], aJ G a n w] sz (Rv G (fun (u : Nat) => True) (fun (u : Nat) => [oX h 10 [.ref u, .int (nI wu), .int (bI false)], aJ G u (gwN n r) (cpW w n)])) := by
  refine CT.go (by decide) (Nat.le_of_ble_eq_true rfl) (fun p e s m below meth c A ls AR QQ hx hb hr hlk hml hown hnm hts hE hA hAb hsz hP hD hS hl hQQ => ?_)
  have hK := hE.1
  have hown : s.vm.findClass RJ6 = some m.cls := hown
  have hl : lv_has ls 3 [(0, .ref h), (1, .int (nI r))] := hl
  clear hsz
  refine lv_aload_n hx hb dJ6_ensureCapacity_0 rfl (lv_at hl 0 rfl) ?_
  refine va_get (D := G.1) (ci := 10) (v := .ref a) (C := RJ6) (T := TJ6) (N := 3) hx hb hts in_J6 hown hK hP 0 rfl rfl 0 (by decide) (hts _ q409) (fun _ h9 => h9) rfl dJ6_ensureCapacity_1 ?_
  refine va_alen (v := nI n) hx hb hK hP 1 2 rfl rfl rfl dJ6_ensureCapacity_4 ?_
  refine lv_iload_n hx hb dJ6_ensureCapacity_5 rfl (lv_at hl 1 rfl) ?_
  refine N_icmp_ge (tgt := 38) hx hb dJ6_ensureCapacity_6 (by decide) (by omega) (by omega) (fun c_6 => ?_) (fun c_6 => ?_)
  · skip
    exfalso; omega
  · skip
    refine lv_iconst (v := nI 2) hx hb dJ6_ensureCapacity_9 (by decide) ?_
    refine lv_aload_n hx hb dJ6_ensureCapacity_10 rfl (lv_at hl 0 rfl) ?_
    refine va_get (D := G.1) (ci := 10) (v := .ref a) (C := RJ6) (T := TJ6) (N := 3) hx hb hts in_J6 hown hK hP 0 rfl rfl 0 (by decide) (hts _ q409) (fun _ h9 => h9) rfl dJ6_ensureCapacity_11 ?_
    refine va_alen (v := nI n) hx hb hK hP 1 2 rfl rfl rfl dJ6_ensureCapacity_14 ?_
    refine N_imul hx hb dJ6_ensureCapacity_15 ?_
    refine lv_iload_n hx hb dJ6_ensureCapacity_16 rfl (lv_at hl 1 rfl) ?_
    refine M_max hx hb (hml.trans hl.1.symm) hown hts q1136 q586 q137 q587 (Nat.le_of_ble_eq_true rfl) (Nat.le_of_ble_eq_true rfl) (by first | exact Nat.le_of_ble_eq_true rfl | omega | (simp only [rm_J6_ensureCapacity_1]; omega)) (by first | exact Nat.le_of_ble_eq_true rfl | omega | (simp only [rm_J6_ensureCapacity_1]; omega)) dJ6_ensureCapacity_17 ?_
    have hgw := gw_ge hrq
    have hgl : gwN n r ≤ 1000 := by unfold gwN; split <;> omega
    refine W.eq (g2 := F0 m 20 ls [.int (nI (gwN n r))]) (by rw [gw_max (by omega) (by omega)]) ?_
    refine lv_istore_n (lv' := [(2, .int (nI (gwN n r))), (0, .ref h), (1, .int (nI r))]) hx hb dJ6_ensureCapacity_20 rfl hl (by decide) rfl (fun ls hl => ?_)
    refine lv_aload_n hx hb dJ6_ensureCapacity_21 rfl (lv_at hl 1 rfl) ?_
    refine lv_aload_n hx hb dJ6_ensureCapacity_22 rfl (lv_at hl 1 rfl) ?_
    refine va_get (D := G.1) (ci := 10) (v := .ref a) (C := RJ6) (T := TJ6) (N := 3) hx hb hts in_J6 hown hK hP 0 rfl rfl 0 (by decide) (hts _ q409) (fun _ h9 => h9) rfl dJ6_ensureCapacity_23 ?_
    refine lv_iload_n hx hb dJ6_ensureCapacity_26 rfl (lv_at hl 0 rfl) ?_
    refine fin_r (ws' := (fun (u_1 : Nat) => [oX h 10 [.ref a, .int (nI wu), .int (bI false)], aJ G a n w, aJ G u_1 (gwN n r) (va_cpy w (fun _ => 0) 0 0 n)])) hA hS hP hD [1] rfl [(false, 0), (true, 0), (true, 1)] (fun _ => rfl) (by decide) (run_S (As := [.ref a, .int (nI (gwN n r))]) (rest := [.ref h]) (n9 := 2) hx hb hml hown hts hE hAb hl.1 hS hP hD [1] rfl (by decide) (t_J21_copyOf_4 l G b0 _ a n (gwN n r) w (by omega) (by omega)) (lw_S q1137 q1138 q138 q1139) ⟨by decide, by decide, by decide +kernel⟩ ⟨Nat.le_of_ble_eq_true rfl, Nat.le_of_ble_eq_true rfl⟩ ⟨by first | exact Nat.le_of_ble_eq_true rfl | (simp only [rm_J6_ensureCapacity_1, rm_J21_copyOf_4]; omega), by first | exact Nat.le_of_ble_eq_true rfl | (simp only [rm_J6_ensureCapacity_1, rm_J21_copyOf_4]; omega)⟩ dJ6_ensureCapacity_27 (Nat.le_of_ble_eq_true rfl) rfl rfl) (fun u_1 H locs h_1 hP hD hS => ?_)
    have hP : va_P G.1 vwCl [oX h 10 [.ref a, .int (nI wu), .int (bI false)], aJ G a n w, aJ G u_1 (gwN n r) (va_cpy w (fun _ => 0) 0 0 n)] _ := hP
    have hD : va_D A [oX h 10 [.ref a, .int (nI wu), .int (bI false)], aJ G a n w, aJ G u_1 (gwN n r) (va_cpy w (fun _ => 0) 0 0 n)] := hD
    refine W.eq (g2 := F0 m 30 ls [.ref u_1, .ref h]) rfl ?_
    refine va_put (D := G.1) (ci := 10) (v := .ref u_1) (ty := (.array .long)) (C := RJ6) (T := TJ6) (N := 3) hx hb hts in_J6 tyJ6 tyJ6_ok nmJ6 hown hK hP hD hS 0 rfl rfl 0 (by decide) (hts _ q409) (fun _ h9 => h9) rfl (by decide +kernel) rfl rfl (Nat.le_of_ble_eq_true rfl) dJ6_ensureCapacity_30 (fun H locs hP hD hS => ?_)
    have hP : va_P G.1 vwCl [oX h 10 [.ref u_1, .int (nI wu), .int (bI false)], aJ G a n w, aJ G u_1 (gwN n r) (va_cpy w (fun _ => 0) 0 0 n)] _ := hP
    have hD : va_D A [oX h 10 [.ref u_1, .int (nI wu), .int (bI false)], aJ G a n w, aJ G u_1 (gwN n r) (va_cpy w (fun _ => 0) 0 0 n)] := hD
    refine lv_aload_n hx hb dJ6_ensureCapacity_33 rfl (lv_at hl 1 rfl) ?_
    refine lv_iconst (v := nI 0) hx hb dJ6_ensureCapacity_34 (by decide) ?_
    refine va_put (D := G.1) (ci := 10) (v := .int (bI false)) (ty := .boolean) (C := RJ6) (T := TJ6) (N := 3) hx hb hts in_J6 tyJ6 tyJ6_ok nmJ6 hown hK hP hD hS 0 rfl rfl 2 (by decide) (hts _ q411) (fun _ h9 => h9) rfl (by decide +kernel) (bI_nar _) rfl (Nat.le_of_ble_eq_true rfl) dJ6_ensureCapacity_35 (fun H locs hP hD hS => ?_)
    have hP : va_P G.1 vwCl [oX h 10 [.ref u_1, .int (nI wu), .int (bI false)], aJ G a n w, aJ G u_1 (gwN n r) (va_cpy w (fun _ => 0) 0 0 n)] _ := hP
    have hD : va_D A [oX h 10 [.ref u_1, .int (nI wu), .int (bI false)], aJ G a n w, aJ G u_1 (gwN n r) (va_cpy w (fun _ => 0) 0 0 n)] := hD
    have hP : va_P G.1 vwCl [oX h 10 [.ref u_1, .int (nI wu), .int (bI false)], aJ G u_1 (gwN n r) (va_cpy w (fun _ => 0) 0 0 n)] _ := hP.sub [0, 2] rfl
    have hD : va_D A [oX h 10 [.ref u_1, .int (nI wu), .int (bI false)], aJ G u_1 (gwN n r) (va_cpy w (fun _ => 0) 0 0 n)] := hD.sub [0, 2] (by decide) rfl
    have hP : va_P G.1 vwCl [oX h 10 [.ref u_1, .int (nI wu), .int (bI false)], aJ G u_1 (gwN n r) (cpW w n)] _ := hP
    have hD : va_D A [oX h 10 [.ref u_1, .int (nI wu), .int (bI false)], aJ G u_1 (gwN n r) (cpW w n)] := hD
    rw [hQQ]
    exact rt_v hx hb hr hlk u_1 dJ6_ensureCapacity_38 hP hD hS (by first | exact Nat.le_of_ble_eq_true rfl | (simp only [rm_J6_ensureCapacity_1, rm_J21_copyOf_4]; omega) | omega) (by first | exact Nat.le_of_ble_eq_true rfl | (simp only [rm_J6_ensureCapacity_1, rm_J21_copyOf_4]; omega) | omega) trivial
def rm_J6_expandTo_0 : Room := ({ frames := 3, cells := 0, slots := 0, locals := 130 } : Room)
set_option maxHeartbeats 400000 in
set_option maxRecDepth 100000 in
theorem t_J6_expandTo_0 (l : Launch) (G : GG) (b0 sz : Nat) (h a n wu : Nat) (w : Nat → Int64) (k : Nat) (hn1 : 1 ≤ n) (hn : n ≤ 500) (hwn : wu ≤ n) (hk : k < n) : CT l yJ6_expandTo cJ6_expandTo 3 none (rm_J6_expandTo_0) G b0 [.ref h, .int (nI k)] [oX h 10 [.ref a, .int (nI wu), .int (bI false)], aJ G a n w] sz (Rv G (fun (_ : Unit) => True) (fun (_ : Unit) => [oX h 10 [.ref a, .int (nI (exU wu k)), .int (bI false)], aJ G a n w])) := by
  refine CT.go (by decide) (Nat.le_of_ble_eq_true rfl) (fun p e s m below meth c A ls AR QQ hx hb hr hlk hml hown hnm hts hE hA hAb hsz hP hD hS hl hQQ => ?_)
  have hK := hE.1
  have hown : s.vm.findClass RJ6 = some m.cls := hown
  have hl : lv_has ls 3 [(0, .ref h), (1, .int (nI k))] := hl
  clear hsz
  refine lv_iload_n hx hb dJ6_expandTo_0 rfl (lv_at hl 1 rfl) ?_
  refine lv_iconst (v := nI 1) hx hb dJ6_expandTo_1 (by decide) ?_
  refine N_iadd hx hb dJ6_expandTo_2 ?_
  refine lv_istore_n (lv' := [(2, .int (nI (k + 1))), (0, .ref h), (1, .int (nI k))]) hx hb dJ6_expandTo_3 rfl hl (by decide) rfl (fun ls hl => ?_)
  refine lv_aload_n hx hb dJ6_expandTo_4 rfl (lv_at hl 1 rfl) ?_
  refine va_get (D := G.1) (ci := 10) (v := .int (nI wu)) (C := RJ6) (T := TJ6) (N := 3) hx hb hts in_J6 hown hK hP 0 rfl rfl 1 (by decide) (hts _ q410) (fun _ h9 => h9) rfl dJ6_expandTo_5 ?_
  refine lv_iload_n hx hb dJ6_expandTo_8 rfl (lv_at hl 0 rfl) ?_
  refine N_icmp_ge (tgt := 22) hx hb dJ6_expandTo_9 (by decide) (by omega) (by omega) (fun c_9 => ?_) (fun c_9 => ?_)
  · skip
    have e_1 : (wu) = (exU wu k) := by first | exact (if_pos (by assumption)).symm | exact (if_neg (by omega)).symm
    rw [e_1] at hP hD
    have hP : va_P G.1 vwCl [oX h 10 [.ref a, .int (nI (exU wu k)), .int (bI false)], aJ G a n w] _ := hP
    have hD : va_D A [oX h 10 [.ref a, .int (nI (exU wu k)), .int (bI false)], aJ G a n w] := hD
    rw [hQQ]
    exact rt_v hx hb hr hlk (()) dJ6_expandTo_22 hP hD hS (by first | exact Nat.le_of_ble_eq_true rfl | (simp only [rm_J6_expandTo_0]; omega) | omega) (by first | exact Nat.le_of_ble_eq_true rfl | (simp only [rm_J6_expandTo_0]; omega) | omega) trivial
  · skip
    refine lv_aload_n hx hb dJ6_expandTo_12 rfl (lv_at hl 1 rfl) ?_
    refine lv_iload_n hx hb dJ6_expandTo_13 rfl (lv_at hl 0 rfl) ?_
    refine fin_v (ws' := (fun (_ : Unit) => [oX h 10 [.ref a, .int (nI wu), .int (bI false)], aJ G a n w])) hA hS hP hD [0, 1] rfl [(true, 0), (true, 1)] (fun _ => rfl) (by decide) (run_V (As := [.int (nI (k + 1))]) (rest := []) (n9 := 1) hx hb hml hown hts hE hAb hl.1 hS hP hD [0, 1] rfl (by decide) (t_J6_ensureCapacity_0 l G b0 _ h a n wu w (k + 1) (by omega) (by omega) (by omega) (by omega)) (lw_V q1132 q1134 qs25 q121 q1135) 0 rfl rfl ⟨rfl, by decide, by decide, by decide +kernel⟩ ⟨Nat.le_of_ble_eq_true rfl, Nat.le_of_ble_eq_true rfl⟩ ⟨by first | exact Nat.le_of_ble_eq_true rfl | (simp only [rm_J6_expandTo_0, rm_J6_ensureCapacity_0]; omega), by first | exact Nat.le_of_ble_eq_true rfl | (simp only [rm_J6_expandTo_0, rm_J6_ensureCapacity_0]; omega)⟩ dJ6_expandTo_14 (Nat.le_of_ble_eq_true rfl) rfl rfl) (fun u_2 H locs h_2 hP hD hS => ?_)
    have hP : va_P G.1 vwCl [oX h 10 [.ref a, .int (nI wu), .int (bI false)], aJ G a n w] _ := hP
    have hD : va_D A [oX h 10 [.ref a, .int (nI wu), .int (bI false)], aJ G a n w] := hD
    refine lv_aload_n hx hb dJ6_expandTo_17 rfl (lv_at hl 1 rfl) ?_
    refine lv_iload_n hx hb dJ6_expandTo_18 rfl (lv_at hl 0 rfl) ?_
    refine va_put (D := G.1) (ci := 10) (v := .int (nI (k + 1))) (ty := .int) (C := RJ6) (T := TJ6) (N := 3) hx hb hts in_J6 tyJ6 tyJ6_ok nmJ6 hown hK hP hD hS 0 rfl rfl 1 (by decide) (hts _ q410) (fun _ h9 => h9) rfl (by decide +kernel) rfl rfl (Nat.le_of_ble_eq_true rfl) dJ6_expandTo_19 (fun H locs hP hD hS => ?_)
    have hP : va_P G.1 vwCl [oX h 10 [.ref a, .int (nI (k + 1)), .int (bI false)], aJ G a n w] _ := hP
    have hD : va_D A [oX h 10 [.ref a, .int (nI (k + 1)), .int (bI false)], aJ G a n w] := hD
    have e_3 : (k + 1) = (exU wu k) := by first | exact (if_pos (by assumption)).symm | exact (if_neg (by omega)).symm
    rw [e_3] at hP hD
    have hP : va_P G.1 vwCl [oX h 10 [.ref a, .int (nI (exU wu k)), .int (bI false)], aJ G a n w] _ := hP
    have hD : va_D A [oX h 10 [.ref a, .int (nI (exU wu k)), .int (bI false)], aJ G a n w] := hD
    rw [hQQ]
    exact rt_v hx hb hr hlk (()) dJ6_expandTo_22 hP hD hS (by first | exact Nat.le_of_ble_eq_true rfl | (simp only [rm_J6_expandTo_0, rm_J6_ensureCapacity_0]; omega) | omega) (by first | exact Nat.le_of_ble_eq_true rfl | (simp only [rm_J6_expandTo_0, rm_J6_ensureCapacity_0]; omega) | omega) trivial
def rm_J6_expandTo_1 (n : Nat) (k : Nat) : Room := ({ frames := 3, cells := 1, slots := gwN n (k + 1), locals := 130 } : Room)
set_option maxHeartbeats 400000 in
set_option maxRecDepth 100000 in
theorem t_J6_expandTo_1 (l : Launch) (G : GG) (b0 sz : Nat) (h a n wu : Nat) (w : Nat → Int64) (k : Nat) (hn1 : 1 ≤ n) (hn : n ≤ 500) (hwn : wu ≤ n) (hk : n ≤ k) (hk5 : k < 500) : CT l yJ6_expandTo cJ6_expandTo 3 none (rm_J6_expandTo_1 n k) G b0 [.ref h, .int (nI k)] [oX h 10 [.ref a, .int (nI wu), .int (bI false)], aJ G a n w] sz (Rv G (fun (u : Nat) => True) (fun (u : Nat) => [oX h 10 [.ref u, .int (nI (k + 1)), .int (bI false)], aJ G u (gwN n (k + 1)) (cpW w n)])) := by
  refine CT.go (by decide) (Nat.le_of_ble_eq_true rfl) (fun p e s m below meth c A ls AR QQ hx hb hr hlk hml hown hnm hts hE hA hAb hsz hP hD hS hl hQQ => ?_)
  have hK := hE.1
  have hown : s.vm.findClass RJ6 = some m.cls := hown
  have hl : lv_has ls 3 [(0, .ref h), (1, .int (nI k))] := hl
  clear hsz
  refine lv_iload_n hx hb dJ6_expandTo_0 rfl (lv_at hl 1 rfl) ?_
  refine lv_iconst (v := nI 1) hx hb dJ6_expandTo_1 (by decide) ?_
  refine N_iadd hx hb dJ6_expandTo_2 ?_
  refine lv_istore_n (lv' := [(2, .int (nI (k + 1))), (0, .ref h), (1, .int (nI k))]) hx hb dJ6_expandTo_3 rfl hl (by decide) rfl (fun ls hl => ?_)
  refine lv_aload_n hx hb dJ6_expandTo_4 rfl (lv_at hl 1 rfl) ?_
  refine va_get (D := G.1) (ci := 10) (v := .int (nI wu)) (C := RJ6) (T := TJ6) (N := 3) hx hb hts in_J6 hown hK hP 0 rfl rfl 1 (by decide) (hts _ q410) (fun _ h9 => h9) rfl dJ6_expandTo_5 ?_
  refine lv_iload_n hx hb dJ6_expandTo_8 rfl (lv_at hl 0 rfl) ?_
  refine N_icmp_ge (tgt := 22) hx hb dJ6_expandTo_9 (by decide) (by omega) (by omega) (fun c_9 => ?_) (fun c_9 => ?_)
  · skip
    exfalso; omega
  · skip
    refine lv_aload_n hx hb dJ6_expandTo_12 rfl (lv_at hl 1 rfl) ?_
    refine lv_iload_n hx hb dJ6_expandTo_13 rfl (lv_at hl 0 rfl) ?_
    refine fin_v (ws' := (fun (u_1 : Nat) => [oX h 10 [.ref u_1, .int (nI wu), .int (bI false)], aJ G u_1 (gwN n (k + 1)) (cpW w n)])) hA hS hP hD [0, 1] rfl [(true, 0), (true, 1)] (fun _ => rfl) (by decide) (run_V (As := [.int (nI (k + 1))]) (rest := []) (n9 := 1) hx hb hml hown hts hE hAb hl.1 hS hP hD [0, 1] rfl (by decide) (t_J6_ensureCapacity_1 l G b0 _ h a n wu w (k + 1) (by omega) (by omega) (by omega) (by omega) (by omega)) (lw_V q1132 q1134 qs25 q121 q1135) 0 rfl rfl ⟨rfl, by decide, by decide, by decide +kernel⟩ ⟨Nat.le_of_ble_eq_true rfl, Nat.le_of_ble_eq_true rfl⟩ ⟨by first | exact Nat.le_of_ble_eq_true rfl | (simp only [rm_J6_expandTo_1, rm_J6_ensureCapacity_1]; omega), by first | exact Nat.le_of_ble_eq_true rfl | (simp only [rm_J6_expandTo_1, rm_J6_ensureCapacity_1]; omega)⟩ dJ6_expandTo_14 (Nat.le_of_ble_eq_true rfl) rfl rfl) (fun u_1 H locs h_1 hP hD hS => ?_)
    have hP : va_P G.1 vwCl [oX h 10 [.ref u_1, .int (nI wu), .int (bI false)], aJ G u_1 (gwN n (k + 1)) (cpW w n)] _ := hP
    have hD : va_D A [oX h 10 [.ref u_1, .int (nI wu), .int (bI false)], aJ G u_1 (gwN n (k + 1)) (cpW w n)] := hD
    refine lv_aload_n hx hb dJ6_expandTo_17 rfl (lv_at hl 1 rfl) ?_
    refine lv_iload_n hx hb dJ6_expandTo_18 rfl (lv_at hl 0 rfl) ?_
    refine va_put (D := G.1) (ci := 10) (v := .int (nI (k + 1))) (ty := .int) (C := RJ6) (T := TJ6) (N := 3) hx hb hts in_J6 tyJ6 tyJ6_ok nmJ6 hown hK hP hD hS 0 rfl rfl 1 (by decide) (hts _ q410) (fun _ h9 => h9) rfl (by decide +kernel) rfl rfl (Nat.le_of_ble_eq_true rfl) dJ6_expandTo_19 (fun H locs hP hD hS => ?_)
    have hP : va_P G.1 vwCl [oX h 10 [.ref u_1, .int (nI (k + 1)), .int (bI false)], aJ G u_1 (gwN n (k + 1)) (cpW w n)] _ := hP
    have hD : va_D A [oX h 10 [.ref u_1, .int (nI (k + 1)), .int (bI false)], aJ G u_1 (gwN n (k + 1)) (cpW w n)] := hD
    rw [hQQ]
    exact rt_v hx hb hr hlk u_1 dJ6_expandTo_22 hP hD hS (by first | exact Nat.le_of_ble_eq_true rfl | (simp only [rm_J6_expandTo_1, rm_J6_ensureCapacity_1]; omega) | omega) (by first | exact Nat.le_of_ble_eq_true rfl | (simp only [rm_J6_expandTo_1, rm_J6_ensureCapacity_1]; omega) | omega) trivial
def rm_J6_checkInvariants : Room := ({ frames := 0, cells := 0, slots := 0, locals := 0 } : Room)
set_option maxHeartbeats 400000 in
set_option maxRecDepth 100000 in
theorem t_J6_checkInvariants (l : Launch) (G : GG) (b0 sz : Nat) (h a n wu : Nat) (w : Nat → Int64) : CT l yJ6_checkInvariants cJ6_checkInvariants 1 none (rm_J6_checkInvariants) G b0 [.ref h] [oX h 10 [.ref a, .int (nI wu), .int (bI false)], aJ G a n w] sz (Rv G (fun (_ : Unit) => True) (fun (_ : Unit) => [oX h 10 [.ref a, .int (nI wu), .int (bI false)], aJ G a n w])) := by
  refine CT.go (by decide) (Nat.le_of_ble_eq_true rfl) (fun p e s m below meth c A ls AR QQ hx hb hr hlk hml hown hnm hts hE hA hAb hsz hP hD hS hl hQQ => ?_)
  have hK := hE.1
  have hown : s.vm.findClass RJ6 = some m.cls := hown
  have hl : lv_has ls 1 [(0, .ref h)] := hl
  clear hsz
  refine va_gets (C := "java/util/BitSet") (n := "$assertionsDisabled") (d := "Z") (ref := "java/util/BitSet") hx hb (hE.2.2.2.2.2.2.nar hAb).1 hS hown (hts _ q1149) (fun _ h_ => h_) dJ6_checkInvariants_0 ?_
  refine W.eq (g2 := F0 m 3 ls [.int (nI 1)]) rfl ?_
  refine N_if_ne (tgt := 37) hx hb dJ6_checkInvariants_3 (by decide) (by omega) (fun c_3 => ?_) (fun c_3 => ?_)
  · skip
    refine va_gets (C := "java/util/BitSet") (n := "$assertionsDisabled") (d := "Z") (ref := "java/util/BitSet") hx hb (hE.2.2.2.2.2.2.nar hAb).1 hS hown (hts _ q1149) (fun _ h_ => h_) dJ6_checkInvariants_37 ?_
    refine W.eq (g2 := F0 m 40 ls [.int (nI 1)]) rfl ?_
    refine N_if_ne (tgt := 70) hx hb dJ6_checkInvariants_40 (by decide) (by omega) (fun c_40 => ?_) (fun c_40 => ?_)
    · skip
      refine va_gets (C := "java/util/BitSet") (n := "$assertionsDisabled") (d := "Z") (ref := "java/util/BitSet") hx hb (hE.2.2.2.2.2.2.nar hAb).1 hS hown (hts _ q1149) (fun _ h_ => h_) dJ6_checkInvariants_70 ?_
      refine W.eq (g2 := F0 m 73 ls [.int (nI 1)]) rfl ?_
      refine N_if_ne (tgt := 110) hx hb dJ6_checkInvariants_73 (by decide) (by omega) (fun c_73 => ?_) (fun c_73 => ?_)
      · skip
        rw [hQQ]
        exact rt_v hx hb hr hlk (()) dJ6_checkInvariants_110 hP hD hS (by first | exact Nat.le_of_ble_eq_true rfl | (simp only [rm_J6_checkInvariants]; omega) | omega) (by first | exact Nat.le_of_ble_eq_true rfl | (simp only [rm_J6_checkInvariants]; omega) | omega) trivial
      · skip
        exfalso; omega
    · skip
      exfalso; omega
  · skip
    exfalso; omega
def rm_J6_set_2_0 : Room := ({ frames := 4, cells := 0, slots := 0, locals := 170 } : Room)
set_option maxHeartbeats 400000 in
set_option maxRecDepth 100000 in
theorem t_J6_set_2_0 (l : Launch) (G : GG) (b0 sz : Nat) (h a n wu : Nat) (w : Nat → Int64) (i : Nat) (hn1 : 1 ≤ n) (hn : n ≤ 500) (hwn : wu ≤ n) (hi : i < 20000) (hk : i / 64 < n) : CT l yJ6_set_2 cJ6_set_2 3 none (rm_J6_set_2_0) G b0 [.ref h, .int (nI i)] [oX h 10 [.ref a, .int (nI wu), .int (bI false)], aJ G a n w] sz (Rv G (fun (_ : Unit) => True) (fun (_ : Unit) => [oX h 10 [.ref a, .int (nI (exU wu (i / 64))), .int (bI false)], aJ G a n (orW w i)])) := by
  refine CT.go (by decide) (Nat.le_of_ble_eq_true rfl) (fun p e s m below meth c A ls AR QQ hx hb hr hlk hml hown hnm hts hE hA hAb hsz hP hD hS hl hQQ => ?_)
  have hK := hE.1
  have hown : s.vm.findClass RJ6 = some m.cls := hown
  have hl : lv_has ls 3 [(0, .ref h), (1, .int (nI i))] := hl
  clear hsz
  refine lv_iload_n hx hb dJ6_set_2_0 rfl (lv_at hl 1 rfl) ?_
  refine N_if_ge (tgt := 31) hx hb dJ6_set_2_1 (by decide) (by omega) ?_
  refine lv_iload_n hx hb dJ6_set_2_31 rfl (lv_at hl 1 rfl) ?_
  refine fin_i (ws' := (fun (_ : Unit) => [oX h 10 [.ref a, .int (nI wu), .int (bI false)], aJ G a n w])) hA hS hP hD [] rfl [(false, 0), (false, 1)] (fun _ => rfl) (by decide) (run_S (As := [.int (nI i)]) (rest := []) (n9 := 1) hx hb hml hown hts hE hAb hl.1 hS hP hD [] rfl (by decide) (t_J6_wordIndex l G b0 _ i (by omega)) (lw_S q406 q407 q121 q408) ⟨by decide, by decide, by decide +kernel⟩ ⟨Nat.le_of_ble_eq_true rfl, Nat.le_of_ble_eq_true rfl⟩ ⟨by first | exact Nat.le_of_ble_eq_true rfl | (simp only [rm_J6_set_2_0, rm_J6_wordIndex]; omega), by first | exact Nat.le_of_ble_eq_true rfl | (simp only [rm_J6_set_2_0, rm_J6_wordIndex]; omega)⟩ dJ6_set_2_32 (Nat.le_of_ble_eq_true rfl) rfl rfl) (fun r_1 u_1 H locs h_1 hP hD hS => ?_)
  have hP : va_P G.1 vwCl [oX h 10 [.ref a, .int (nI wu), .int (bI false)], aJ G a n w] _ := hP
  have hD : va_D A [oX h 10 [.ref a, .int (nI wu), .int (bI false)], aJ G a n w] := hD
  have h_1 : r_1 = (nI (i / 64)) := h_1
  rw [h_1]
  refine lv_istore_n (lv' := [(2, .int (nI (i / 64))), (0, .ref h), (1, .int (nI i))]) hx hb dJ6_set_2_35 rfl hl (by decide) rfl (fun ls hl => ?_)
  refine lv_aload_n hx hb dJ6_set_2_36 rfl (lv_at hl 1 rfl) ?_
  refine lv_iload_n hx hb dJ6_set_2_37 rfl (lv_at hl 0 rfl) ?_
  refine fin_v (ws' := (fun (_ : Unit) => [oX h 10 [.ref a, .int (nI (exU wu (i / 64))), .int (bI false)], aJ G a n w])) hA hS hP hD [0, 1] rfl [(true, 0), (true, 1)] (fun _ => rfl) (by decide) (run_V (As := [.int (nI (i / 64))]) (rest := []) (n9 := 1) hx hb hml hown hts hE hAb hl.1 hS hP hD [0, 1] rfl (by decide) (t_J6_expandTo_0 l G b0 _ h a n wu w (i / 64) (by omega) (by omega) (by omega) (by omega)) (lw_V q1128 q1130 qs24 q121 q1131) 0 rfl rfl ⟨rfl, by decide, by decide, by decide +kernel⟩ ⟨Nat.le_of_ble_eq_true rfl, Nat.le_of_ble_eq_true rfl⟩ ⟨by first | exact Nat.le_of_ble_eq_true rfl | (simp only [rm_J6_set_2_0, rm_J6_expandTo_0, rm_J6_wordIndex]; omega), by first | exact Nat.le_of_ble_eq_true rfl | (simp only [rm_J6_set_2_0, rm_J6_expandTo_0, rm_J6_wordIndex]; omega)⟩ dJ6_set_2_38 (Nat.le_of_ble_eq_true rfl) rfl rfl) (fun u_2 H locs h_2 hP hD hS => ?_)
  have hP : va_P G.1 vwCl [oX h 10 [.ref a, .int (nI (exU wu (i / 64))), .int (bI false)], aJ G a n w] _ := hP
  have hD : va_D A [oX h 10 [.ref a, .int (nI (exU wu (i / 64))), .int (bI false)], aJ G a n w] := hD
  refine lv_aload_n hx hb dJ6_set_2_41 rfl (lv_at hl 1 rfl) ?_
  refine va_get (D := G.1) (ci := 10) (v := .ref a) (C := RJ6) (T := TJ6) (N := 3) hx hb hts in_J6 hown hK hP 0 rfl rfl 0 (by decide) (hts _ q409) (fun _ h9 => h9) rfl dJ6_set_2_42 ?_
  refine lv_iload_n hx hb dJ6_set_2_45 rfl (lv_at hl 0 rfl) ?_
  refine lv_dup2_11 hx hb dJ6_set_2_46 rfl rfl ?_
  refine N_lald hx hb dJ6_set_2_47 hK hP 1 2 rfl rfl (by omega) (by omega) ?_
  refine lv_lconst (v := 1) hx hb dJ6_set_2_48 (by decide) ?_
  refine lv_iload_n hx hb dJ6_set_2_49 rfl (lv_at hl 2 rfl) ?_
  refine lv_lshl (v := 1 <<< ((nI i).toInt64 &&& 63)) hx hb dJ6_set_2_50 rfl ?_
  refine lv_lor hx hb dJ6_set_2_51 ?_
  refine N_last (ws' := [oX h 10 [.ref a, .int (nI (exU wu (i / 64))), .int (bI false)], aJ G a n (vp_updL w (i / 64) ((w (i / 64)) ||| (1 <<< ((nI i).toInt64 &&& 63))))]) hx hb dJ6_set_2_52 hK hP hD hS 1 2 rfl rfl (by omega) (by omega) rfl (fun H locs hP hD hS => ?_)
  refine lv_aload_n hx hb dJ6_set_2_53 rfl (lv_at hl 1 rfl) ?_
  refine fin_v (ws' := (fun (_ : Unit) => [oX h 10 [.ref a, .int (nI (exU wu (i / 64))), .int (bI false)], aJ G a n (vp_updL w (i / 64) ((w (i / 64)) ||| (1 <<< ((nI i).toInt64 &&& 63))))])) hA hS hP hD [0, 1] rfl [(true, 0), (true, 1)] (fun _ => rfl) (by decide) (run_V (As := []) (rest := []) (n9 := 0) hx hb hml hown hts hE hAb hl.1 hS hP hD [0, 1] rfl (by decide) (t_J6_checkInvariants l G b0 _ h a n (exU wu (i / 64)) (vp_updL w (i / 64) ((w (i / 64)) ||| (1 <<< ((nI i).toInt64 &&& 63)))) ) (lw_V q1145 q1147 qs26 q121 q1148) 0 rfl rfl ⟨rfl, by decide, by decide, by decide +kernel⟩ ⟨Nat.le_of_ble_eq_true rfl, Nat.le_of_ble_eq_true rfl⟩ ⟨by first | exact Nat.le_of_ble_eq_true rfl | (simp only [rm_J6_set_2_0, rm_J6_checkInvariants, rm_J6_wordIndex, rm_J6_expandTo_0]; omega), by first | exact Nat.le_of_ble_eq_true rfl | (simp only [rm_J6_set_2_0, rm_J6_checkInvariants, rm_J6_wordIndex, rm_J6_expandTo_0]; omega)⟩ dJ6_set_2_54 (Nat.le_of_ble_eq_true rfl) rfl rfl) (fun u_3 H locs h_3 hP hD hS => ?_)
  have hP : va_P G.1 vwCl [oX h 10 [.ref a, .int (nI (exU wu (i / 64))), .int (bI false)], aJ G a n (vp_updL w (i / 64) ((w (i / 64)) ||| (1 <<< ((nI i).toInt64 &&& 63))))] _ := hP
  have hD : va_D A [oX h 10 [.ref a, .int (nI (exU wu (i / 64))), .int (bI false)], aJ G a n (vp_updL w (i / 64) ((w (i / 64)) ||| (1 <<< ((nI i).toInt64 &&& 63))))] := hD
  have hP : va_P G.1 vwCl [oX h 10 [.ref a, .int (nI (exU wu (i / 64))), .int (bI false)], aJ G a n (orW w i)] _ := hP
  have hD : va_D A [oX h 10 [.ref a, .int (nI (exU wu (i / 64))), .int (bI false)], aJ G a n (orW w i)] := hD
  rw [hQQ]
  exact rt_v hx hb hr hlk (()) dJ6_set_2_57 hP hD hS (by first | exact Nat.le_of_ble_eq_true rfl | (simp only [rm_J6_set_2_0, rm_J6_wordIndex, rm_J6_expandTo_0, rm_J6_checkInvariants]; omega) | omega) (by first | exact Nat.le_of_ble_eq_true rfl | (simp only [rm_J6_set_2_0, rm_J6_wordIndex, rm_J6_expandTo_0, rm_J6_checkInvariants]; omega) | omega) trivial
def rm_J6_set_2_1 (n : Nat) (i : Nat) : Room := ({ frames := 4, cells := 1, slots := gwN n (i / 64 + 1), locals := 170 } : Room)
set_option maxHeartbeats 400000 in
set_option maxRecDepth 100000 in
theorem t_J6_set_2_1 (l : Launch) (G : GG) (b0 sz : Nat) (h a n wu : Nat) (w : Nat → Int64) (i : Nat) (hn1 : 1 ≤ n) (hn : n ≤ 500) (hwn : wu ≤ n) (hi : i < 20000) (hk : n ≤ i / 64) : CT l yJ6_set_2 cJ6_set_2 3 none (rm_J6_set_2_1 n i) G b0 [.ref h, .int (nI i)] [oX h 10 [.ref a, .int (nI wu), .int (bI false)], aJ G a n w] sz (Rv G (fun (u : Nat) => True) (fun (u : Nat) => [oX h 10 [.ref u, .int (nI (i / 64 + 1)), .int (bI false)], aJ G u (gwN n (i / 64 + 1)) (orW (cpW w n) i)])) := by
  refine CT.go (by decide) (Nat.le_of_ble_eq_true rfl) (fun p e s m below meth c A ls AR QQ hx hb hr hlk hml hown hnm hts hE hA hAb hsz hP hD hS hl hQQ => ?_)
  have hK := hE.1
  have hown : s.vm.findClass RJ6 = some m.cls := hown
  have hl : lv_has ls 3 [(0, .ref h), (1, .int (nI i))] := hl
  clear hsz
  refine lv_iload_n hx hb dJ6_set_2_0 rfl (lv_at hl 1 rfl) ?_
  refine N_if_ge (tgt := 31) hx hb dJ6_set_2_1 (by decide) (by omega) ?_
  refine lv_iload_n hx hb dJ6_set_2_31 rfl (lv_at hl 1 rfl) ?_
  refine fin_i (ws' := (fun (_ : Unit) => [oX h 10 [.ref a, .int (nI wu), .int (bI false)], aJ G a n w])) hA hS hP hD [] rfl [(false, 0), (false, 1)] (fun _ => rfl) (by decide) (run_S (As := [.int (nI i)]) (rest := []) (n9 := 1) hx hb hml hown hts hE hAb hl.1 hS hP hD [] rfl (by decide) (t_J6_wordIndex l G b0 _ i (by omega)) (lw_S q406 q407 q121 q408) ⟨by decide, by decide, by decide +kernel⟩ ⟨Nat.le_of_ble_eq_true rfl, Nat.le_of_ble_eq_true rfl⟩ ⟨by first | exact Nat.le_of_ble_eq_true rfl | (simp only [rm_J6_set_2_1, rm_J6_wordIndex]; omega), by first | exact Nat.le_of_ble_eq_true rfl | (simp only [rm_J6_set_2_1, rm_J6_wordIndex]; omega)⟩ dJ6_set_2_32 (Nat.le_of_ble_eq_true rfl) rfl rfl) (fun r_1 u_1 H locs h_1 hP hD hS => ?_)
  have hP : va_P G.1 vwCl [oX h 10 [.ref a, .int (nI wu), .int (bI false)], aJ G a n w] _ := hP
  have hD : va_D A [oX h 10 [.ref a, .int (nI wu), .int (bI false)], aJ G a n w] := hD
  have h_1 : r_1 = (nI (i / 64)) := h_1
  rw [h_1]
  refine lv_istore_n (lv' := [(2, .int (nI (i / 64))), (0, .ref h), (1, .int (nI i))]) hx hb dJ6_set_2_35 rfl hl (by decide) rfl (fun ls hl => ?_)
  refine lv_aload_n hx hb dJ6_set_2_36 rfl (lv_at hl 1 rfl) ?_
  refine lv_iload_n hx hb dJ6_set_2_37 rfl (lv_at hl 0 rfl) ?_
  refine fin_v (ws' := (fun (u_2 : Nat) => [oX h 10 [.ref u_2, .int (nI ((i / 64) + 1)), .int (bI false)], aJ G u_2 (gwN n ((i / 64) + 1)) (cpW w n)])) hA hS hP hD [0, 1] rfl [(true, 0), (true, 1)] (fun _ => rfl) (by decide) (run_V (As := [.int (nI (i / 64))]) (rest := []) (n9 := 1) hx hb hml hown hts hE hAb hl.1 hS hP hD [0, 1] rfl (by decide) (t_J6_expandTo_1 l G b0 _ h a n wu w (i / 64) (by omega) (by omega) (by omega) (by omega) (by omega)) (lw_V q1128 q1130 qs24 q121 q1131) 0 rfl rfl ⟨rfl, by decide, by decide, by decide +kernel⟩ ⟨Nat.le_of_ble_eq_true rfl, Nat.le_of_ble_eq_true rfl⟩ ⟨by first | exact Nat.le_of_ble_eq_true rfl | (simp only [rm_J6_set_2_1, rm_J6_expandTo_1, rm_J6_wordIndex]; omega), by first | exact Nat.le_of_ble_eq_true rfl | (simp only [rm_J6_set_2_1, rm_J6_expandTo_1, rm_J6_wordIndex]; omega)⟩ dJ6_set_2_38 (Nat.le_of_ble_eq_true rfl) rfl rfl) (fun u_2 H locs h_2 hP hD hS => ?_)
  have hP : va_P G.1 vwCl [oX h 10 [.ref u_2, .int (nI ((i / 64) + 1)), .int (bI false)], aJ G u_2 (gwN n ((i / 64) + 1)) (cpW w n)] _ := hP
  have hD : va_D A [oX h 10 [.ref u_2, .int (nI ((i / 64) + 1)), .int (bI false)], aJ G u_2 (gwN n ((i / 64) + 1)) (cpW w n)] := hD
  have hgw := gw_ge (show n < i / 64 + 1 by omega)
  have hgl : gwN n (i / 64 + 1) ≤ 1000 := by unfold gwN; split <;> omega
  refine lv_aload_n hx hb dJ6_set_2_41 rfl (lv_at hl 1 rfl) ?_
  refine va_get (D := G.1) (ci := 10) (v := .ref u_2) (C := RJ6) (T := TJ6) (N := 3) hx hb hts in_J6 hown hK hP 0 rfl rfl 0 (by decide) (hts _ q409) (fun _ h9 => h9) rfl dJ6_set_2_42 ?_
  refine lv_iload_n hx hb dJ6_set_2_45 rfl (lv_at hl 0 rfl) ?_
  refine lv_dup2_11 hx hb dJ6_set_2_46 rfl rfl ?_
  refine N_lald hx hb dJ6_set_2_47 hK hP 1 2 rfl rfl (by omega) (by omega) ?_
  refine lv_lconst (v := 1) hx hb dJ6_set_2_48 (by decide) ?_
  refine lv_iload_n hx hb dJ6_set_2_49 rfl (lv_at hl 2 rfl) ?_
  refine lv_lshl (v := 1 <<< ((nI i).toInt64 &&& 63)) hx hb dJ6_set_2_50 rfl ?_
  refine lv_lor hx hb dJ6_set_2_51 ?_
  refine N_last (ws' := [oX h 10 [.ref u_2, .int (nI ((i / 64) + 1)), .int (bI false)], aJ G u_2 (gwN n ((i / 64) + 1)) (vp_updL (cpW w n) (i / 64) (((cpW w n) (i / 64)) ||| (1 <<< ((nI i).toInt64 &&& 63))))]) hx hb dJ6_set_2_52 hK hP hD hS 1 2 rfl rfl (by omega) (by omega) rfl (fun H locs hP hD hS => ?_)
  refine lv_aload_n hx hb dJ6_set_2_53 rfl (lv_at hl 1 rfl) ?_
  refine fin_v (ws' := (fun (_ : Unit) => [oX h 10 [.ref u_2, .int (nI ((i / 64) + 1)), .int (bI false)], aJ G u_2 (gwN n ((i / 64) + 1)) (vp_updL (cpW w n) (i / 64) (((cpW w n) (i / 64)) ||| (1 <<< ((nI i).toInt64 &&& 63))))])) hA hS hP hD [0, 1] rfl [(true, 0), (true, 1)] (fun _ => rfl) (by decide) (run_V (As := []) (rest := []) (n9 := 0) hx hb hml hown hts hE hAb hl.1 hS hP hD [0, 1] rfl (by decide) (t_J6_checkInvariants l G b0 _ h u_2 (gwN n ((i / 64) + 1)) ((i / 64) + 1) (vp_updL (cpW w n) (i / 64) (((cpW w n) (i / 64)) ||| (1 <<< ((nI i).toInt64 &&& 63)))) ) (lw_V q1145 q1147 qs26 q121 q1148) 0 rfl rfl ⟨rfl, by decide, by decide, by decide +kernel⟩ ⟨Nat.le_of_ble_eq_true rfl, Nat.le_of_ble_eq_true rfl⟩ ⟨by first | exact Nat.le_of_ble_eq_true rfl | (simp only [rm_J6_set_2_1, rm_J6_checkInvariants, rm_J6_wordIndex, rm_J6_expandTo_1]; omega), by first | exact Nat.le_of_ble_eq_true rfl | (simp only [rm_J6_set_2_1, rm_J6_checkInvariants, rm_J6_wordIndex, rm_J6_expandTo_1]; omega)⟩ dJ6_set_2_54 (Nat.le_of_ble_eq_true rfl) rfl rfl) (fun u_3 H locs h_3 hP hD hS => ?_)
  have hP : va_P G.1 vwCl [oX h 10 [.ref u_2, .int (nI ((i / 64) + 1)), .int (bI false)], aJ G u_2 (gwN n ((i / 64) + 1)) (vp_updL (cpW w n) (i / 64) (((cpW w n) (i / 64)) ||| (1 <<< ((nI i).toInt64 &&& 63))))] _ := hP
  have hD : va_D A [oX h 10 [.ref u_2, .int (nI ((i / 64) + 1)), .int (bI false)], aJ G u_2 (gwN n ((i / 64) + 1)) (vp_updL (cpW w n) (i / 64) (((cpW w n) (i / 64)) ||| (1 <<< ((nI i).toInt64 &&& 63))))] := hD
  have hP : va_P G.1 vwCl [oX h 10 [.ref u_2, .int (nI (i / 64 + 1)), .int (bI false)], aJ G u_2 (gwN n (i / 64 + 1)) (orW (cpW w n) i)] _ := hP
  have hD : va_D A [oX h 10 [.ref u_2, .int (nI (i / 64 + 1)), .int (bI false)], aJ G u_2 (gwN n (i / 64 + 1)) (orW (cpW w n) i)] := hD
  rw [hQQ]
  exact rt_v hx hb hr hlk u_2 dJ6_set_2_57 hP hD hS (by first | exact Nat.le_of_ble_eq_true rfl | (simp only [rm_J6_set_2_1, rm_J6_wordIndex, rm_J6_expandTo_1, rm_J6_checkInvariants]; omega) | omega) (by first | exact Nat.le_of_ble_eq_true rfl | (simp only [rm_J6_set_2_1, rm_J6_wordIndex, rm_J6_expandTo_1, rm_J6_checkInvariants]; omega) | omega) trivial
