/-! ===== the reference: changes asked of it ===== -/
def rm_X9_bandOf_0 : Room := ({ frames := 6, cells := 0, slots := 0, locals := 150 } : Room)
set_option maxHeartbeats 400000 in
set_option maxRecDepth 100000 in
theorem t_X9_bandOf_0 (l : Launch) (G : GG) (b0 sz : Nat) (h : Nat) (ad : Nat → Nat) (thr sts : Nat) (hs : Bool) (len at_ num many : Nat) (st : Nat → Int32) (r c_ : Nat) (L : Nat) (hr_ : r < 8) (hc_ : c_ < 8) (hL1 : 1 ≤ L) (hL : L ≤ 3) (hst : st 64 = nI L) : CT l yX9_bandOf cX9_bandOf 3 (some FieldType.int) (rm_X9_bandOf_0) G b0 [.ref h, .int (nI r), .int (nI c_)] [oM h ad thr sts hs len at_ num many, aI G (ad 1) 68 st] sz (Ri G (fun (r_ : Int32) (_ : Unit) => r_ = nI (bndM (8 * r + c_) L)) (fun (_ : Unit) => [oM h ad 0 sts hs len at_ num many, aI G (ad 1) 68 st])) := by
  refine CT.go (by decide) (Nat.le_of_ble_eq_true rfl) (fun p e s m below meth c A ls AR QQ hx hb hr hlk hml hown hnm hts hE hA hAb hsz hP hD hS hl hQQ => ?_)
  have hK := hE.1
  have hown : s.vm.findClass RX9 = some m.cls := hown
  have hl : lv_has ls 3 [(0, .ref h), (1, .int (nI r)), (2, .int (nI c_))] := hl
  clear hsz
  refine lv_aload_n hx hb dX9_bandOf_0 rfl (lv_at hl 0 rfl) ?_
  refine lv_iconst (v := nI 0) hx hb dX9_bandOf_1 (by decide) ?_
  refine va_put (D := G.1) (ci := 8) (v := .int (nI 0)) (ty := .int) (C := RX9) (T := TX9) (N := 21) hx hb hts in_X9 tyX9 tyX9_ok nmX9 hown hK hP hD hS 0 rfl rfl 0 (by decide) (hts _ q1667) (fun _ h9 => h9) rfl (by decide +kernel) rfl rfl (Nat.le_of_ble_eq_true rfl) dX9_bandOf_2 (fun H locs hP hD hS => ?_)
  have hP : va_P G.1 vwCl [oM h ad 0 sts hs len at_ num many, aI G (ad 1) 68 st] _ := hP
  have hD : va_D A [oM h ad 0 sts hs len at_ num many, aI G (ad 1) 68 st] := hD
  refine lv_iload_n hx hb dX9_bandOf_5 rfl (lv_at hl 1 rfl) ?_
  refine lv_iload_n hx hb dX9_bandOf_6 rfl (lv_at hl 2 rfl) ?_
  refine fin_i (ws' := (fun (_ : Unit) => [oM h ad 0 sts hs len at_ num many, aI G (ad 1) 68 st])) hA hS hP hD [] rfl [(false, 0), (false, 1)] (fun _ => rfl) (by decide) (run_S (As := [.int (nI r), .int (nI c_)]) (rest := []) (n9 := 2) hx hb hml hown hts hE hAb hl.1 hS hP hD [] rfl (by decide) (t_X9_isCell l G b0 _ (nI r) (nI c_) ) (lw_S q1873 q1874 q129 q1875) ⟨by decide, by decide, by decide +kernel⟩ ⟨Nat.le_of_ble_eq_true rfl, Nat.le_of_ble_eq_true rfl⟩ ⟨by first | exact Nat.le_of_ble_eq_true rfl | (simp only [rm_X9_bandOf_0, rm_X9_isCell]; omega), by first | exact Nat.le_of_ble_eq_true rfl | (simp only [rm_X9_bandOf_0, rm_X9_isCell]; omega)⟩ dX9_bandOf_7 (Nat.le_of_ble_eq_true rfl) rfl rfl) (fun r_1 u_1 H locs h_1 hP hD hS => ?_)
  have hP : va_P G.1 vwCl [oM h ad 0 sts hs len at_ num many, aI G (ad 1) 68 st] _ := hP
  have hD : va_D A [oM h ad 0 sts hs len at_ num many, aI G (ad 1) 68 st] := hD
  have h_1 : r_1 = (bI (isCe (nI r) (nI c_))) := h_1
  rw [h_1]
  refine B_if_eq (tgt := 32) hx hb dX9_bandOf_10 (by decide) (fun c_10 => ?_) (fun c_10 => ?_)
  · skip
    exfalso; exact absurd ((isCe_n hr_ hc_).symm.trans c_10) (by decide)
  · skip
    refine lv_bipush (v := nI 8) hx hb dX9_bandOf_13 (by decide) ?_
    refine lv_iload_n hx hb dX9_bandOf_15 rfl (lv_at hl 1 rfl) ?_
    refine N_imul hx hb dX9_bandOf_16 ?_
    refine lv_iload_n hx hb dX9_bandOf_17 rfl (lv_at hl 2 rfl) ?_
    refine N_iadd hx hb dX9_bandOf_18 ?_
    refine lv_aload_n hx hb dX9_bandOf_19 rfl (lv_at hl 0 rfl) ?_
    refine va_get (D := G.1) (ci := 8) (v := .ref (ad 1)) (C := RX9) (T := TX9) (N := 21) hx hb hts in_X9 hown hK hP 0 rfl rfl 1 (by decide) (hts _ q1668) (fun _ h9 => h9) rfl dX9_bandOf_20 ?_
    refine lv_bipush (v := nI 64) hx hb dX9_bandOf_23 (by decide) ?_
    refine N_iald hx hb dX9_bandOf_25 hK hP 1 0 rfl rfl (by omega) (by omega) ?_
    refine top_i (y := nI L) (hst) ?_
    refine fin_i (ws' := (fun (_ : Unit) => [oM h ad 0 sts hs len at_ num many, aI G (ad 1) 68 st])) hA hS hP hD [] rfl [(false, 0), (false, 1)] (fun _ => rfl) (by decide) (run_S (As := [.int (nI ((8 * r) + c_)), .int (nI L)]) (rest := []) (n9 := 2) hx hb hml hown hts hE hAb hl.1 hS hP hD [] rfl (by decide) (t_X9_band l G b0 _ ((8 * r) + c_) L (by omega) (by omega) (by omega)) (lw_S q1793 q1794 q129 q1795) ⟨by decide, by decide, by decide +kernel⟩ ⟨Nat.le_of_ble_eq_true rfl, Nat.le_of_ble_eq_true rfl⟩ ⟨by first | exact Nat.le_of_ble_eq_true rfl | (simp only [rm_X9_bandOf_0, rm_X9_band]; omega), by first | exact Nat.le_of_ble_eq_true rfl | (simp only [rm_X9_bandOf_0, rm_X9_band]; omega)⟩ dX9_bandOf_26 (Nat.le_of_ble_eq_true rfl) rfl rfl) (fun r_2 u_2 H locs h_2 hP hD hS => ?_)
    have hP : va_P G.1 vwCl [oM h ad 0 sts hs len at_ num many, aI G (ad 1) 68 st] _ := hP
    have hD : va_D A [oM h ad 0 sts hs len at_ num many, aI G (ad 1) 68 st] := hD
    have h_2 : r_2 = (nI (bndM ((8 * r) + c_) L)) := h_2
    rw [h_2]
    refine lv_goto (tgt := 37) hx hb dX9_bandOf_29 (by decide) ?_
    rw [hQQ]
    exact rt_i hx hb hr hlk  (()) dX9_bandOf_37 hP hD hS (by first | exact Nat.le_of_ble_eq_true rfl | (simp only [rm_X9_bandOf_0]; omega)) (by first | exact Nat.le_of_ble_eq_true rfl | (simp only [rm_X9_bandOf_0]; omega)) (by rfl)
def rm_X9_bandOf_1 : Room := ({ frames := 6, cells := 0, slots := 0, locals := 150 } : Room)
set_option maxHeartbeats 400000 in
set_option maxRecDepth 100000 in
theorem t_X9_bandOf_1 (l : Launch) (G : GG) (b0 sz : Nat) (h : Nat) (ad : Nat → Nat) (thr sts : Nat) (hs : Bool) (len at_ num many : Nat) (st : Nat → Int32) (r c_ : Int32) (L : Nat) (hce : isCe r c_ = false) (hL1 : 1 ≤ L) (hL : L ≤ 3) (hst : st 64 = nI L) : CT l yX9_bandOf cX9_bandOf 3 (some FieldType.int) (rm_X9_bandOf_1) G b0 [.ref h, .int r, .int c_] [oM h ad thr sts hs len at_ num many, aI G (ad 1) 68 st] sz (Ri G (fun (r_ : Int32) (_ : Unit) => r_ = nI 0) (fun (_ : Unit) => [oM h ad 1 sts hs len at_ num many, aI G (ad 1) 68 st])) := by
  refine CT.go (by decide) (Nat.le_of_ble_eq_true rfl) (fun p e s m below meth c A ls AR QQ hx hb hr hlk hml hown hnm hts hE hA hAb hsz hP hD hS hl hQQ => ?_)
  have hK := hE.1
  have hown : s.vm.findClass RX9 = some m.cls := hown
  have hl : lv_has ls 3 [(0, .ref h), (1, .int r), (2, .int c_)] := hl
  clear hsz
  refine lv_aload_n hx hb dX9_bandOf_0 rfl (lv_at hl 0 rfl) ?_
  refine lv_iconst (v := nI 0) hx hb dX9_bandOf_1 (by decide) ?_
  refine va_put (D := G.1) (ci := 8) (v := .int (nI 0)) (ty := .int) (C := RX9) (T := TX9) (N := 21) hx hb hts in_X9 tyX9 tyX9_ok nmX9 hown hK hP hD hS 0 rfl rfl 0 (by decide) (hts _ q1667) (fun _ h9 => h9) rfl (by decide +kernel) rfl rfl (Nat.le_of_ble_eq_true rfl) dX9_bandOf_2 (fun H locs hP hD hS => ?_)
  have hP : va_P G.1 vwCl [oM h ad 0 sts hs len at_ num many, aI G (ad 1) 68 st] _ := hP
  have hD : va_D A [oM h ad 0 sts hs len at_ num many, aI G (ad 1) 68 st] := hD
  refine lv_iload_n hx hb dX9_bandOf_5 rfl (lv_at hl 1 rfl) ?_
  refine lv_iload_n hx hb dX9_bandOf_6 rfl (lv_at hl 2 rfl) ?_
  refine fin_i (ws' := (fun (_ : Unit) => [oM h ad 0 sts hs len at_ num many, aI G (ad 1) 68 st])) hA hS hP hD [] rfl [(false, 0), (false, 1)] (fun _ => rfl) (by decide) (run_S (As := [.int r, .int c_]) (rest := []) (n9 := 2) hx hb hml hown hts hE hAb hl.1 hS hP hD [] rfl (by decide) (t_X9_isCell l G b0 _ r c_ ) (lw_S q1873 q1874 q129 q1875) ⟨by decide, by decide, by decide +kernel⟩ ⟨Nat.le_of_ble_eq_true rfl, Nat.le_of_ble_eq_true rfl⟩ ⟨by first | exact Nat.le_of_ble_eq_true rfl | (simp only [rm_X9_bandOf_1, rm_X9_isCell]; omega), by first | exact Nat.le_of_ble_eq_true rfl | (simp only [rm_X9_bandOf_1, rm_X9_isCell]; omega)⟩ dX9_bandOf_7 (Nat.le_of_ble_eq_true rfl) rfl rfl) (fun r_1 u_1 H locs h_1 hP hD hS => ?_)
  have hP : va_P G.1 vwCl [oM h ad 0 sts hs len at_ num many, aI G (ad 1) 68 st] _ := hP
  have hD : va_D A [oM h ad 0 sts hs len at_ num many, aI G (ad 1) 68 st] := hD
  have h_1 : r_1 = (bI (isCe r c_)) := h_1
  rw [h_1]
  refine B_if_eq (tgt := 32) hx hb dX9_bandOf_10 (by decide) (fun c_10 => ?_) (fun c_10 => ?_)
  · skip
    refine lv_aload_n hx hb dX9_bandOf_32 rfl (lv_at hl 0 rfl) ?_
    refine lv_iconst (v := nI 1) hx hb dX9_bandOf_33 (by decide) ?_
    refine fin_i (ws' := (fun (_ : Unit) => [oM h ad 1 sts hs len at_ num many, aI G (ad 1) 68 st])) hA hS hP hD [0] rfl [(true, 0), (false, 1)] (fun _ => rfl) (by decide) (run_V (As := [.int (nI 1)]) (rest := []) (n9 := 1) hx hb hml hown hts hE hAb hl.1 hS hP hD [0] rfl (by decide) (t_X9_fails l G b0 _ h ad 0 sts hs len at_ num many 1 ) (lw_V q1739 q1741 qs60 q129 q1742) 0 rfl rfl ⟨rfl, by decide, by decide, by decide +kernel⟩ ⟨Nat.le_of_ble_eq_true rfl, Nat.le_of_ble_eq_true rfl⟩ ⟨by first | exact Nat.le_of_ble_eq_true rfl | (simp only [rm_X9_bandOf_1, rm_X9_fails]; omega), by first | exact Nat.le_of_ble_eq_true rfl | (simp only [rm_X9_bandOf_1, rm_X9_fails]; omega)⟩ dX9_bandOf_34 (Nat.le_of_ble_eq_true rfl) rfl rfl) (fun r_2 u_2 H locs h_2 hP hD hS => ?_)
    have hP : va_P G.1 vwCl [oM h ad 1 sts hs len at_ num many, aI G (ad 1) 68 st] _ := hP
    have hD : va_D A [oM h ad 1 sts hs len at_ num many, aI G (ad 1) 68 st] := hD
    have h_2 : r_2 = (nI 0) := h_2
    rw [h_2]
    rw [hQQ]
    exact rt_i hx hb hr hlk  (()) dX9_bandOf_37 hP hD hS (by first | exact Nat.le_of_ble_eq_true rfl | (simp only [rm_X9_bandOf_1]; omega)) (by first | exact Nat.le_of_ble_eq_true rfl | (simp only [rm_X9_bandOf_1]; omega)) (by rfl)
  · skip
    exfalso; exact absurd (hce.symm.trans c_10) (by decide)
def rm_X9_placeOf_0 : Room := ({ frames := 6, cells := 0, slots := 0, locals := 150 } : Room)
set_option maxHeartbeats 400000 in
set_option maxRecDepth 100000 in
theorem t_X9_placeOf_0 (l : Launch) (G : GG) (b0 sz : Nat) (h : Nat) (ad : Nat → Nat) (thr sts : Nat) (hs : Bool) (len at_ num many : Nat) (st : Nat → Int32) (r c_ : Nat) (L : Nat) (hr_ : r < 8) (hc_ : c_ < 8) (hL1 : 1 ≤ L) (hL : L ≤ 3) (hst : st 64 = nI L) : CT l yX9_placeOf cX9_placeOf 3 (some FieldType.int) (rm_X9_placeOf_0) G b0 [.ref h, .int (nI r), .int (nI c_)] [oM h ad thr sts hs len at_ num many, aI G (ad 1) 68 st] sz (Ri G (fun (r_ : Int32) (_ : Unit) => r_ = nI (plT L (8 * r + c_))) (fun (_ : Unit) => [oM h ad 0 sts hs len at_ num many, aI G (ad 1) 68 st])) := by
  refine CT.go (by decide) (Nat.le_of_ble_eq_true rfl) (fun p e s m below meth c A ls AR QQ hx hb hr hlk hml hown hnm hts hE hA hAb hsz hP hD hS hl hQQ => ?_)
  have hK := hE.1
  have hown : s.vm.findClass RX9 = some m.cls := hown
  have hl : lv_has ls 3 [(0, .ref h), (1, .int (nI r)), (2, .int (nI c_))] := hl
  clear hsz
  refine lv_aload_n hx hb dX9_placeOf_0 rfl (lv_at hl 0 rfl) ?_
  refine lv_iconst (v := nI 0) hx hb dX9_placeOf_1 (by decide) ?_
  refine va_put (D := G.1) (ci := 8) (v := .int (nI 0)) (ty := .int) (C := RX9) (T := TX9) (N := 21) hx hb hts in_X9 tyX9 tyX9_ok nmX9 hown hK hP hD hS 0 rfl rfl 0 (by decide) (hts _ q1667) (fun _ h9 => h9) rfl (by decide +kernel) rfl rfl (Nat.le_of_ble_eq_true rfl) dX9_placeOf_2 (fun H locs hP hD hS => ?_)
  have hP : va_P G.1 vwCl [oM h ad 0 sts hs len at_ num many, aI G (ad 1) 68 st] _ := hP
  have hD : va_D A [oM h ad 0 sts hs len at_ num many, aI G (ad 1) 68 st] := hD
  refine lv_iload_n hx hb dX9_placeOf_5 rfl (lv_at hl 1 rfl) ?_
  refine lv_iload_n hx hb dX9_placeOf_6 rfl (lv_at hl 2 rfl) ?_
  refine fin_i (ws' := (fun (_ : Unit) => [oM h ad 0 sts hs len at_ num many, aI G (ad 1) 68 st])) hA hS hP hD [] rfl [(false, 0), (false, 1)] (fun _ => rfl) (by decide) (run_S (As := [.int (nI r), .int (nI c_)]) (rest := []) (n9 := 2) hx hb hml hown hts hE hAb hl.1 hS hP hD [] rfl (by decide) (t_X9_isCell l G b0 _ (nI r) (nI c_) ) (lw_S q1873 q1874 q129 q1875) ⟨by decide, by decide, by decide +kernel⟩ ⟨Nat.le_of_ble_eq_true rfl, Nat.le_of_ble_eq_true rfl⟩ ⟨by first | exact Nat.le_of_ble_eq_true rfl | (simp only [rm_X9_placeOf_0, rm_X9_isCell]; omega), by first | exact Nat.le_of_ble_eq_true rfl | (simp only [rm_X9_placeOf_0, rm_X9_isCell]; omega)⟩ dX9_placeOf_7 (Nat.le_of_ble_eq_true rfl) rfl rfl) (fun r_1 u_1 H locs h_1 hP hD hS => ?_)
  have hP : va_P G.1 vwCl [oM h ad 0 sts hs len at_ num many, aI G (ad 1) 68 st] _ := hP
  have hD : va_D A [oM h ad 0 sts hs len at_ num many, aI G (ad 1) 68 st] := hD
  have h_1 : r_1 = (bI (isCe (nI r) (nI c_))) := h_1
  rw [h_1]
  refine B_if_eq (tgt := 32) hx hb dX9_placeOf_10 (by decide) (fun c_10 => ?_) (fun c_10 => ?_)
  · skip
    exfalso; exact absurd ((isCe_n hr_ hc_).symm.trans c_10) (by decide)
  · skip
    refine lv_bipush (v := nI 8) hx hb dX9_placeOf_13 (by decide) ?_
    refine lv_iload_n hx hb dX9_placeOf_15 rfl (lv_at hl 1 rfl) ?_
    refine N_imul hx hb dX9_placeOf_16 ?_
    refine lv_iload_n hx hb dX9_placeOf_17 rfl (lv_at hl 2 rfl) ?_
    refine N_iadd hx hb dX9_placeOf_18 ?_
    refine lv_aload_n hx hb dX9_placeOf_19 rfl (lv_at hl 0 rfl) ?_
    refine va_get (D := G.1) (ci := 8) (v := .ref (ad 1)) (C := RX9) (T := TX9) (N := 21) hx hb hts in_X9 hown hK hP 0 rfl rfl 1 (by decide) (hts _ q1668) (fun _ h9 => h9) rfl dX9_placeOf_20 ?_
    refine lv_bipush (v := nI 64) hx hb dX9_placeOf_23 (by decide) ?_
    refine N_iald hx hb dX9_placeOf_25 hK hP 1 0 rfl rfl (by omega) (by omega) ?_
    refine top_i (y := nI L) (hst) ?_
    refine fin_i (ws' := (fun (_ : Unit) => [oM h ad 0 sts hs len at_ num many, aI G (ad 1) 68 st])) hA hS hP hD [] rfl [(false, 0), (false, 1)] (fun _ => rfl) (by decide) (run_S (As := [.int (nI ((8 * r) + c_)), .int (nI L)]) (rest := []) (n9 := 2) hx hb hml hown hts hE hAb hl.1 hS hP hD [] rfl (by decide) (t_X9_place l G b0 _ ((8 * r) + c_) L (by omega) (by omega) (by omega)) (lw_S q2026 q2027 q129 q2028) ⟨by decide, by decide, by decide +kernel⟩ ⟨Nat.le_of_ble_eq_true rfl, Nat.le_of_ble_eq_true rfl⟩ ⟨by first | exact Nat.le_of_ble_eq_true rfl | (simp only [rm_X9_placeOf_0, rm_X9_place]; omega), by first | exact Nat.le_of_ble_eq_true rfl | (simp only [rm_X9_placeOf_0, rm_X9_place]; omega)⟩ dX9_placeOf_26 (Nat.le_of_ble_eq_true rfl) rfl rfl) (fun r_2 u_2 H locs h_2 hP hD hS => ?_)
    have hP : va_P G.1 vwCl [oM h ad 0 sts hs len at_ num many, aI G (ad 1) 68 st] _ := hP
    have hD : va_D A [oM h ad 0 sts hs len at_ num many, aI G (ad 1) 68 st] := hD
    have h_2 : r_2 = (nI (plT L ((8 * r) + c_))) := h_2
    rw [h_2]
    refine lv_goto (tgt := 37) hx hb dX9_placeOf_29 (by decide) ?_
    rw [hQQ]
    exact rt_i hx hb hr hlk  (()) dX9_placeOf_37 hP hD hS (by first | exact Nat.le_of_ble_eq_true rfl | (simp only [rm_X9_placeOf_0]; omega)) (by first | exact Nat.le_of_ble_eq_true rfl | (simp only [rm_X9_placeOf_0]; omega)) (by rfl)
def rm_X9_placeOf_1 : Room := ({ frames := 6, cells := 0, slots := 0, locals := 150 } : Room)
set_option maxHeartbeats 400000 in
set_option maxRecDepth 100000 in
theorem t_X9_placeOf_1 (l : Launch) (G : GG) (b0 sz : Nat) (h : Nat) (ad : Nat → Nat) (thr sts : Nat) (hs : Bool) (len at_ num many : Nat) (st : Nat → Int32) (r c_ : Int32) (L : Nat) (hce : isCe r c_ = false) (hL1 : 1 ≤ L) (hL : L ≤ 3) (hst : st 64 = nI L) : CT l yX9_placeOf cX9_placeOf 3 (some FieldType.int) (rm_X9_placeOf_1) G b0 [.ref h, .int r, .int c_] [oM h ad thr sts hs len at_ num many, aI G (ad 1) 68 st] sz (Ri G (fun (r_ : Int32) (_ : Unit) => r_ = nI 0) (fun (_ : Unit) => [oM h ad 1 sts hs len at_ num many, aI G (ad 1) 68 st])) := by
  refine CT.go (by decide) (Nat.le_of_ble_eq_true rfl) (fun p e s m below meth c A ls AR QQ hx hb hr hlk hml hown hnm hts hE hA hAb hsz hP hD hS hl hQQ => ?_)
  have hK := hE.1
  have hown : s.vm.findClass RX9 = some m.cls := hown
  have hl : lv_has ls 3 [(0, .ref h), (1, .int r), (2, .int c_)] := hl
  clear hsz
  refine lv_aload_n hx hb dX9_placeOf_0 rfl (lv_at hl 0 rfl) ?_
  refine lv_iconst (v := nI 0) hx hb dX9_placeOf_1 (by decide) ?_
  refine va_put (D := G.1) (ci := 8) (v := .int (nI 0)) (ty := .int) (C := RX9) (T := TX9) (N := 21) hx hb hts in_X9 tyX9 tyX9_ok nmX9 hown hK hP hD hS 0 rfl rfl 0 (by decide) (hts _ q1667) (fun _ h9 => h9) rfl (by decide +kernel) rfl rfl (Nat.le_of_ble_eq_true rfl) dX9_placeOf_2 (fun H locs hP hD hS => ?_)
  have hP : va_P G.1 vwCl [oM h ad 0 sts hs len at_ num many, aI G (ad 1) 68 st] _ := hP
  have hD : va_D A [oM h ad 0 sts hs len at_ num many, aI G (ad 1) 68 st] := hD
  refine lv_iload_n hx hb dX9_placeOf_5 rfl (lv_at hl 1 rfl) ?_
  refine lv_iload_n hx hb dX9_placeOf_6 rfl (lv_at hl 2 rfl) ?_
  refine fin_i (ws' := (fun (_ : Unit) => [oM h ad 0 sts hs len at_ num many, aI G (ad 1) 68 st])) hA hS hP hD [] rfl [(false, 0), (false, 1)] (fun _ => rfl) (by decide) (run_S (As := [.int r, .int c_]) (rest := []) (n9 := 2) hx hb hml hown hts hE hAb hl.1 hS hP hD [] rfl (by decide) (t_X9_isCell l G b0 _ r c_ ) (lw_S q1873 q1874 q129 q1875) ⟨by decide, by decide, by decide +kernel⟩ ⟨Nat.le_of_ble_eq_true rfl, Nat.le_of_ble_eq_true rfl⟩ ⟨by first | exact Nat.le_of_ble_eq_true rfl | (simp only [rm_X9_placeOf_1, rm_X9_isCell]; omega), by first | exact Nat.le_of_ble_eq_true rfl | (simp only [rm_X9_placeOf_1, rm_X9_isCell]; omega)⟩ dX9_placeOf_7 (Nat.le_of_ble_eq_true rfl) rfl rfl) (fun r_1 u_1 H locs h_1 hP hD hS => ?_)
  have hP : va_P G.1 vwCl [oM h ad 0 sts hs len at_ num many, aI G (ad 1) 68 st] _ := hP
  have hD : va_D A [oM h ad 0 sts hs len at_ num many, aI G (ad 1) 68 st] := hD
  have h_1 : r_1 = (bI (isCe r c_)) := h_1
  rw [h_1]
  refine B_if_eq (tgt := 32) hx hb dX9_placeOf_10 (by decide) (fun c_10 => ?_) (fun c_10 => ?_)
  · skip
    refine lv_aload_n hx hb dX9_placeOf_32 rfl (lv_at hl 0 rfl) ?_
    refine lv_iconst (v := nI 1) hx hb dX9_placeOf_33 (by decide) ?_
    refine fin_i (ws' := (fun (_ : Unit) => [oM h ad 1 sts hs len at_ num many, aI G (ad 1) 68 st])) hA hS hP hD [0] rfl [(true, 0), (false, 1)] (fun _ => rfl) (by decide) (run_V (As := [.int (nI 1)]) (rest := []) (n9 := 1) hx hb hml hown hts hE hAb hl.1 hS hP hD [0] rfl (by decide) (t_X9_fails l G b0 _ h ad 0 sts hs len at_ num many 1 ) (lw_V q1739 q1741 qs60 q129 q1742) 0 rfl rfl ⟨rfl, by decide, by decide, by decide +kernel⟩ ⟨Nat.le_of_ble_eq_true rfl, Nat.le_of_ble_eq_true rfl⟩ ⟨by first | exact Nat.le_of_ble_eq_true rfl | (simp only [rm_X9_placeOf_1, rm_X9_fails]; omega), by first | exact Nat.le_of_ble_eq_true rfl | (simp only [rm_X9_placeOf_1, rm_X9_fails]; omega)⟩ dX9_placeOf_34 (Nat.le_of_ble_eq_true rfl) rfl rfl) (fun r_2 u_2 H locs h_2 hP hD hS => ?_)
    have hP : va_P G.1 vwCl [oM h ad 1 sts hs len at_ num many, aI G (ad 1) 68 st] _ := hP
    have hD : va_D A [oM h ad 1 sts hs len at_ num many, aI G (ad 1) 68 st] := hD
    have h_2 : r_2 = (nI 0) := h_2
    rw [h_2]
    rw [hQQ]
    exact rt_i hx hb hr hlk  (()) dX9_placeOf_37 hP hD hS (by first | exact Nat.le_of_ble_eq_true rfl | (simp only [rm_X9_placeOf_1]; omega)) (by first | exact Nat.le_of_ble_eq_true rfl | (simp only [rm_X9_placeOf_1]; omega)) (by rfl)
  · skip
    exfalso; exact absurd (hce.symm.trans c_10) (by decide)
def rm_X9_tellBack_0 : Room := ({ frames := 6, cells := 0, slots := 0, locals := 150 } : Room)
set_option maxHeartbeats 400000 in
set_option maxRecDepth 100000 in
theorem t_X9_tellBack_0 (l : Launch) (G : GG) (b0 sz : Nat) (h : Nat) (ad : Nat → Nat) (thr sts : Nat) (hs : Bool) (len at_ num many : Nat) (st pa bk li : Nat → Int32) (r c_ : Nat) (L : Nat) (hr_ : r < 8) (hc_ : c_ < 8) (hL1 : 1 ≤ L) (hL : L ≤ 3) (hst : st 64 = nI L) : CT l yX9_tellBack cX9_tellBack 3 (some FieldType.int) (rm_X9_tellBack_0) G b0 [.ref h, .int (nI r), .int (nI c_)] [oM h ad thr sts hs len at_ num many, aI G (ad 1) 68 st, aI G (ad 5) 64 pa, aI G (ad 6) 64 bk, aI G (ad 7) 8 li] sz (Ri G (fun (r_ : Int32) (u : (Nat → Int32) × (Nat → Int32) × (Nat → Int32)) => r_ = joinP L (splitP st L) (8 * r + c_)) (fun (u : (Nat → Int32) × (Nat → Int32) × (Nat → Int32)) => [oM h ad 0 sts hs len at_ num many, aI G (ad 1) 68 st, aI G (ad 5) 64 u.1, aI G (ad 6) 64 u.2.1, aI G (ad 7) 8 u.2.2])) := by
  refine CT.go (by decide) (Nat.le_of_ble_eq_true rfl) (fun p e s m below meth c A ls AR QQ hx hb hr hlk hml hown hnm hts hE hA hAb hsz hP hD hS hl hQQ => ?_)
  have hK := hE.1
  have hown : s.vm.findClass RX9 = some m.cls := hown
  have hl : lv_has ls 3 [(0, .ref h), (1, .int (nI r)), (2, .int (nI c_))] := hl
  clear hsz
  refine lv_aload_n hx hb dX9_tellBack_0 rfl (lv_at hl 0 rfl) ?_
  refine lv_iconst (v := nI 0) hx hb dX9_tellBack_1 (by decide) ?_
  refine va_put (D := G.1) (ci := 8) (v := .int (nI 0)) (ty := .int) (C := RX9) (T := TX9) (N := 21) hx hb hts in_X9 tyX9 tyX9_ok nmX9 hown hK hP hD hS 0 rfl rfl 0 (by decide) (hts _ q1667) (fun _ h9 => h9) rfl (by decide +kernel) rfl rfl (Nat.le_of_ble_eq_true rfl) dX9_tellBack_2 (fun H locs hP hD hS => ?_)
  have hP : va_P G.1 vwCl [oM h ad 0 sts hs len at_ num many, aI G (ad 1) 68 st, aI G (ad 5) 64 pa, aI G (ad 6) 64 bk, aI G (ad 7) 8 li] _ := hP
  have hD : va_D A [oM h ad 0 sts hs len at_ num many, aI G (ad 1) 68 st, aI G (ad 5) 64 pa, aI G (ad 6) 64 bk, aI G (ad 7) 8 li] := hD
  refine lv_aload_n hx hb dX9_tellBack_5 rfl (lv_at hl 0 rfl) ?_
  refine fin_v (ws' := (fun (u_1 : Nat → Int32) => [oM h ad 0 sts hs len at_ num many, aI G (ad 1) 68 st, aI G (ad 5) 64 (splitP st L), aI G (ad 6) 64 bk, aI G (ad 7) 8 u_1])) hA hS hP hD [0, 1, 2, 4] rfl [(true, 0), (true, 1), (true, 2), (false, 3), (true, 3)] (fun _ => rfl) (by decide) (run_V (As := []) (rest := []) (n9 := 0) hx hb hml hown hts hE hAb hl.1 hS hP hD [0, 1, 2, 4] rfl (by decide) (t_X9_split l G b0 _ h ad 0 sts hs len at_ num many st pa li L (by omega) (by omega) (by omega)) (lw_V q1777 q1779 qs64 q129 q1780) 0 rfl rfl ⟨rfl, by decide, by decide, by decide +kernel⟩ ⟨Nat.le_of_ble_eq_true rfl, Nat.le_of_ble_eq_true rfl⟩ ⟨by first | exact Nat.le_of_ble_eq_true rfl | (simp only [rm_X9_tellBack_0, rm_X9_split]; omega), by first | exact Nat.le_of_ble_eq_true rfl | (simp only [rm_X9_tellBack_0, rm_X9_split]; omega)⟩ dX9_tellBack_6 (Nat.le_of_ble_eq_true rfl) rfl rfl) (fun u_1 H locs h_1 hP hD hS => ?_)
  have hP : va_P G.1 vwCl [oM h ad 0 sts hs len at_ num many, aI G (ad 1) 68 st, aI G (ad 5) 64 (splitP st L), aI G (ad 6) 64 bk, aI G (ad 7) 8 u_1] _ := hP
  have hD : va_D A [oM h ad 0 sts hs len at_ num many, aI G (ad 1) 68 st, aI G (ad 5) 64 (splitP st L), aI G (ad 6) 64 bk, aI G (ad 7) 8 u_1] := hD
  refine lv_aload_n hx hb dX9_tellBack_9 rfl (lv_at hl 0 rfl) ?_
  refine fin_v (ws' := (fun (u_2 : Nat → Int32) => [oM h ad 0 sts hs len at_ num many, aI G (ad 1) 68 st, aI G (ad 5) 64 (splitP st L), aI G (ad 6) 64 (joinP L (splitP st L)), aI G (ad 7) 8 u_2])) hA hS hP hD [0, 1, 2, 3, 4] rfl [(true, 0), (true, 1), (true, 2), (true, 3), (true, 4)] (fun _ => rfl) (by decide) (run_V (As := []) (rest := []) (n9 := 0) hx hb hml hown hts hE hAb hl.1 hS hP hD [0, 1, 2, 3, 4] rfl (by decide) (t_X9_joinBack l G b0 _ h ad 0 sts hs len at_ num many st (splitP st L) bk u_1 L (by omega) (by omega) (by omega)) (lw_V q1814 q1816 qs70 q129 q1817) 0 rfl rfl ⟨rfl, by decide, by decide, by decide +kernel⟩ ⟨Nat.le_of_ble_eq_true rfl, Nat.le_of_ble_eq_true rfl⟩ ⟨by first | exact Nat.le_of_ble_eq_true rfl | (simp only [rm_X9_tellBack_0, rm_X9_joinBack]; omega), by first | exact Nat.le_of_ble_eq_true rfl | (simp only [rm_X9_tellBack_0, rm_X9_joinBack]; omega)⟩ dX9_tellBack_10 (Nat.le_of_ble_eq_true rfl) rfl rfl) (fun u_2 H locs h_2 hP hD hS => ?_)
  have hP : va_P G.1 vwCl [oM h ad 0 sts hs len at_ num many, aI G (ad 1) 68 st, aI G (ad 5) 64 (splitP st L), aI G (ad 6) 64 (joinP L (splitP st L)), aI G (ad 7) 8 u_2] _ := hP
  have hD : va_D A [oM h ad 0 sts hs len at_ num many, aI G (ad 1) 68 st, aI G (ad 5) 64 (splitP st L), aI G (ad 6) 64 (joinP L (splitP st L)), aI G (ad 7) 8 u_2] := hD
  refine lv_iload_n hx hb dX9_tellBack_13 rfl (lv_at hl 1 rfl) ?_
  refine lv_iload_n hx hb dX9_tellBack_14 rfl (lv_at hl 2 rfl) ?_
  refine fin_i (ws' := (fun (_ : Unit) => [oM h ad 0 sts hs len at_ num many, aI G (ad 1) 68 st, aI G (ad 5) 64 (splitP st L), aI G (ad 6) 64 (joinP L (splitP st L)), aI G (ad 7) 8 u_2])) hA hS hP hD [] rfl [(false, 0), (false, 1), (false, 2), (false, 3), (false, 4)] (fun _ => rfl) (by decide) (run_S (As := [.int (nI r), .int (nI c_)]) (rest := []) (n9 := 2) hx hb hml hown hts hE hAb hl.1 hS hP hD [] rfl (by decide) (t_X9_isCell l G b0 _ (nI r) (nI c_) ) (lw_S q1873 q1874 q129 q1875) ⟨by decide, by decide, by decide +kernel⟩ ⟨Nat.le_of_ble_eq_true rfl, Nat.le_of_ble_eq_true rfl⟩ ⟨by first | exact Nat.le_of_ble_eq_true rfl | (simp only [rm_X9_tellBack_0, rm_X9_isCell]; omega), by first | exact Nat.le_of_ble_eq_true rfl | (simp only [rm_X9_tellBack_0, rm_X9_isCell]; omega)⟩ dX9_tellBack_15 (Nat.le_of_ble_eq_true rfl) rfl rfl) (fun r_3 u_3 H locs h_3 hP hD hS => ?_)
  have hP : va_P G.1 vwCl [oM h ad 0 sts hs len at_ num many, aI G (ad 1) 68 st, aI G (ad 5) 64 (splitP st L), aI G (ad 6) 64 (joinP L (splitP st L)), aI G (ad 7) 8 u_2] _ := hP
  have hD : va_D A [oM h ad 0 sts hs len at_ num many, aI G (ad 1) 68 st, aI G (ad 5) 64 (splitP st L), aI G (ad 6) 64 (joinP L (splitP st L)), aI G (ad 7) 8 u_2] := hD
  have h_3 : r_3 = (bI (isCe (nI r) (nI c_))) := h_3
  rw [h_3]
  refine B_if_eq (tgt := 35) hx hb dX9_tellBack_18 (by decide) (fun c_18 => ?_) (fun c_18 => ?_)
  · skip
    exfalso; exact absurd ((isCe_n hr_ hc_).symm.trans c_18) (by decide)
  · skip
    refine lv_aload_n hx hb dX9_tellBack_21 rfl (lv_at hl 0 rfl) ?_
    refine va_get (D := G.1) (ci := 8) (v := .ref (ad 6)) (C := RX9) (T := TX9) (N := 21) hx hb hts in_X9 hown hK hP 0 rfl rfl 9 (by decide) (hts _ q1676) (fun _ h9 => h9) rfl dX9_tellBack_22 ?_
    refine lv_bipush (v := nI 8) hx hb dX9_tellBack_25 (by decide) ?_
    refine lv_iload_n hx hb dX9_tellBack_27 rfl (lv_at hl 1 rfl) ?_
    refine N_imul hx hb dX9_tellBack_28 ?_
    refine lv_iload_n hx hb dX9_tellBack_29 rfl (lv_at hl 2 rfl) ?_
    refine N_iadd hx hb dX9_tellBack_30 ?_
    refine N_iald hx hb dX9_tellBack_31 hK hP 3 0 rfl rfl (by omega) (by omega) ?_
    refine lv_goto (tgt := 40) hx hb dX9_tellBack_32 (by decide) ?_
    have hP : va_P G.1 vwCl [oM h ad 0 sts hs len at_ num many, aI G (ad 1) 68 st, aI G (ad 5) 64 (((splitP st L, joinP L (splitP st L), u_2)).1), aI G (ad 6) 64 (((splitP st L, joinP L (splitP st L), u_2)).2.1), aI G (ad 7) 8 (((splitP st L, joinP L (splitP st L), u_2)).2.2)] _ := hP
    have hD : va_D A [oM h ad 0 sts hs len at_ num many, aI G (ad 1) 68 st, aI G (ad 5) 64 (((splitP st L, joinP L (splitP st L), u_2)).1), aI G (ad 6) 64 (((splitP st L, joinP L (splitP st L), u_2)).2.1), aI G (ad 7) 8 (((splitP st L, joinP L (splitP st L), u_2)).2.2)] := hD
    rw [hQQ]
    exact rt_i hx hb hr hlk  ((splitP st L, joinP L (splitP st L), u_2)) dX9_tellBack_40 hP hD hS (by first | exact Nat.le_of_ble_eq_true rfl | (simp only [rm_X9_tellBack_0]; omega)) (by first | exact Nat.le_of_ble_eq_true rfl | (simp only [rm_X9_tellBack_0]; omega)) (by rfl)
def rm_X9_tellBack_1 : Room := ({ frames := 6, cells := 0, slots := 0, locals := 150 } : Room)
set_option maxHeartbeats 400000 in
set_option maxRecDepth 100000 in
theorem t_X9_tellBack_1 (l : Launch) (G : GG) (b0 sz : Nat) (h : Nat) (ad : Nat → Nat) (thr sts : Nat) (hs : Bool) (len at_ num many : Nat) (st pa bk li : Nat → Int32) (r c_ : Int32) (L : Nat) (hce : isCe r c_ = false) (hL1 : 1 ≤ L) (hL : L ≤ 3) (hst : st 64 = nI L) : CT l yX9_tellBack cX9_tellBack 3 (some FieldType.int) (rm_X9_tellBack_1) G b0 [.ref h, .int r, .int c_] [oM h ad thr sts hs len at_ num many, aI G (ad 1) 68 st, aI G (ad 5) 64 pa, aI G (ad 6) 64 bk, aI G (ad 7) 8 li] sz (Ri G (fun (r_ : Int32) (u : (Nat → Int32) × (Nat → Int32) × (Nat → Int32)) => r_ = nI 0) (fun (u : (Nat → Int32) × (Nat → Int32) × (Nat → Int32)) => [oM h ad 1 sts hs len at_ num many, aI G (ad 1) 68 st, aI G (ad 5) 64 u.1, aI G (ad 6) 64 u.2.1, aI G (ad 7) 8 u.2.2])) := by
  refine CT.go (by decide) (Nat.le_of_ble_eq_true rfl) (fun p e s m below meth c A ls AR QQ hx hb hr hlk hml hown hnm hts hE hA hAb hsz hP hD hS hl hQQ => ?_)
  have hK := hE.1
  have hown : s.vm.findClass RX9 = some m.cls := hown
  have hl : lv_has ls 3 [(0, .ref h), (1, .int r), (2, .int c_)] := hl
  clear hsz
  refine lv_aload_n hx hb dX9_tellBack_0 rfl (lv_at hl 0 rfl) ?_
  refine lv_iconst (v := nI 0) hx hb dX9_tellBack_1 (by decide) ?_
  refine va_put (D := G.1) (ci := 8) (v := .int (nI 0)) (ty := .int) (C := RX9) (T := TX9) (N := 21) hx hb hts in_X9 tyX9 tyX9_ok nmX9 hown hK hP hD hS 0 rfl rfl 0 (by decide) (hts _ q1667) (fun _ h9 => h9) rfl (by decide +kernel) rfl rfl (Nat.le_of_ble_eq_true rfl) dX9_tellBack_2 (fun H locs hP hD hS => ?_)
  have hP : va_P G.1 vwCl [oM h ad 0 sts hs len at_ num many, aI G (ad 1) 68 st, aI G (ad 5) 64 pa, aI G (ad 6) 64 bk, aI G (ad 7) 8 li] _ := hP
  have hD : va_D A [oM h ad 0 sts hs len at_ num many, aI G (ad 1) 68 st, aI G (ad 5) 64 pa, aI G (ad 6) 64 bk, aI G (ad 7) 8 li] := hD
  refine lv_aload_n hx hb dX9_tellBack_5 rfl (lv_at hl 0 rfl) ?_
  refine fin_v (ws' := (fun (u_1 : Nat → Int32) => [oM h ad 0 sts hs len at_ num many, aI G (ad 1) 68 st, aI G (ad 5) 64 (splitP st L), aI G (ad 6) 64 bk, aI G (ad 7) 8 u_1])) hA hS hP hD [0, 1, 2, 4] rfl [(true, 0), (true, 1), (true, 2), (false, 3), (true, 3)] (fun _ => rfl) (by decide) (run_V (As := []) (rest := []) (n9 := 0) hx hb hml hown hts hE hAb hl.1 hS hP hD [0, 1, 2, 4] rfl (by decide) (t_X9_split l G b0 _ h ad 0 sts hs len at_ num many st pa li L (by omega) (by omega) (by omega)) (lw_V q1777 q1779 qs64 q129 q1780) 0 rfl rfl ⟨rfl, by decide, by decide, by decide +kernel⟩ ⟨Nat.le_of_ble_eq_true rfl, Nat.le_of_ble_eq_true rfl⟩ ⟨by first | exact Nat.le_of_ble_eq_true rfl | (simp only [rm_X9_tellBack_1, rm_X9_split]; omega), by first | exact Nat.le_of_ble_eq_true rfl | (simp only [rm_X9_tellBack_1, rm_X9_split]; omega)⟩ dX9_tellBack_6 (Nat.le_of_ble_eq_true rfl) rfl rfl) (fun u_1 H locs h_1 hP hD hS => ?_)
  have hP : va_P G.1 vwCl [oM h ad 0 sts hs len at_ num many, aI G (ad 1) 68 st, aI G (ad 5) 64 (splitP st L), aI G (ad 6) 64 bk, aI G (ad 7) 8 u_1] _ := hP
  have hD : va_D A [oM h ad 0 sts hs len at_ num many, aI G (ad 1) 68 st, aI G (ad 5) 64 (splitP st L), aI G (ad 6) 64 bk, aI G (ad 7) 8 u_1] := hD
  refine lv_aload_n hx hb dX9_tellBack_9 rfl (lv_at hl 0 rfl) ?_
  refine fin_v (ws' := (fun (u_2 : Nat → Int32) => [oM h ad 0 sts hs len at_ num many, aI G (ad 1) 68 st, aI G (ad 5) 64 (splitP st L), aI G (ad 6) 64 (joinP L (splitP st L)), aI G (ad 7) 8 u_2])) hA hS hP hD [0, 1, 2, 3, 4] rfl [(true, 0), (true, 1), (true, 2), (true, 3), (true, 4)] (fun _ => rfl) (by decide) (run_V (As := []) (rest := []) (n9 := 0) hx hb hml hown hts hE hAb hl.1 hS hP hD [0, 1, 2, 3, 4] rfl (by decide) (t_X9_joinBack l G b0 _ h ad 0 sts hs len at_ num many st (splitP st L) bk u_1 L (by omega) (by omega) (by omega)) (lw_V q1814 q1816 qs70 q129 q1817) 0 rfl rfl ⟨rfl, by decide, by decide, by decide +kernel⟩ ⟨Nat.le_of_ble_eq_true rfl, Nat.le_of_ble_eq_true rfl⟩ ⟨by first | exact Nat.le_of_ble_eq_true rfl | (simp only [rm_X9_tellBack_1, rm_X9_joinBack]; omega), by first | exact Nat.le_of_ble_eq_true rfl | (simp only [rm_X9_tellBack_1, rm_X9_joinBack]; omega)⟩ dX9_tellBack_10 (Nat.le_of_ble_eq_true rfl) rfl rfl) (fun u_2 H locs h_2 hP hD hS => ?_)
  have hP : va_P G.1 vwCl [oM h ad 0 sts hs len at_ num many, aI G (ad 1) 68 st, aI G (ad 5) 64 (splitP st L), aI G (ad 6) 64 (joinP L (splitP st L)), aI G (ad 7) 8 u_2] _ := hP
  have hD : va_D A [oM h ad 0 sts hs len at_ num many, aI G (ad 1) 68 st, aI G (ad 5) 64 (splitP st L), aI G (ad 6) 64 (joinP L (splitP st L)), aI G (ad 7) 8 u_2] := hD
  refine lv_iload_n hx hb dX9_tellBack_13 rfl (lv_at hl 1 rfl) ?_
  refine lv_iload_n hx hb dX9_tellBack_14 rfl (lv_at hl 2 rfl) ?_
  refine fin_i (ws' := (fun (_ : Unit) => [oM h ad 0 sts hs len at_ num many, aI G (ad 1) 68 st, aI G (ad 5) 64 (splitP st L), aI G (ad 6) 64 (joinP L (splitP st L)), aI G (ad 7) 8 u_2])) hA hS hP hD [] rfl [(false, 0), (false, 1), (false, 2), (false, 3), (false, 4)] (fun _ => rfl) (by decide) (run_S (As := [.int r, .int c_]) (rest := []) (n9 := 2) hx hb hml hown hts hE hAb hl.1 hS hP hD [] rfl (by decide) (t_X9_isCell l G b0 _ r c_ ) (lw_S q1873 q1874 q129 q1875) ⟨by decide, by decide, by decide +kernel⟩ ⟨Nat.le_of_ble_eq_true rfl, Nat.le_of_ble_eq_true rfl⟩ ⟨by first | exact Nat.le_of_ble_eq_true rfl | (simp only [rm_X9_tellBack_1, rm_X9_isCell]; omega), by first | exact Nat.le_of_ble_eq_true rfl | (simp only [rm_X9_tellBack_1, rm_X9_isCell]; omega)⟩ dX9_tellBack_15 (Nat.le_of_ble_eq_true rfl) rfl rfl) (fun r_3 u_3 H locs h_3 hP hD hS => ?_)
  have hP : va_P G.1 vwCl [oM h ad 0 sts hs len at_ num many, aI G (ad 1) 68 st, aI G (ad 5) 64 (splitP st L), aI G (ad 6) 64 (joinP L (splitP st L)), aI G (ad 7) 8 u_2] _ := hP
  have hD : va_D A [oM h ad 0 sts hs len at_ num many, aI G (ad 1) 68 st, aI G (ad 5) 64 (splitP st L), aI G (ad 6) 64 (joinP L (splitP st L)), aI G (ad 7) 8 u_2] := hD
  have h_3 : r_3 = (bI (isCe r c_)) := h_3
  rw [h_3]
  refine B_if_eq (tgt := 35) hx hb dX9_tellBack_18 (by decide) (fun c_18 => ?_) (fun c_18 => ?_)
  · skip
    refine lv_aload_n hx hb dX9_tellBack_35 rfl (lv_at hl 0 rfl) ?_
    refine lv_iconst (v := nI 1) hx hb dX9_tellBack_36 (by decide) ?_
    refine fin_i (ws' := (fun (_ : Unit) => [oM h ad 1 sts hs len at_ num many, aI G (ad 1) 68 st, aI G (ad 5) 64 (splitP st L), aI G (ad 6) 64 (joinP L (splitP st L)), aI G (ad 7) 8 u_2])) hA hS hP hD [0] rfl [(true, 0), (false, 1), (false, 2), (false, 3), (false, 4)] (fun _ => rfl) (by decide) (run_V (As := [.int (nI 1)]) (rest := []) (n9 := 1) hx hb hml hown hts hE hAb hl.1 hS hP hD [0] rfl (by decide) (t_X9_fails l G b0 _ h ad 0 sts hs len at_ num many 1 ) (lw_V q1739 q1741 qs60 q129 q1742) 0 rfl rfl ⟨rfl, by decide, by decide, by decide +kernel⟩ ⟨Nat.le_of_ble_eq_true rfl, Nat.le_of_ble_eq_true rfl⟩ ⟨by first | exact Nat.le_of_ble_eq_true rfl | (simp only [rm_X9_tellBack_1, rm_X9_fails]; omega), by first | exact Nat.le_of_ble_eq_true rfl | (simp only [rm_X9_tellBack_1, rm_X9_fails]; omega)⟩ dX9_tellBack_37 (Nat.le_of_ble_eq_true rfl) rfl rfl) (fun r_4 u_4 H locs h_4 hP hD hS => ?_)
    have hP : va_P G.1 vwCl [oM h ad 1 sts hs len at_ num many, aI G (ad 1) 68 st, aI G (ad 5) 64 (splitP st L), aI G (ad 6) 64 (joinP L (splitP st L)), aI G (ad 7) 8 u_2] _ := hP
    have hD : va_D A [oM h ad 1 sts hs len at_ num many, aI G (ad 1) 68 st, aI G (ad 5) 64 (splitP st L), aI G (ad 6) 64 (joinP L (splitP st L)), aI G (ad 7) 8 u_2] := hD
    have h_4 : r_4 = (nI 0) := h_4
    rw [h_4]
    have hP : va_P G.1 vwCl [oM h ad 1 sts hs len at_ num many, aI G (ad 1) 68 st, aI G (ad 5) 64 (((splitP st L, joinP L (splitP st L), u_2)).1), aI G (ad 6) 64 (((splitP st L, joinP L (splitP st L), u_2)).2.1), aI G (ad 7) 8 (((splitP st L, joinP L (splitP st L), u_2)).2.2)] _ := hP
    have hD : va_D A [oM h ad 1 sts hs len at_ num many, aI G (ad 1) 68 st, aI G (ad 5) 64 (((splitP st L, joinP L (splitP st L), u_2)).1), aI G (ad 6) 64 (((splitP st L, joinP L (splitP st L), u_2)).2.1), aI G (ad 7) 8 (((splitP st L, joinP L (splitP st L), u_2)).2.2)] := hD
    rw [hQQ]
    exact rt_i hx hb hr hlk  ((splitP st L, joinP L (splitP st L), u_2)) dX9_tellBack_40 hP hD hS (by first | exact Nat.le_of_ble_eq_true rfl | (simp only [rm_X9_tellBack_1]; omega)) (by first | exact Nat.le_of_ble_eq_true rfl | (simp only [rm_X9_tellBack_1]; omega)) (by rfl)
  · skip
    exfalso; exact absurd (hce.symm.trans c_18) (by decide)
def rm_X9_shadeBack_0 : Room := ({ frames := 7, cells := 0, slots := 0, locals := 180 } : Room)
set_option maxHeartbeats 400000 in
set_option maxRecDepth 100000 in
theorem t_X9_shadeBack_0 (l : Launch) (G : GG) (b0 sz : Nat) (h : Nat) (ad : Nat → Nat) (thr sts : Nat) (hs : Bool) (len at_ num many : Nat) (st pa bk li : Nat → Int32) (r c_ : Nat) (L : Nat) (hr_ : r < 8) (hc_ : c_ < 8) (hL1 : 1 ≤ L) (hL : L ≤ 3) (hst : st 64 = nI L) : CT l yX9_shadeBack cX9_shadeBack 3 (some FieldType.int) (rm_X9_shadeBack_0) G b0 [.ref h, .int (nI r), .int (nI c_)] [oM h ad thr sts hs len at_ num many, aI G (ad 1) 68 st, aI G (ad 5) 64 pa, aI G (ad 6) 64 bk, aI G (ad 7) 8 li] sz (Ri G (fun (r_ : Int32) (u : (Nat → Int32) × (Nat → Int32) × (Nat → Int32)) => r_ = joinP L (splitP st L) (8 * r + c_)) (fun (u : (Nat → Int32) × (Nat → Int32) × (Nat → Int32)) => [oM h ad 0 sts hs len at_ num many, aI G (ad 1) 68 st, aI G (ad 5) 64 u.1, aI G (ad 6) 64 u.2.1, aI G (ad 7) 8 u.2.2])) := by
  refine CT.go (by decide) (Nat.le_of_ble_eq_true rfl) (fun p e s m below meth c A ls AR QQ hx hb hr hlk hml hown hnm hts hE hA hAb hsz hP hD hS hl hQQ => ?_)
  have hK := hE.1
  have hown : s.vm.findClass RX9 = some m.cls := hown
  have hl : lv_has ls 3 [(0, .ref h), (1, .int (nI r)), (2, .int (nI c_))] := hl
  clear hsz
  refine lv_aload_n hx hb dX9_shadeBack_0 rfl (lv_at hl 0 rfl) ?_
  refine lv_iload_n hx hb dX9_shadeBack_1 rfl (lv_at hl 1 rfl) ?_
  refine lv_iload_n hx hb dX9_shadeBack_2 rfl (lv_at hl 2 rfl) ?_
  refine fin_i (ws' := (fun (u_1 : (Nat → Int32) × (Nat → Int32) × (Nat → Int32)) => [oM h ad 0 sts hs len at_ num many, aI G (ad 1) 68 st, aI G (ad 5) 64 u_1.1, aI G (ad 6) 64 u_1.2.1, aI G (ad 7) 8 u_1.2.2])) hA hS hP hD [0, 1, 2, 3, 4] rfl [(true, 0), (true, 1), (true, 2), (true, 3), (true, 4)] (fun _ => rfl) (by decide) (run_V (As := [.int (nI r), .int (nI c_)]) (rest := []) (n9 := 2) hx hb hml hown hts hE hAb hl.1 hS hP hD [0, 1, 2, 3, 4] rfl (by decide) (t_X9_tellBack_0 l G b0 _ h ad thr sts hs len at_ num many st pa bk li r c_ L (by omega) (by omega) (by omega) (by omega) (by omega)) (lw_V q2041 q2043 qs93 q129 q2044) 0 rfl rfl ⟨rfl, by decide, by decide, by decide +kernel⟩ ⟨Nat.le_of_ble_eq_true rfl, Nat.le_of_ble_eq_true rfl⟩ ⟨by first | exact Nat.le_of_ble_eq_true rfl | (simp only [rm_X9_shadeBack_0, rm_X9_tellBack_0]; omega), by first | exact Nat.le_of_ble_eq_true rfl | (simp only [rm_X9_shadeBack_0, rm_X9_tellBack_0]; omega)⟩ dX9_shadeBack_3 (Nat.le_of_ble_eq_true rfl) rfl rfl) (fun r_1 u_1 H locs h_1 hP hD hS => ?_)
  have hP : va_P G.1 vwCl [oM h ad 0 sts hs len at_ num many, aI G (ad 1) 68 st, aI G (ad 5) 64 u_1.1, aI G (ad 6) 64 u_1.2.1, aI G (ad 7) 8 u_1.2.2] _ := hP
  have hD : va_D A [oM h ad 0 sts hs len at_ num many, aI G (ad 1) 68 st, aI G (ad 5) 64 u_1.1, aI G (ad 6) 64 u_1.2.1, aI G (ad 7) 8 u_1.2.2] := hD
  have h_1 : r_1 = (joinP L (splitP st L) (8 * r + c_)) := h_1
  rw [h_1]
  have hP : va_P G.1 vwCl [oM h ad 0 sts hs len at_ num many, aI G (ad 1) 68 st, aI G (ad 5) 64 (((u_1.1, u_1.2.1, u_1.2.2)).1), aI G (ad 6) 64 (((u_1.1, u_1.2.1, u_1.2.2)).2.1), aI G (ad 7) 8 (((u_1.1, u_1.2.1, u_1.2.2)).2.2)] _ := hP
  have hD : va_D A [oM h ad 0 sts hs len at_ num many, aI G (ad 1) 68 st, aI G (ad 5) 64 (((u_1.1, u_1.2.1, u_1.2.2)).1), aI G (ad 6) 64 (((u_1.1, u_1.2.1, u_1.2.2)).2.1), aI G (ad 7) 8 (((u_1.1, u_1.2.1, u_1.2.2)).2.2)] := hD
  rw [hQQ]
  exact rt_i hx hb hr hlk  ((u_1.1, u_1.2.1, u_1.2.2)) dX9_shadeBack_6 hP hD hS (by first | exact Nat.le_of_ble_eq_true rfl | (simp only [rm_X9_shadeBack_0]; omega)) (by first | exact Nat.le_of_ble_eq_true rfl | (simp only [rm_X9_shadeBack_0]; omega)) (by rfl)
def rm_X9_shadeBack_1 : Room := ({ frames := 7, cells := 0, slots := 0, locals := 180 } : Room)
set_option maxHeartbeats 400000 in
set_option maxRecDepth 100000 in
theorem t_X9_shadeBack_1 (l : Launch) (G : GG) (b0 sz : Nat) (h : Nat) (ad : Nat → Nat) (thr sts : Nat) (hs : Bool) (len at_ num many : Nat) (st pa bk li : Nat → Int32) (r c_ : Int32) (L : Nat) (hce : isCe r c_ = false) (hL1 : 1 ≤ L) (hL : L ≤ 3) (hst : st 64 = nI L) : CT l yX9_shadeBack cX9_shadeBack 3 (some FieldType.int) (rm_X9_shadeBack_1) G b0 [.ref h, .int r, .int c_] [oM h ad thr sts hs len at_ num many, aI G (ad 1) 68 st, aI G (ad 5) 64 pa, aI G (ad 6) 64 bk, aI G (ad 7) 8 li] sz (Ri G (fun (r_ : Int32) (u : (Nat → Int32) × (Nat → Int32) × (Nat → Int32)) => r_ = nI 0) (fun (u : (Nat → Int32) × (Nat → Int32) × (Nat → Int32)) => [oM h ad 1 sts hs len at_ num many, aI G (ad 1) 68 st, aI G (ad 5) 64 u.1, aI G (ad 6) 64 u.2.1, aI G (ad 7) 8 u.2.2])) := by
  refine CT.go (by decide) (Nat.le_of_ble_eq_true rfl) (fun p e s m below meth c A ls AR QQ hx hb hr hlk hml hown hnm hts hE hA hAb hsz hP hD hS hl hQQ => ?_)
  have hK := hE.1
  have hown : s.vm.findClass RX9 = some m.cls := hown
  have hl : lv_has ls 3 [(0, .ref h), (1, .int r), (2, .int c_)] := hl
  clear hsz
  refine lv_aload_n hx hb dX9_shadeBack_0 rfl (lv_at hl 0 rfl) ?_
  refine lv_iload_n hx hb dX9_shadeBack_1 rfl (lv_at hl 1 rfl) ?_
  refine lv_iload_n hx hb dX9_shadeBack_2 rfl (lv_at hl 2 rfl) ?_
  refine fin_i (ws' := (fun (u_1 : (Nat → Int32) × (Nat → Int32) × (Nat → Int32)) => [oM h ad 1 sts hs len at_ num many, aI G (ad 1) 68 st, aI G (ad 5) 64 u_1.1, aI G (ad 6) 64 u_1.2.1, aI G (ad 7) 8 u_1.2.2])) hA hS hP hD [0, 1, 2, 3, 4] rfl [(true, 0), (true, 1), (true, 2), (true, 3), (true, 4)] (fun _ => rfl) (by decide) (run_V (As := [.int r, .int c_]) (rest := []) (n9 := 2) hx hb hml hown hts hE hAb hl.1 hS hP hD [0, 1, 2, 3, 4] rfl (by decide) (t_X9_tellBack_1 l G b0 _ h ad thr sts hs len at_ num many st pa bk li r c_ L (by omega) (by omega) (by omega) (by omega)) (lw_V q2041 q2043 qs93 q129 q2044) 0 rfl rfl ⟨rfl, by decide, by decide, by decide +kernel⟩ ⟨Nat.le_of_ble_eq_true rfl, Nat.le_of_ble_eq_true rfl⟩ ⟨by first | exact Nat.le_of_ble_eq_true rfl | (simp only [rm_X9_shadeBack_1, rm_X9_tellBack_1]; omega), by first | exact Nat.le_of_ble_eq_true rfl | (simp only [rm_X9_shadeBack_1, rm_X9_tellBack_1]; omega)⟩ dX9_shadeBack_3 (Nat.le_of_ble_eq_true rfl) rfl rfl) (fun r_1 u_1 H locs h_1 hP hD hS => ?_)
  have hP : va_P G.1 vwCl [oM h ad 1 sts hs len at_ num many, aI G (ad 1) 68 st, aI G (ad 5) 64 u_1.1, aI G (ad 6) 64 u_1.2.1, aI G (ad 7) 8 u_1.2.2] _ := hP
  have hD : va_D A [oM h ad 1 sts hs len at_ num many, aI G (ad 1) 68 st, aI G (ad 5) 64 u_1.1, aI G (ad 6) 64 u_1.2.1, aI G (ad 7) 8 u_1.2.2] := hD
  have h_1 : r_1 = (nI 0) := h_1
  rw [h_1]
  have hP : va_P G.1 vwCl [oM h ad 1 sts hs len at_ num many, aI G (ad 1) 68 st, aI G (ad 5) 64 (((u_1.1, u_1.2.1, u_1.2.2)).1), aI G (ad 6) 64 (((u_1.1, u_1.2.1, u_1.2.2)).2.1), aI G (ad 7) 8 (((u_1.1, u_1.2.1, u_1.2.2)).2.2)] _ := hP
  have hD : va_D A [oM h ad 1 sts hs len at_ num many, aI G (ad 1) 68 st, aI G (ad 5) 64 (((u_1.1, u_1.2.1, u_1.2.2)).1), aI G (ad 6) 64 (((u_1.1, u_1.2.1, u_1.2.2)).2.1), aI G (ad 7) 8 (((u_1.1, u_1.2.1, u_1.2.2)).2.2)] := hD
  rw [hQQ]
  exact rt_i hx hb hr hlk  ((u_1.1, u_1.2.1, u_1.2.2)) dX9_shadeBack_6 hP hD hS (by first | exact Nat.le_of_ble_eq_true rfl | (simp only [rm_X9_shadeBack_1]; omega)) (by first | exact Nat.le_of_ble_eq_true rfl | (simp only [rm_X9_shadeBack_1]; omega)) (by rfl)
def rm_X9_shadeByParts_0 : Room := ({ frames := 7, cells := 0, slots := 0, locals := 180 } : Room)
set_option maxHeartbeats 400000 in
set_option maxRecDepth 100000 in
theorem t_X9_shadeByParts_0 (l : Launch) (G : GG) (b0 sz : Nat) (h : Nat) (ad : Nat → Nat) (thr sts : Nat) (hs : Bool) (len at_ num many : Nat) (st pa bk li : Nat → Int32) (r c_ : Nat) (L : Nat) (hr_ : r < 8) (hc_ : c_ < 8) (hL1 : 1 ≤ L) (hL : L ≤ 3) (hst : st 64 = nI L) : CT l yX9_shadeByParts cX9_shadeByParts 3 (some FieldType.int) (rm_X9_shadeByParts_0) G b0 [.ref h, .int (nI r), .int (nI c_)] [oM h ad thr sts hs len at_ num many, aI G (ad 1) 68 st, aI G (ad 5) 64 pa, aI G (ad 6) 64 bk, aI G (ad 7) 8 li] sz (Ri G (fun (r_ : Int32) (u : (Nat → Int32) × (Nat → Int32) × (Nat → Int32)) => r_ = joinP L (splitP st L) (8 * r + c_)) (fun (u : (Nat → Int32) × (Nat → Int32) × (Nat → Int32)) => [oM h ad 0 sts hs len at_ num many, aI G (ad 1) 68 st, aI G (ad 5) 64 u.1, aI G (ad 6) 64 u.2.1, aI G (ad 7) 8 u.2.2])) := by
  refine CT.go (by decide) (Nat.le_of_ble_eq_true rfl) (fun p e s m below meth c A ls AR QQ hx hb hr hlk hml hown hnm hts hE hA hAb hsz hP hD hS hl hQQ => ?_)
  have hK := hE.1
  have hown : s.vm.findClass RX9 = some m.cls := hown
  have hl : lv_has ls 3 [(0, .ref h), (1, .int (nI r)), (2, .int (nI c_))] := hl
  clear hsz
  refine lv_aload_n hx hb dX9_shadeByParts_0 rfl (lv_at hl 0 rfl) ?_
  refine lv_iload_n hx hb dX9_shadeByParts_1 rfl (lv_at hl 1 rfl) ?_
  refine lv_iload_n hx hb dX9_shadeByParts_2 rfl (lv_at hl 2 rfl) ?_
  refine fin_i (ws' := (fun (u_1 : (Nat → Int32) × (Nat → Int32) × (Nat → Int32)) => [oM h ad 0 sts hs len at_ num many, aI G (ad 1) 68 st, aI G (ad 5) 64 u_1.1, aI G (ad 6) 64 u_1.2.1, aI G (ad 7) 8 u_1.2.2])) hA hS hP hD [0, 1, 2, 3, 4] rfl [(true, 0), (true, 1), (true, 2), (true, 3), (true, 4)] (fun _ => rfl) (by decide) (run_V (As := [.int (nI r), .int (nI c_)]) (rest := []) (n9 := 2) hx hb hml hown hts hE hAb hl.1 hS hP hD [0, 1, 2, 3, 4] rfl (by decide) (t_X9_tellBack_0 l G b0 _ h ad thr sts hs len at_ num many st pa bk li r c_ L (by omega) (by omega) (by omega) (by omega) (by omega)) (lw_V q2041 q2043 qs93 q129 q2044) 0 rfl rfl ⟨rfl, by decide, by decide, by decide +kernel⟩ ⟨Nat.le_of_ble_eq_true rfl, Nat.le_of_ble_eq_true rfl⟩ ⟨by first | exact Nat.le_of_ble_eq_true rfl | (simp only [rm_X9_shadeByParts_0, rm_X9_tellBack_0]; omega), by first | exact Nat.le_of_ble_eq_true rfl | (simp only [rm_X9_shadeByParts_0, rm_X9_tellBack_0]; omega)⟩ dX9_shadeByParts_3 (Nat.le_of_ble_eq_true rfl) rfl rfl) (fun r_1 u_1 H locs h_1 hP hD hS => ?_)
  have hP : va_P G.1 vwCl [oM h ad 0 sts hs len at_ num many, aI G (ad 1) 68 st, aI G (ad 5) 64 u_1.1, aI G (ad 6) 64 u_1.2.1, aI G (ad 7) 8 u_1.2.2] _ := hP
  have hD : va_D A [oM h ad 0 sts hs len at_ num many, aI G (ad 1) 68 st, aI G (ad 5) 64 u_1.1, aI G (ad 6) 64 u_1.2.1, aI G (ad 7) 8 u_1.2.2] := hD
  have h_1 : r_1 = (joinP L (splitP st L) (8 * r + c_)) := h_1
  rw [h_1]
  have hP : va_P G.1 vwCl [oM h ad 0 sts hs len at_ num many, aI G (ad 1) 68 st, aI G (ad 5) 64 (((u_1.1, u_1.2.1, u_1.2.2)).1), aI G (ad 6) 64 (((u_1.1, u_1.2.1, u_1.2.2)).2.1), aI G (ad 7) 8 (((u_1.1, u_1.2.1, u_1.2.2)).2.2)] _ := hP
  have hD : va_D A [oM h ad 0 sts hs len at_ num many, aI G (ad 1) 68 st, aI G (ad 5) 64 (((u_1.1, u_1.2.1, u_1.2.2)).1), aI G (ad 6) 64 (((u_1.1, u_1.2.1, u_1.2.2)).2.1), aI G (ad 7) 8 (((u_1.1, u_1.2.1, u_1.2.2)).2.2)] := hD
  rw [hQQ]
  exact rt_i hx hb hr hlk  ((u_1.1, u_1.2.1, u_1.2.2)) dX9_shadeByParts_6 hP hD hS (by first | exact Nat.le_of_ble_eq_true rfl | (simp only [rm_X9_shadeByParts_0]; omega)) (by first | exact Nat.le_of_ble_eq_true rfl | (simp only [rm_X9_shadeByParts_0]; omega)) (by rfl)
def rm_X9_shadeByParts_1 : Room := ({ frames := 7, cells := 0, slots := 0, locals := 180 } : Room)
set_option maxHeartbeats 400000 in
set_option maxRecDepth 100000 in
theorem t_X9_shadeByParts_1 (l : Launch) (G : GG) (b0 sz : Nat) (h : Nat) (ad : Nat → Nat) (thr sts : Nat) (hs : Bool) (len at_ num many : Nat) (st pa bk li : Nat → Int32) (r c_ : Int32) (L : Nat) (hce : isCe r c_ = false) (hL1 : 1 ≤ L) (hL : L ≤ 3) (hst : st 64 = nI L) : CT l yX9_shadeByParts cX9_shadeByParts 3 (some FieldType.int) (rm_X9_shadeByParts_1) G b0 [.ref h, .int r, .int c_] [oM h ad thr sts hs len at_ num many, aI G (ad 1) 68 st, aI G (ad 5) 64 pa, aI G (ad 6) 64 bk, aI G (ad 7) 8 li] sz (Ri G (fun (r_ : Int32) (u : (Nat → Int32) × (Nat → Int32) × (Nat → Int32)) => r_ = nI 0) (fun (u : (Nat → Int32) × (Nat → Int32) × (Nat → Int32)) => [oM h ad 1 sts hs len at_ num many, aI G (ad 1) 68 st, aI G (ad 5) 64 u.1, aI G (ad 6) 64 u.2.1, aI G (ad 7) 8 u.2.2])) := by
  refine CT.go (by decide) (Nat.le_of_ble_eq_true rfl) (fun p e s m below meth c A ls AR QQ hx hb hr hlk hml hown hnm hts hE hA hAb hsz hP hD hS hl hQQ => ?_)
  have hK := hE.1
  have hown : s.vm.findClass RX9 = some m.cls := hown
  have hl : lv_has ls 3 [(0, .ref h), (1, .int r), (2, .int c_)] := hl
  clear hsz
  refine lv_aload_n hx hb dX9_shadeByParts_0 rfl (lv_at hl 0 rfl) ?_
  refine lv_iload_n hx hb dX9_shadeByParts_1 rfl (lv_at hl 1 rfl) ?_
  refine lv_iload_n hx hb dX9_shadeByParts_2 rfl (lv_at hl 2 rfl) ?_
  refine fin_i (ws' := (fun (u_1 : (Nat → Int32) × (Nat → Int32) × (Nat → Int32)) => [oM h ad 1 sts hs len at_ num many, aI G (ad 1) 68 st, aI G (ad 5) 64 u_1.1, aI G (ad 6) 64 u_1.2.1, aI G (ad 7) 8 u_1.2.2])) hA hS hP hD [0, 1, 2, 3, 4] rfl [(true, 0), (true, 1), (true, 2), (true, 3), (true, 4)] (fun _ => rfl) (by decide) (run_V (As := [.int r, .int c_]) (rest := []) (n9 := 2) hx hb hml hown hts hE hAb hl.1 hS hP hD [0, 1, 2, 3, 4] rfl (by decide) (t_X9_tellBack_1 l G b0 _ h ad thr sts hs len at_ num many st pa bk li r c_ L (by omega) (by omega) (by omega) (by omega)) (lw_V q2041 q2043 qs93 q129 q2044) 0 rfl rfl ⟨rfl, by decide, by decide, by decide +kernel⟩ ⟨Nat.le_of_ble_eq_true rfl, Nat.le_of_ble_eq_true rfl⟩ ⟨by first | exact Nat.le_of_ble_eq_true rfl | (simp only [rm_X9_shadeByParts_1, rm_X9_tellBack_1]; omega), by first | exact Nat.le_of_ble_eq_true rfl | (simp only [rm_X9_shadeByParts_1, rm_X9_tellBack_1]; omega)⟩ dX9_shadeByParts_3 (Nat.le_of_ble_eq_true rfl) rfl rfl) (fun r_1 u_1 H locs h_1 hP hD hS => ?_)
  have hP : va_P G.1 vwCl [oM h ad 1 sts hs len at_ num many, aI G (ad 1) 68 st, aI G (ad 5) 64 u_1.1, aI G (ad 6) 64 u_1.2.1, aI G (ad 7) 8 u_1.2.2] _ := hP
  have hD : va_D A [oM h ad 1 sts hs len at_ num many, aI G (ad 1) 68 st, aI G (ad 5) 64 u_1.1, aI G (ad 6) 64 u_1.2.1, aI G (ad 7) 8 u_1.2.2] := hD
  have h_1 : r_1 = (nI 0) := h_1
  rw [h_1]
  have hP : va_P G.1 vwCl [oM h ad 1 sts hs len at_ num many, aI G (ad 1) 68 st, aI G (ad 5) 64 (((u_1.1, u_1.2.1, u_1.2.2)).1), aI G (ad 6) 64 (((u_1.1, u_1.2.1, u_1.2.2)).2.1), aI G (ad 7) 8 (((u_1.1, u_1.2.1, u_1.2.2)).2.2)] _ := hP
  have hD : va_D A [oM h ad 1 sts hs len at_ num many, aI G (ad 1) 68 st, aI G (ad 5) 64 (((u_1.1, u_1.2.1, u_1.2.2)).1), aI G (ad 6) 64 (((u_1.1, u_1.2.1, u_1.2.2)).2.1), aI G (ad 7) 8 (((u_1.1, u_1.2.1, u_1.2.2)).2.2)] := hD
  rw [hQQ]
  exact rt_i hx hb hr hlk  ((u_1.1, u_1.2.1, u_1.2.2)) dX9_shadeByParts_6 hP hD hS (by first | exact Nat.le_of_ble_eq_true rfl | (simp only [rm_X9_shadeByParts_1]; omega)) (by first | exact Nat.le_of_ble_eq_true rfl | (simp only [rm_X9_shadeByParts_1]; omega)) (by rfl)
def rm_X9_isTree_0 : Room := ({ frames := 6, cells := 0, slots := 0, locals := 150 } : Room)
set_option maxHeartbeats 400000 in
set_option maxRecDepth 100000 in
theorem t_X9_isTree_0 (l : Launch) (G : GG) (b0 sz : Nat) (h : Nat) (ad : Nat → Nat) (thr sts : Nat) (hs : Bool) (len at_ num many : Nat) (st pa li : Nat → Int32) (r c_ L : Nat) (t : Int32) (hr_ : r < 8) (hc_ : c_ < 8) (hL1 : 1 ≤ L) (hL : L ≤ 3) (hst : st 64 = nI L) (htt : isSh t = true) : CT l yX9_isTree cX9_isTree 4 (some FieldType.boolean) (rm_X9_isTree_0) G b0 [.ref h, .int (nI r), .int (nI c_), .int t] [oM h ad thr sts hs len at_ num many, aI G (ad 1) 68 st, aI G (ad 5) 64 pa, aI G (ad 7) 8 li] sz (Ri G (fun (r_ : Int32) (u : (Nat → Int32) × (Nat → Int32)) => r_ = bI (smlM L t (splitP st L) (8 * r + c_))) (fun (u : (Nat → Int32) × (Nat → Int32)) => [oM h ad 0 sts hs len at_ num many, aI G (ad 1) 68 st, aI G (ad 5) 64 u.1, aI G (ad 7) 8 u.2])) := by
  refine CT.go (by decide) (Nat.le_of_ble_eq_true rfl) (fun p e s m below meth c A ls AR QQ hx hb hr hlk hml hown hnm hts hE hA hAb hsz hP hD hS hl hQQ => ?_)
  have hK := hE.1
  have hown : s.vm.findClass RX9 = some m.cls := hown
  have hl : lv_has ls 4 [(0, .ref h), (1, .int (nI r)), (2, .int (nI c_)), (3, .int t)] := hl
  clear hsz
  refine lv_aload_n hx hb dX9_isTree_0 rfl (lv_at hl 0 rfl) ?_
  refine lv_iload_n hx hb dX9_isTree_1 rfl (lv_at hl 1 rfl) ?_
  refine lv_iload_n hx hb dX9_isTree_2 rfl (lv_at hl 2 rfl) ?_
  refine fin_i (ws' := (fun (_ : Unit) => [oM h ad thr sts hs len at_ num many, aI G (ad 1) 68 st, aI G (ad 5) 64 pa, aI G (ad 7) 8 li])) hA hS hP hD [] rfl [(false, 0), (false, 1), (false, 2), (false, 3)] (fun _ => rfl) (by decide) (run_S (As := [.int (nI r), .int (nI c_)]) (rest := [.ref h]) (n9 := 2) hx hb hml hown hts hE hAb hl.1 hS hP hD [] rfl (by decide) (t_X9_isCell l G b0 _ (nI r) (nI c_) ) (lw_S q1873 q1874 q129 q1875) ⟨by decide, by decide, by decide +kernel⟩ ⟨Nat.le_of_ble_eq_true rfl, Nat.le_of_ble_eq_true rfl⟩ ⟨by first | exact Nat.le_of_ble_eq_true rfl | (simp only [rm_X9_isTree_0, rm_X9_isCell]; omega), by first | exact Nat.le_of_ble_eq_true rfl | (simp only [rm_X9_isTree_0, rm_X9_isCell]; omega)⟩ dX9_isTree_3 (Nat.le_of_ble_eq_true rfl) rfl rfl) (fun r_1 u_1 H locs h_1 hP hD hS => ?_)
  have hP : va_P G.1 vwCl [oM h ad thr sts hs len at_ num many, aI G (ad 1) 68 st, aI G (ad 5) 64 pa, aI G (ad 7) 8 li] _ := hP
  have hD : va_D A [oM h ad thr sts hs len at_ num many, aI G (ad 1) 68 st, aI G (ad 5) 64 pa, aI G (ad 7) 8 li] := hD
  have h_1 : r_1 = (bI (isCe (nI r) (nI c_))) := h_1
  rw [h_1]
  refine B_if_ne (tgt := 13) hx hb dX9_isTree_6 (by decide) (fun c_6 => ?_) (fun c_6 => ?_)
  · skip
    refine lv_iload_n hx hb dX9_isTree_13 rfl (lv_at hl 3 rfl) ?_
    refine fin_i (ws' := (fun (_ : Unit) => [oM h ad thr sts hs len at_ num many, aI G (ad 1) 68 st, aI G (ad 5) 64 pa, aI G (ad 7) 8 li])) hA hS hP hD [] rfl [(false, 0), (false, 1), (false, 2), (false, 3)] (fun _ => rfl) (by decide) (run_S (As := [.int t]) (rest := [.ref h]) (n9 := 1) hx hb hml hown hts hE hAb hl.1 hS hP hD [] rfl (by decide) (t_X9_isShade l G b0 _ t ) (lw_S q1767 q1768 q129 q1769) ⟨by decide, by decide, by decide +kernel⟩ ⟨Nat.le_of_ble_eq_true rfl, Nat.le_of_ble_eq_true rfl⟩ ⟨by first | exact Nat.le_of_ble_eq_true rfl | (simp only [rm_X9_isTree_0, rm_X9_isShade]; omega), by first | exact Nat.le_of_ble_eq_true rfl | (simp only [rm_X9_isTree_0, rm_X9_isShade]; omega)⟩ dX9_isTree_14 (Nat.le_of_ble_eq_true rfl) rfl rfl) (fun r_2 u_2 H locs h_2 hP hD hS => ?_)
    have hP : va_P G.1 vwCl [oM h ad thr sts hs len at_ num many, aI G (ad 1) 68 st, aI G (ad 5) 64 pa, aI G (ad 7) 8 li] _ := hP
    have hD : va_D A [oM h ad thr sts hs len at_ num many, aI G (ad 1) 68 st, aI G (ad 5) 64 pa, aI G (ad 7) 8 li] := hD
    have h_2 : r_2 = (bI (isSh t)) := h_2
    rw [h_2]
    refine B_if_ne (tgt := 24) hx hb dX9_isTree_17 (by decide) (fun c_17 => ?_) (fun c_17 => ?_)
    · skip
      refine lv_iconst (v := nI 0) hx hb dX9_isTree_24 (by decide) ?_
      refine va_put (D := G.1) (ci := 8) (v := .int (nI 0)) (ty := .int) (C := RX9) (T := TX9) (N := 21) hx hb hts in_X9 tyX9 tyX9_ok nmX9 hown hK hP hD hS 0 rfl rfl 0 (by decide) (hts _ q1667) (fun _ h9 => h9) rfl (by decide +kernel) rfl rfl (Nat.le_of_ble_eq_true rfl) dX9_isTree_25 (fun H locs hP hD hS => ?_)
      have hP : va_P G.1 vwCl [oM h ad 0 sts hs len at_ num many, aI G (ad 1) 68 st, aI G (ad 5) 64 pa, aI G (ad 7) 8 li] _ := hP
      have hD : va_D A [oM h ad 0 sts hs len at_ num many, aI G (ad 1) 68 st, aI G (ad 5) 64 pa, aI G (ad 7) 8 li] := hD
      refine lv_aload_n hx hb dX9_isTree_28 rfl (lv_at hl 0 rfl) ?_
      refine va_get (D := G.1) (ci := 8) (v := .int (nI 0)) (C := RX9) (T := TX9) (N := 21) hx hb hts in_X9 hown hK hP 0 rfl rfl 0 (by decide) (hts _ q1667) (fun _ h9 => h9) rfl dX9_isTree_29 ?_
      refine N_if_le (tgt := 37) hx hb dX9_isTree_32 (by decide) (by omega) (fun c_32 => ?_) (fun c_32 => ?_)
      · skip
        refine lv_aload_n hx hb dX9_isTree_37 rfl (lv_at hl 0 rfl) ?_
        refine fin_v (ws' := (fun (u_3 : Nat → Int32) => [oM h ad 0 sts hs len at_ num many, aI G (ad 1) 68 st, aI G (ad 5) 64 (splitP st L), aI G (ad 7) 8 u_3])) hA hS hP hD [0, 1, 2, 3] rfl [(true, 0), (true, 1), (true, 2), (true, 3)] (fun _ => rfl) (by decide) (run_V (As := []) (rest := []) (n9 := 0) hx hb hml hown hts hE hAb hl.1 hS hP hD [0, 1, 2, 3] rfl (by decide) (t_X9_split l G b0 _ h ad 0 sts hs len at_ num many st pa li L (by omega) (by omega) (by omega)) (lw_V q1777 q1779 qs64 q129 q1780) 0 rfl rfl ⟨rfl, by decide, by decide, by decide +kernel⟩ ⟨Nat.le_of_ble_eq_true rfl, Nat.le_of_ble_eq_true rfl⟩ ⟨by first | exact Nat.le_of_ble_eq_true rfl | (simp only [rm_X9_isTree_0, rm_X9_split]; omega), by first | exact Nat.le_of_ble_eq_true rfl | (simp only [rm_X9_isTree_0, rm_X9_split]; omega)⟩ dX9_isTree_38 (Nat.le_of_ble_eq_true rfl) rfl rfl) (fun u_3 H locs h_3 hP hD hS => ?_)
        have hP : va_P G.1 vwCl [oM h ad 0 sts hs len at_ num many, aI G (ad 1) 68 st, aI G (ad 5) 64 (splitP st L), aI G (ad 7) 8 u_3] _ := hP
        have hD : va_D A [oM h ad 0 sts hs len at_ num many, aI G (ad 1) 68 st, aI G (ad 5) 64 (splitP st L), aI G (ad 7) 8 u_3] := hD
        refine lv_aload_n hx hb dX9_isTree_41 rfl (lv_at hl 0 rfl) ?_
        refine lv_bipush (v := nI 8) hx hb dX9_isTree_42 (by decide) ?_
        refine lv_iload_n hx hb dX9_isTree_44 rfl (lv_at hl 1 rfl) ?_
        refine N_imul hx hb dX9_isTree_45 ?_
        refine lv_iload_n hx hb dX9_isTree_46 rfl (lv_at hl 2 rfl) ?_
        refine N_iadd hx hb dX9_isTree_47 ?_
        refine lv_iload_n hx hb dX9_isTree_48 rfl (lv_at hl 3 rfl) ?_
        refine fin_i (ws' := (fun (_ : Unit) => [oM h ad 0 sts hs len at_ num many, aI G (ad 1) 68 st, aI G (ad 5) 64 (splitP st L), aI G (ad 7) 8 u_3])) hA hS hP hD [0, 1, 2] rfl [(true, 0), (true, 1), (true, 2), (false, 3)] (fun _ => rfl) (by decide) (run_V (As := [.int (nI ((8 * r) + c_)), .int t]) (rest := []) (n9 := 2) hx hb hml hown hts hE hAb hl.1 hS hP hD [0, 1, 2] rfl (by decide) (t_X9_isSmall l G b0 _ h ad 0 sts hs len at_ num many st (splitP st L) ((8 * r) + c_) L t (by omega) (by omega) (by omega) (by omega)) (lw_V q1861 q1863 qs77 q129 q1864) 0 rfl rfl ⟨rfl, by decide, by decide, by decide +kernel⟩ ⟨Nat.le_of_ble_eq_true rfl, Nat.le_of_ble_eq_true rfl⟩ ⟨by first | exact Nat.le_of_ble_eq_true rfl | (simp only [rm_X9_isTree_0, rm_X9_isSmall]; omega), by first | exact Nat.le_of_ble_eq_true rfl | (simp only [rm_X9_isTree_0, rm_X9_isSmall]; omega)⟩ dX9_isTree_49 (Nat.le_of_ble_eq_true rfl) rfl rfl) (fun r_4 u_4 H locs h_4 hP hD hS => ?_)
        have hP : va_P G.1 vwCl [oM h ad 0 sts hs len at_ num many, aI G (ad 1) 68 st, aI G (ad 5) 64 (splitP st L), aI G (ad 7) 8 u_3] _ := hP
        have hD : va_D A [oM h ad 0 sts hs len at_ num many, aI G (ad 1) 68 st, aI G (ad 5) 64 (splitP st L), aI G (ad 7) 8 u_3] := hD
        have h_4 : r_4 = (bI (smlM L t (splitP st L) ((8 * r) + c_))) := h_4
        rw [h_4]
        have hP : va_P G.1 vwCl [oM h ad 0 sts hs len at_ num many, aI G (ad 1) 68 st, aI G (ad 5) 64 (((splitP st L, u_3)).1), aI G (ad 7) 8 (((splitP st L, u_3)).2)] _ := hP
        have hD : va_D A [oM h ad 0 sts hs len at_ num many, aI G (ad 1) 68 st, aI G (ad 5) 64 (((splitP st L, u_3)).1), aI G (ad 7) 8 (((splitP st L, u_3)).2)] := hD
        rw [hQQ]
        exact rt_z hx hb hr hlk (by first | exact bI_nar _ | rfl) ((splitP st L, u_3)) dX9_isTree_52 hP hD hS (by first | exact Nat.le_of_ble_eq_true rfl | (simp only [rm_X9_isTree_0]; omega)) (by first | exact Nat.le_of_ble_eq_true rfl | (simp only [rm_X9_isTree_0]; omega)) (by rfl)
      · skip
        exfalso; omega
    · skip
      exfalso; exact absurd (htt.symm.trans c_17) (by decide)
  · skip
    exfalso; exact absurd ((isCe_n hr_ hc_).symm.trans c_6) (by decide)
def rm_X9_isTree_1 : Room := ({ frames := 6, cells := 0, slots := 0, locals := 150 } : Room)
set_option maxHeartbeats 400000 in
set_option maxRecDepth 100000 in
theorem t_X9_isTree_1 (l : Launch) (G : GG) (b0 sz : Nat) (h : Nat) (ad : Nat → Nat) (thr sts : Nat) (hs : Bool) (len at_ num many : Nat) (st pa li : Nat → Int32) (r c_ t : Int32) (L : Nat) (hce : isCe r c_ = false) (hL1 : 1 ≤ L) (hL : L ≤ 3) (hst : st 64 = nI L) : CT l yX9_isTree cX9_isTree 4 (some FieldType.boolean) (rm_X9_isTree_1) G b0 [.ref h, .int r, .int c_, .int t] [oM h ad thr sts hs len at_ num many, aI G (ad 1) 68 st, aI G (ad 5) 64 pa, aI G (ad 7) 8 li] sz (Ri G (fun (r_ : Int32) (_ : Unit) => r_ = bI false) (fun (_ : Unit) => [oM h ad 1 sts hs len at_ num many, aI G (ad 1) 68 st, aI G (ad 5) 64 pa, aI G (ad 7) 8 li])) := by
  refine CT.go (by decide) (Nat.le_of_ble_eq_true rfl) (fun p e s m below meth c A ls AR QQ hx hb hr hlk hml hown hnm hts hE hA hAb hsz hP hD hS hl hQQ => ?_)
  have hK := hE.1
  have hown : s.vm.findClass RX9 = some m.cls := hown
  have hl : lv_has ls 4 [(0, .ref h), (1, .int r), (2, .int c_), (3, .int t)] := hl
  clear hsz
  refine lv_aload_n hx hb dX9_isTree_0 rfl (lv_at hl 0 rfl) ?_
  refine lv_iload_n hx hb dX9_isTree_1 rfl (lv_at hl 1 rfl) ?_
  refine lv_iload_n hx hb dX9_isTree_2 rfl (lv_at hl 2 rfl) ?_
  refine fin_i (ws' := (fun (_ : Unit) => [oM h ad thr sts hs len at_ num many, aI G (ad 1) 68 st, aI G (ad 5) 64 pa, aI G (ad 7) 8 li])) hA hS hP hD [] rfl [(false, 0), (false, 1), (false, 2), (false, 3)] (fun _ => rfl) (by decide) (run_S (As := [.int r, .int c_]) (rest := [.ref h]) (n9 := 2) hx hb hml hown hts hE hAb hl.1 hS hP hD [] rfl (by decide) (t_X9_isCell l G b0 _ r c_ ) (lw_S q1873 q1874 q129 q1875) ⟨by decide, by decide, by decide +kernel⟩ ⟨Nat.le_of_ble_eq_true rfl, Nat.le_of_ble_eq_true rfl⟩ ⟨by first | exact Nat.le_of_ble_eq_true rfl | (simp only [rm_X9_isTree_1, rm_X9_isCell]; omega), by first | exact Nat.le_of_ble_eq_true rfl | (simp only [rm_X9_isTree_1, rm_X9_isCell]; omega)⟩ dX9_isTree_3 (Nat.le_of_ble_eq_true rfl) rfl rfl) (fun r_1 u_1 H locs h_1 hP hD hS => ?_)
  have hP : va_P G.1 vwCl [oM h ad thr sts hs len at_ num many, aI G (ad 1) 68 st, aI G (ad 5) 64 pa, aI G (ad 7) 8 li] _ := hP
  have hD : va_D A [oM h ad thr sts hs len at_ num many, aI G (ad 1) 68 st, aI G (ad 5) 64 pa, aI G (ad 7) 8 li] := hD
  have h_1 : r_1 = (bI (isCe r c_)) := h_1
  rw [h_1]
  refine B_if_ne (tgt := 13) hx hb dX9_isTree_6 (by decide) (fun c_6 => ?_) (fun c_6 => ?_)
  · skip
    exfalso; exact absurd (hce.symm.trans c_6) (by decide)
  · skip
    refine lv_iconst (v := nI 1) hx hb dX9_isTree_9 (by decide) ?_
    refine lv_goto (tgt := 25) hx hb dX9_isTree_10 (by decide) ?_
    refine va_put (D := G.1) (ci := 8) (v := .int (nI 1)) (ty := .int) (C := RX9) (T := TX9) (N := 21) hx hb hts in_X9 tyX9 tyX9_ok nmX9 hown hK hP hD hS 0 rfl rfl 0 (by decide) (hts _ q1667) (fun _ h9 => h9) rfl (by decide +kernel) rfl rfl (Nat.le_of_ble_eq_true rfl) dX9_isTree_25 (fun H locs hP hD hS => ?_)
    have hP : va_P G.1 vwCl [oM h ad 1 sts hs len at_ num many, aI G (ad 1) 68 st, aI G (ad 5) 64 pa, aI G (ad 7) 8 li] _ := hP
    have hD : va_D A [oM h ad 1 sts hs len at_ num many, aI G (ad 1) 68 st, aI G (ad 5) 64 pa, aI G (ad 7) 8 li] := hD
    refine lv_aload_n hx hb dX9_isTree_28 rfl (lv_at hl 0 rfl) ?_
    refine va_get (D := G.1) (ci := 8) (v := .int (nI 1)) (C := RX9) (T := TX9) (N := 21) hx hb hts in_X9 hown hK hP 0 rfl rfl 0 (by decide) (hts _ q1667) (fun _ h9 => h9) rfl dX9_isTree_29 ?_
    refine N_if_le (tgt := 37) hx hb dX9_isTree_32 (by decide) (by omega) (fun c_32 => ?_) (fun c_32 => ?_)
    · skip
      exfalso; omega
    · skip
      refine lv_iconst (v := nI 0) hx hb dX9_isTree_35 (by decide) ?_
      rw [hQQ]
      exact rt_z hx hb hr hlk (by first | exact bI_nar _ | rfl) (()) dX9_isTree_36 hP hD hS (by first | exact Nat.le_of_ble_eq_true rfl | (simp only [rm_X9_isTree_1]; omega)) (by first | exact Nat.le_of_ble_eq_true rfl | (simp only [rm_X9_isTree_1]; omega)) (by rfl)
def rm_X9_isTree_2 : Room := ({ frames := 6, cells := 0, slots := 0, locals := 150 } : Room)
set_option maxHeartbeats 400000 in
set_option maxRecDepth 100000 in
theorem t_X9_isTree_2 (l : Launch) (G : GG) (b0 sz : Nat) (h : Nat) (ad : Nat → Nat) (thr sts : Nat) (hs : Bool) (len at_ num many : Nat) (st pa li : Nat → Int32) (r c_ L : Nat) (t : Int32) (hr_ : r < 8) (hc_ : c_ < 8) (hL1 : 1 ≤ L) (hL : L ≤ 3) (hst : st 64 = nI L) (htt : isSh t = false) : CT l yX9_isTree cX9_isTree 4 (some FieldType.boolean) (rm_X9_isTree_2) G b0 [.ref h, .int (nI r), .int (nI c_), .int t] [oM h ad thr sts hs len at_ num many, aI G (ad 1) 68 st, aI G (ad 5) 64 pa, aI G (ad 7) 8 li] sz (Ri G (fun (r_ : Int32) (_ : Unit) => r_ = bI false) (fun (_ : Unit) => [oM h ad 2 sts hs len at_ num many, aI G (ad 1) 68 st, aI G (ad 5) 64 pa, aI G (ad 7) 8 li])) := by
  refine CT.go (by decide) (Nat.le_of_ble_eq_true rfl) (fun p e s m below meth c A ls AR QQ hx hb hr hlk hml hown hnm hts hE hA hAb hsz hP hD hS hl hQQ => ?_)
  have hK := hE.1
  have hown : s.vm.findClass RX9 = some m.cls := hown
  have hl : lv_has ls 4 [(0, .ref h), (1, .int (nI r)), (2, .int (nI c_)), (3, .int t)] := hl
  clear hsz
  refine lv_aload_n hx hb dX9_isTree_0 rfl (lv_at hl 0 rfl) ?_
  refine lv_iload_n hx hb dX9_isTree_1 rfl (lv_at hl 1 rfl) ?_
  refine lv_iload_n hx hb dX9_isTree_2 rfl (lv_at hl 2 rfl) ?_
  refine fin_i (ws' := (fun (_ : Unit) => [oM h ad thr sts hs len at_ num many, aI G (ad 1) 68 st, aI G (ad 5) 64 pa, aI G (ad 7) 8 li])) hA hS hP hD [] rfl [(false, 0), (false, 1), (false, 2), (false, 3)] (fun _ => rfl) (by decide) (run_S (As := [.int (nI r), .int (nI c_)]) (rest := [.ref h]) (n9 := 2) hx hb hml hown hts hE hAb hl.1 hS hP hD [] rfl (by decide) (t_X9_isCell l G b0 _ (nI r) (nI c_) ) (lw_S q1873 q1874 q129 q1875) ⟨by decide, by decide, by decide +kernel⟩ ⟨Nat.le_of_ble_eq_true rfl, Nat.le_of_ble_eq_true rfl⟩ ⟨by first | exact Nat.le_of_ble_eq_true rfl | (simp only [rm_X9_isTree_2, rm_X9_isCell]; omega), by first | exact Nat.le_of_ble_eq_true rfl | (simp only [rm_X9_isTree_2, rm_X9_isCell]; omega)⟩ dX9_isTree_3 (Nat.le_of_ble_eq_true rfl) rfl rfl) (fun r_1 u_1 H locs h_1 hP hD hS => ?_)
  have hP : va_P G.1 vwCl [oM h ad thr sts hs len at_ num many, aI G (ad 1) 68 st, aI G (ad 5) 64 pa, aI G (ad 7) 8 li] _ := hP
  have hD : va_D A [oM h ad thr sts hs len at_ num many, aI G (ad 1) 68 st, aI G (ad 5) 64 pa, aI G (ad 7) 8 li] := hD
  have h_1 : r_1 = (bI (isCe (nI r) (nI c_))) := h_1
  rw [h_1]
  refine B_if_ne (tgt := 13) hx hb dX9_isTree_6 (by decide) (fun c_6 => ?_) (fun c_6 => ?_)
  · skip
    refine lv_iload_n hx hb dX9_isTree_13 rfl (lv_at hl 3 rfl) ?_
    refine fin_i (ws' := (fun (_ : Unit) => [oM h ad thr sts hs len at_ num many, aI G (ad 1) 68 st, aI G (ad 5) 64 pa, aI G (ad 7) 8 li])) hA hS hP hD [] rfl [(false, 0), (false, 1), (false, 2), (false, 3)] (fun _ => rfl) (by decide) (run_S (As := [.int t]) (rest := [.ref h]) (n9 := 1) hx hb hml hown hts hE hAb hl.1 hS hP hD [] rfl (by decide) (t_X9_isShade l G b0 _ t ) (lw_S q1767 q1768 q129 q1769) ⟨by decide, by decide, by decide +kernel⟩ ⟨Nat.le_of_ble_eq_true rfl, Nat.le_of_ble_eq_true rfl⟩ ⟨by first | exact Nat.le_of_ble_eq_true rfl | (simp only [rm_X9_isTree_2, rm_X9_isShade]; omega), by first | exact Nat.le_of_ble_eq_true rfl | (simp only [rm_X9_isTree_2, rm_X9_isShade]; omega)⟩ dX9_isTree_14 (Nat.le_of_ble_eq_true rfl) rfl rfl) (fun r_2 u_2 H locs h_2 hP hD hS => ?_)
    have hP : va_P G.1 vwCl [oM h ad thr sts hs len at_ num many, aI G (ad 1) 68 st, aI G (ad 5) 64 pa, aI G (ad 7) 8 li] _ := hP
    have hD : va_D A [oM h ad thr sts hs len at_ num many, aI G (ad 1) 68 st, aI G (ad 5) 64 pa, aI G (ad 7) 8 li] := hD
    have h_2 : r_2 = (bI (isSh t)) := h_2
    rw [h_2]
    refine B_if_ne (tgt := 24) hx hb dX9_isTree_17 (by decide) (fun c_17 => ?_) (fun c_17 => ?_)
    · skip
      exfalso; exact absurd (htt.symm.trans c_17) (by decide)
    · skip
      refine lv_iconst (v := nI 2) hx hb dX9_isTree_20 (by decide) ?_
      refine lv_goto (tgt := 25) hx hb dX9_isTree_21 (by decide) ?_
      refine va_put (D := G.1) (ci := 8) (v := .int (nI 2)) (ty := .int) (C := RX9) (T := TX9) (N := 21) hx hb hts in_X9 tyX9 tyX9_ok nmX9 hown hK hP hD hS 0 rfl rfl 0 (by decide) (hts _ q1667) (fun _ h9 => h9) rfl (by decide +kernel) rfl rfl (Nat.le_of_ble_eq_true rfl) dX9_isTree_25 (fun H locs hP hD hS => ?_)
      have hP : va_P G.1 vwCl [oM h ad 2 sts hs len at_ num many, aI G (ad 1) 68 st, aI G (ad 5) 64 pa, aI G (ad 7) 8 li] _ := hP
      have hD : va_D A [oM h ad 2 sts hs len at_ num many, aI G (ad 1) 68 st, aI G (ad 5) 64 pa, aI G (ad 7) 8 li] := hD
      refine lv_aload_n hx hb dX9_isTree_28 rfl (lv_at hl 0 rfl) ?_
      refine va_get (D := G.1) (ci := 8) (v := .int (nI 2)) (C := RX9) (T := TX9) (N := 21) hx hb hts in_X9 hown hK hP 0 rfl rfl 0 (by decide) (hts _ q1667) (fun _ h9 => h9) rfl dX9_isTree_29 ?_
      refine N_if_le (tgt := 37) hx hb dX9_isTree_32 (by decide) (by omega) (fun c_32 => ?_) (fun c_32 => ?_)
      · skip
        exfalso; omega
      · skip
        refine lv_iconst (v := nI 0) hx hb dX9_isTree_35 (by decide) ?_
        rw [hQQ]
        exact rt_z hx hb hr hlk (by first | exact bI_nar _ | rfl) (()) dX9_isTree_36 hP hD hS (by first | exact Nat.le_of_ble_eq_true rfl | (simp only [rm_X9_isTree_2]; omega)) (by first | exact Nat.le_of_ble_eq_true rfl | (simp only [rm_X9_isTree_2]; omega)) (by rfl)
  · skip
    exfalso; exact absurd ((isCe_n hr_ hc_).symm.trans c_6) (by decide)
def rm_X9_partsChanged_0 : Room := ({ frames := 6, cells := 0, slots := 0, locals := 150 } : Room)
set_option maxHeartbeats 400000 in
set_option maxRecDepth 100000 in
theorem t_X9_partsChanged_0 (l : Launch) (G : GG) (b0 sz : Nat) (h : Nat) (ad : Nat → Nat) (thr sts : Nat) (hs : Bool) (len at_ num many : Nat) (st pa li ot : Nat → Int32) (r c_ L : Nat) (t : Int32) (hr_ : r < 8) (hc_ : c_ < 8) (hL1 : 1 ≤ L) (hL : L ≤ 3) (hst : st 64 = nI L) (htt : isSh t = true) : CT l yX9_partsChanged cX9_partsChanged 4 (some FieldType.int) (rm_X9_partsChanged_0) G b0 [.ref h, .int (nI r), .int (nI c_), .int t] [oM h ad thr sts hs len at_ num many, aI G (ad 1) 68 st, aI G (ad 5) 64 pa, aI G (ad 7) 8 li, aI G (ad 9) 64 ot] sz (Ri G (fun (r_ : Int32) (u : (Nat → Int32) × (Nat → Int32) × (Nat → Int32)) => r_ = l_sum (cneI (splitP st L) (splitP (upd st (8 * r + c_) t) L)) 64) (fun (u : (Nat → Int32) × (Nat → Int32) × (Nat → Int32)) => [oM h ad 0 sts hs len at_ num many, aI G (ad 1) 68 st, aI G (ad 5) 64 u.1, aI G (ad 7) 8 u.2.1, aI G (ad 9) 64 u.2.2])) := by
  refine CT.go (by decide) (Nat.le_of_ble_eq_true rfl) (fun p e s m below meth c A ls AR QQ hx hb hr hlk hml hown hnm hts hE hA hAb hsz hP hD hS hl hQQ => ?_)
  have hK := hE.1
  have hown : s.vm.findClass RX9 = some m.cls := hown
  have hl : lv_has ls 4 [(0, .ref h), (1, .int (nI r)), (2, .int (nI c_)), (3, .int t)] := hl
  clear hsz
  refine lv_aload_n hx hb dX9_partsChanged_0 rfl (lv_at hl 0 rfl) ?_
  refine lv_iconst (v := nI 0) hx hb dX9_partsChanged_1 (by decide) ?_
  refine va_put (D := G.1) (ci := 8) (v := .int (nI 0)) (ty := .int) (C := RX9) (T := TX9) (N := 21) hx hb hts in_X9 tyX9 tyX9_ok nmX9 hown hK hP hD hS 0 rfl rfl 0 (by decide) (hts _ q1667) (fun _ h9 => h9) rfl (by decide +kernel) rfl rfl (Nat.le_of_ble_eq_true rfl) dX9_partsChanged_2 (fun H locs hP hD hS => ?_)
  have hP : va_P G.1 vwCl [oM h ad 0 sts hs len at_ num many, aI G (ad 1) 68 st, aI G (ad 5) 64 pa, aI G (ad 7) 8 li, aI G (ad 9) 64 ot] _ := hP
  have hD : va_D A [oM h ad 0 sts hs len at_ num many, aI G (ad 1) 68 st, aI G (ad 5) 64 pa, aI G (ad 7) 8 li, aI G (ad 9) 64 ot] := hD
  refine lv_iload_n hx hb dX9_partsChanged_5 rfl (lv_at hl 1 rfl) ?_
  refine lv_iload_n hx hb dX9_partsChanged_6 rfl (lv_at hl 2 rfl) ?_
  refine fin_i (ws' := (fun (_ : Unit) => [oM h ad 0 sts hs len at_ num many, aI G (ad 1) 68 st, aI G (ad 5) 64 pa, aI G (ad 7) 8 li, aI G (ad 9) 64 ot])) hA hS hP hD [] rfl [(false, 0), (false, 1), (false, 2), (false, 3), (false, 4)] (fun _ => rfl) (by decide) (run_S (As := [.int (nI r), .int (nI c_)]) (rest := []) (n9 := 2) hx hb hml hown hts hE hAb hl.1 hS hP hD [] rfl (by decide) (t_X9_isCell l G b0 _ (nI r) (nI c_) ) (lw_S q1873 q1874 q129 q1875) ⟨by decide, by decide, by decide +kernel⟩ ⟨Nat.le_of_ble_eq_true rfl, Nat.le_of_ble_eq_true rfl⟩ ⟨by first | exact Nat.le_of_ble_eq_true rfl | (simp only [rm_X9_partsChanged_0, rm_X9_isCell]; omega), by first | exact Nat.le_of_ble_eq_true rfl | (simp only [rm_X9_partsChanged_0, rm_X9_isCell]; omega)⟩ dX9_partsChanged_7 (Nat.le_of_ble_eq_true rfl) rfl rfl) (fun r_1 u_1 H locs h_1 hP hD hS => ?_)
  have hP : va_P G.1 vwCl [oM h ad 0 sts hs len at_ num many, aI G (ad 1) 68 st, aI G (ad 5) 64 pa, aI G (ad 7) 8 li, aI G (ad 9) 64 ot] _ := hP
  have hD : va_D A [oM h ad 0 sts hs len at_ num many, aI G (ad 1) 68 st, aI G (ad 5) 64 pa, aI G (ad 7) 8 li, aI G (ad 9) 64 ot] := hD
  have h_1 : r_1 = (bI (isCe (nI r) (nI c_))) := h_1
  rw [h_1]
  refine B_if_ne (tgt := 19) hx hb dX9_partsChanged_10 (by decide) (fun c_10 => ?_) (fun c_10 => ?_)
  · skip
    refine lv_iload_n hx hb dX9_partsChanged_19 rfl (lv_at hl 3 rfl) ?_
    refine fin_i (ws' := (fun (_ : Unit) => [oM h ad 0 sts hs len at_ num many, aI G (ad 1) 68 st, aI G (ad 5) 64 pa, aI G (ad 7) 8 li, aI G (ad 9) 64 ot])) hA hS hP hD [] rfl [(false, 0), (false, 1), (false, 2), (false, 3), (false, 4)] (fun _ => rfl) (by decide) (run_S (As := [.int t]) (rest := []) (n9 := 1) hx hb hml hown hts hE hAb hl.1 hS hP hD [] rfl (by decide) (t_X9_isShade l G b0 _ t ) (lw_S q1767 q1768 q129 q1769) ⟨by decide, by decide, by decide +kernel⟩ ⟨Nat.le_of_ble_eq_true rfl, Nat.le_of_ble_eq_true rfl⟩ ⟨by first | exact Nat.le_of_ble_eq_true rfl | (simp only [rm_X9_partsChanged_0, rm_X9_isShade]; omega), by first | exact Nat.le_of_ble_eq_true rfl | (simp only [rm_X9_partsChanged_0, rm_X9_isShade]; omega)⟩ dX9_partsChanged_20 (Nat.le_of_ble_eq_true rfl) rfl rfl) (fun r_2 u_2 H locs h_2 hP hD hS => ?_)
    have hP : va_P G.1 vwCl [oM h ad 0 sts hs len at_ num many, aI G (ad 1) 68 st, aI G (ad 5) 64 pa, aI G (ad 7) 8 li, aI G (ad 9) 64 ot] _ := hP
    have hD : va_D A [oM h ad 0 sts hs len at_ num many, aI G (ad 1) 68 st, aI G (ad 5) 64 pa, aI G (ad 7) 8 li, aI G (ad 9) 64 ot] := hD
    have h_2 : r_2 = (bI (isSh t)) := h_2
    rw [h_2]
    refine B_if_eq (tgt := 40) hx hb dX9_partsChanged_23 (by decide) (fun c_23 => ?_) (fun c_23 => ?_)
    · skip
      exfalso; exact absurd (htt.symm.trans c_23) (by decide)
    · skip
      refine lv_aload_n hx hb dX9_partsChanged_26 rfl (lv_at hl 0 rfl) ?_
      refine lv_bipush (v := nI 8) hx hb dX9_partsChanged_27 (by decide) ?_
      refine lv_iload_n hx hb dX9_partsChanged_29 rfl (lv_at hl 1 rfl) ?_
      refine N_imul hx hb dX9_partsChanged_30 ?_
      refine lv_iload_n hx hb dX9_partsChanged_31 rfl (lv_at hl 2 rfl) ?_
      refine N_iadd hx hb dX9_partsChanged_32 ?_
      refine lv_iload_n hx hb dX9_partsChanged_33 rfl (lv_at hl 3 rfl) ?_
      refine fin_i (ws' := (fun (u_3 : Nat → Int32) => [oM h ad 0 sts hs len at_ num many, aI G (ad 1) 68 st, aI G (ad 5) 64 (splitP (upd st ((8 * r) + c_) t) L), aI G (ad 7) 8 u_3, aI G (ad 9) 64 (splitP st L)])) hA hS hP hD [0, 1, 2, 3, 4] rfl [(true, 0), (true, 1), (true, 2), (true, 3), (true, 4)] (fun _ => rfl) (by decide) (run_V (As := [.int (nI ((8 * r) + c_)), .int t]) (rest := []) (n9 := 2) hx hb hml hown hts hE hAb hl.1 hS hP hD [0, 1, 2, 3, 4] rfl (by decide) (t_X9_changedBy l G b0 _ h ad 0 sts hs len at_ num many st pa li ot ((8 * r) + c_) L t (by omega) (by omega) (by omega) (by omega)) (lw_V q2053 q2055 qs94 q129 q2056) 0 rfl rfl ⟨rfl, by decide, by decide, by decide +kernel⟩ ⟨Nat.le_of_ble_eq_true rfl, Nat.le_of_ble_eq_true rfl⟩ ⟨by first | exact Nat.le_of_ble_eq_true rfl | (simp only [rm_X9_partsChanged_0, rm_X9_changedBy]; omega), by first | exact Nat.le_of_ble_eq_true rfl | (simp only [rm_X9_partsChanged_0, rm_X9_changedBy]; omega)⟩ dX9_partsChanged_34 (Nat.le_of_ble_eq_true rfl) rfl rfl) (fun r_3 u_3 H locs h_3 hP hD hS => ?_)
      have hP : va_P G.1 vwCl [oM h ad 0 sts hs len at_ num many, aI G (ad 1) 68 st, aI G (ad 5) 64 (splitP (upd st ((8 * r) + c_) t) L), aI G (ad 7) 8 u_3, aI G (ad 9) 64 (splitP st L)] _ := hP
      have hD : va_D A [oM h ad 0 sts hs len at_ num many, aI G (ad 1) 68 st, aI G (ad 5) 64 (splitP (upd st ((8 * r) + c_) t) L), aI G (ad 7) 8 u_3, aI G (ad 9) 64 (splitP st L)] := hD
      have h_3 : r_3 = (l_sum (cneI (splitP st L) (splitP (upd st ((8 * r) + c_) t) L)) 64) := h_3
      rw [h_3]
      refine lv_goto (tgt := 45) hx hb dX9_partsChanged_37 (by decide) ?_
      have hP : va_P G.1 vwCl [oM h ad 0 sts hs len at_ num many, aI G (ad 1) 68 st, aI G (ad 5) 64 (((splitP (upd st ((8 * r) + c_) t) L, u_3, splitP st L)).1), aI G (ad 7) 8 (((splitP (upd st ((8 * r) + c_) t) L, u_3, splitP st L)).2.1), aI G (ad 9) 64 (((splitP (upd st ((8 * r) + c_) t) L, u_3, splitP st L)).2.2)] _ := hP
      have hD : va_D A [oM h ad 0 sts hs len at_ num many, aI G (ad 1) 68 st, aI G (ad 5) 64 (((splitP (upd st ((8 * r) + c_) t) L, u_3, splitP st L)).1), aI G (ad 7) 8 (((splitP (upd st ((8 * r) + c_) t) L, u_3, splitP st L)).2.1), aI G (ad 9) 64 (((splitP (upd st ((8 * r) + c_) t) L, u_3, splitP st L)).2.2)] := hD
      rw [hQQ]
      exact rt_i hx hb hr hlk  ((splitP (upd st ((8 * r) + c_) t) L, u_3, splitP st L)) dX9_partsChanged_45 hP hD hS (by first | exact Nat.le_of_ble_eq_true rfl | (simp only [rm_X9_partsChanged_0]; omega)) (by first | exact Nat.le_of_ble_eq_true rfl | (simp only [rm_X9_partsChanged_0]; omega)) (by rfl)
  · skip
    exfalso; exact absurd ((isCe_n hr_ hc_).symm.trans c_10) (by decide)
def rm_X9_partsChanged_1 : Room := ({ frames := 6, cells := 0, slots := 0, locals := 150 } : Room)
set_option maxHeartbeats 400000 in
set_option maxRecDepth 100000 in
theorem t_X9_partsChanged_1 (l : Launch) (G : GG) (b0 sz : Nat) (h : Nat) (ad : Nat → Nat) (thr sts : Nat) (hs : Bool) (len at_ num many : Nat) (st pa li ot : Nat → Int32) (r c_ t : Int32) (L : Nat) (hce : isCe r c_ = false) (hL1 : 1 ≤ L) (hL : L ≤ 3) (hst : st 64 = nI L) : CT l yX9_partsChanged cX9_partsChanged 4 (some FieldType.int) (rm_X9_partsChanged_1) G b0 [.ref h, .int r, .int c_, .int t] [oM h ad thr sts hs len at_ num many, aI G (ad 1) 68 st, aI G (ad 5) 64 pa, aI G (ad 7) 8 li, aI G (ad 9) 64 ot] sz (Ri G (fun (r_ : Int32) (_ : Unit) => r_ = nI 0) (fun (_ : Unit) => [oM h ad 1 sts hs len at_ num many, aI G (ad 1) 68 st, aI G (ad 5) 64 pa, aI G (ad 7) 8 li, aI G (ad 9) 64 ot])) := by
  refine CT.go (by decide) (Nat.le_of_ble_eq_true rfl) (fun p e s m below meth c A ls AR QQ hx hb hr hlk hml hown hnm hts hE hA hAb hsz hP hD hS hl hQQ => ?_)
  have hK := hE.1
  have hown : s.vm.findClass RX9 = some m.cls := hown
  have hl : lv_has ls 4 [(0, .ref h), (1, .int r), (2, .int c_), (3, .int t)] := hl
  clear hsz
  refine lv_aload_n hx hb dX9_partsChanged_0 rfl (lv_at hl 0 rfl) ?_
  refine lv_iconst (v := nI 0) hx hb dX9_partsChanged_1 (by decide) ?_
  refine va_put (D := G.1) (ci := 8) (v := .int (nI 0)) (ty := .int) (C := RX9) (T := TX9) (N := 21) hx hb hts in_X9 tyX9 tyX9_ok nmX9 hown hK hP hD hS 0 rfl rfl 0 (by decide) (hts _ q1667) (fun _ h9 => h9) rfl (by decide +kernel) rfl rfl (Nat.le_of_ble_eq_true rfl) dX9_partsChanged_2 (fun H locs hP hD hS => ?_)
  have hP : va_P G.1 vwCl [oM h ad 0 sts hs len at_ num many, aI G (ad 1) 68 st, aI G (ad 5) 64 pa, aI G (ad 7) 8 li, aI G (ad 9) 64 ot] _ := hP
  have hD : va_D A [oM h ad 0 sts hs len at_ num many, aI G (ad 1) 68 st, aI G (ad 5) 64 pa, aI G (ad 7) 8 li, aI G (ad 9) 64 ot] := hD
  refine lv_iload_n hx hb dX9_partsChanged_5 rfl (lv_at hl 1 rfl) ?_
  refine lv_iload_n hx hb dX9_partsChanged_6 rfl (lv_at hl 2 rfl) ?_
  refine fin_i (ws' := (fun (_ : Unit) => [oM h ad 0 sts hs len at_ num many, aI G (ad 1) 68 st, aI G (ad 5) 64 pa, aI G (ad 7) 8 li, aI G (ad 9) 64 ot])) hA hS hP hD [] rfl [(false, 0), (false, 1), (false, 2), (false, 3), (false, 4)] (fun _ => rfl) (by decide) (run_S (As := [.int r, .int c_]) (rest := []) (n9 := 2) hx hb hml hown hts hE hAb hl.1 hS hP hD [] rfl (by decide) (t_X9_isCell l G b0 _ r c_ ) (lw_S q1873 q1874 q129 q1875) ⟨by decide, by decide, by decide +kernel⟩ ⟨Nat.le_of_ble_eq_true rfl, Nat.le_of_ble_eq_true rfl⟩ ⟨by first | exact Nat.le_of_ble_eq_true rfl | (simp only [rm_X9_partsChanged_1, rm_X9_isCell]; omega), by first | exact Nat.le_of_ble_eq_true rfl | (simp only [rm_X9_partsChanged_1, rm_X9_isCell]; omega)⟩ dX9_partsChanged_7 (Nat.le_of_ble_eq_true rfl) rfl rfl) (fun r_1 u_1 H locs h_1 hP hD hS => ?_)
  have hP : va_P G.1 vwCl [oM h ad 0 sts hs len at_ num many, aI G (ad 1) 68 st, aI G (ad 5) 64 pa, aI G (ad 7) 8 li, aI G (ad 9) 64 ot] _ := hP
  have hD : va_D A [oM h ad 0 sts hs len at_ num many, aI G (ad 1) 68 st, aI G (ad 5) 64 pa, aI G (ad 7) 8 li, aI G (ad 9) 64 ot] := hD
  have h_1 : r_1 = (bI (isCe r c_)) := h_1
  rw [h_1]
  refine B_if_ne (tgt := 19) hx hb dX9_partsChanged_10 (by decide) (fun c_10 => ?_) (fun c_10 => ?_)
  · skip
    exfalso; exact absurd (hce.symm.trans c_10) (by decide)
  · skip
    refine lv_aload_n hx hb dX9_partsChanged_13 rfl (lv_at hl 0 rfl) ?_
    refine lv_iconst (v := nI 1) hx hb dX9_partsChanged_14 (by decide) ?_
    refine fin_i (ws' := (fun (_ : Unit) => [oM h ad 1 sts hs len at_ num many, aI G (ad 1) 68 st, aI G (ad 5) 64 pa, aI G (ad 7) 8 li, aI G (ad 9) 64 ot])) hA hS hP hD [0] rfl [(true, 0), (false, 1), (false, 2), (false, 3), (false, 4)] (fun _ => rfl) (by decide) (run_V (As := [.int (nI 1)]) (rest := []) (n9 := 1) hx hb hml hown hts hE hAb hl.1 hS hP hD [0] rfl (by decide) (t_X9_fails l G b0 _ h ad 0 sts hs len at_ num many 1 ) (lw_V q1739 q1741 qs60 q129 q1742) 0 rfl rfl ⟨rfl, by decide, by decide, by decide +kernel⟩ ⟨Nat.le_of_ble_eq_true rfl, Nat.le_of_ble_eq_true rfl⟩ ⟨by first | exact Nat.le_of_ble_eq_true rfl | (simp only [rm_X9_partsChanged_1, rm_X9_fails]; omega), by first | exact Nat.le_of_ble_eq_true rfl | (simp only [rm_X9_partsChanged_1, rm_X9_fails]; omega)⟩ dX9_partsChanged_15 (Nat.le_of_ble_eq_true rfl) rfl rfl) (fun r_2 u_2 H locs h_2 hP hD hS => ?_)
    have hP : va_P G.1 vwCl [oM h ad 1 sts hs len at_ num many, aI G (ad 1) 68 st, aI G (ad 5) 64 pa, aI G (ad 7) 8 li, aI G (ad 9) 64 ot] _ := hP
    have hD : va_D A [oM h ad 1 sts hs len at_ num many, aI G (ad 1) 68 st, aI G (ad 5) 64 pa, aI G (ad 7) 8 li, aI G (ad 9) 64 ot] := hD
    have h_2 : r_2 = (nI 0) := h_2
    rw [h_2]
    rw [hQQ]
    exact rt_i hx hb hr hlk  (()) dX9_partsChanged_18 hP hD hS (by first | exact Nat.le_of_ble_eq_true rfl | (simp only [rm_X9_partsChanged_1]; omega)) (by first | exact Nat.le_of_ble_eq_true rfl | (simp only [rm_X9_partsChanged_1]; omega)) (by rfl)
def rm_X9_partsChanged_2 : Room := ({ frames := 6, cells := 0, slots := 0, locals := 150 } : Room)
set_option maxHeartbeats 400000 in
set_option maxRecDepth 100000 in
theorem t_X9_partsChanged_2 (l : Launch) (G : GG) (b0 sz : Nat) (h : Nat) (ad : Nat → Nat) (thr sts : Nat) (hs : Bool) (len at_ num many : Nat) (st pa li ot : Nat → Int32) (r c_ L : Nat) (t : Int32) (hr_ : r < 8) (hc_ : c_ < 8) (hL1 : 1 ≤ L) (hL : L ≤ 3) (hst : st 64 = nI L) (htt : isSh t = false) : CT l yX9_partsChanged cX9_partsChanged 4 (some FieldType.int) (rm_X9_partsChanged_2) G b0 [.ref h, .int (nI r), .int (nI c_), .int t] [oM h ad thr sts hs len at_ num many, aI G (ad 1) 68 st, aI G (ad 5) 64 pa, aI G (ad 7) 8 li, aI G (ad 9) 64 ot] sz (Ri G (fun (r_ : Int32) (_ : Unit) => r_ = nI 0) (fun (_ : Unit) => [oM h ad 2 sts hs len at_ num many, aI G (ad 1) 68 st, aI G (ad 5) 64 pa, aI G (ad 7) 8 li, aI G (ad 9) 64 ot])) := by
  refine CT.go (by decide) (Nat.le_of_ble_eq_true rfl) (fun p e s m below meth c A ls AR QQ hx hb hr hlk hml hown hnm hts hE hA hAb hsz hP hD hS hl hQQ => ?_)
  have hK := hE.1
  have hown : s.vm.findClass RX9 = some m.cls := hown
  have hl : lv_has ls 4 [(0, .ref h), (1, .int (nI r)), (2, .int (nI c_)), (3, .int t)] := hl
  clear hsz
  refine lv_aload_n hx hb dX9_partsChanged_0 rfl (lv_at hl 0 rfl) ?_
  refine lv_iconst (v := nI 0) hx hb dX9_partsChanged_1 (by decide) ?_
  refine va_put (D := G.1) (ci := 8) (v := .int (nI 0)) (ty := .int) (C := RX9) (T := TX9) (N := 21) hx hb hts in_X9 tyX9 tyX9_ok nmX9 hown hK hP hD hS 0 rfl rfl 0 (by decide) (hts _ q1667) (fun _ h9 => h9) rfl (by decide +kernel) rfl rfl (Nat.le_of_ble_eq_true rfl) dX9_partsChanged_2 (fun H locs hP hD hS => ?_)
  have hP : va_P G.1 vwCl [oM h ad 0 sts hs len at_ num many, aI G (ad 1) 68 st, aI G (ad 5) 64 pa, aI G (ad 7) 8 li, aI G (ad 9) 64 ot] _ := hP
  have hD : va_D A [oM h ad 0 sts hs len at_ num many, aI G (ad 1) 68 st, aI G (ad 5) 64 pa, aI G (ad 7) 8 li, aI G (ad 9) 64 ot] := hD
  refine lv_iload_n hx hb dX9_partsChanged_5 rfl (lv_at hl 1 rfl) ?_
  refine lv_iload_n hx hb dX9_partsChanged_6 rfl (lv_at hl 2 rfl) ?_
  refine fin_i (ws' := (fun (_ : Unit) => [oM h ad 0 sts hs len at_ num many, aI G (ad 1) 68 st, aI G (ad 5) 64 pa, aI G (ad 7) 8 li, aI G (ad 9) 64 ot])) hA hS hP hD [] rfl [(false, 0), (false, 1), (false, 2), (false, 3), (false, 4)] (fun _ => rfl) (by decide) (run_S (As := [.int (nI r), .int (nI c_)]) (rest := []) (n9 := 2) hx hb hml hown hts hE hAb hl.1 hS hP hD [] rfl (by decide) (t_X9_isCell l G b0 _ (nI r) (nI c_) ) (lw_S q1873 q1874 q129 q1875) ⟨by decide, by decide, by decide +kernel⟩ ⟨Nat.le_of_ble_eq_true rfl, Nat.le_of_ble_eq_true rfl⟩ ⟨by first | exact Nat.le_of_ble_eq_true rfl | (simp only [rm_X9_partsChanged_2, rm_X9_isCell]; omega), by first | exact Nat.le_of_ble_eq_true rfl | (simp only [rm_X9_partsChanged_2, rm_X9_isCell]; omega)⟩ dX9_partsChanged_7 (Nat.le_of_ble_eq_true rfl) rfl rfl) (fun r_1 u_1 H locs h_1 hP hD hS => ?_)
  have hP : va_P G.1 vwCl [oM h ad 0 sts hs len at_ num many, aI G (ad 1) 68 st, aI G (ad 5) 64 pa, aI G (ad 7) 8 li, aI G (ad 9) 64 ot] _ := hP
  have hD : va_D A [oM h ad 0 sts hs len at_ num many, aI G (ad 1) 68 st, aI G (ad 5) 64 pa, aI G (ad 7) 8 li, aI G (ad 9) 64 ot] := hD
  have h_1 : r_1 = (bI (isCe (nI r) (nI c_))) := h_1
  rw [h_1]
  refine B_if_ne (tgt := 19) hx hb dX9_partsChanged_10 (by decide) (fun c_10 => ?_) (fun c_10 => ?_)
  · skip
    refine lv_iload_n hx hb dX9_partsChanged_19 rfl (lv_at hl 3 rfl) ?_
    refine fin_i (ws' := (fun (_ : Unit) => [oM h ad 0 sts hs len at_ num many, aI G (ad 1) 68 st, aI G (ad 5) 64 pa, aI G (ad 7) 8 li, aI G (ad 9) 64 ot])) hA hS hP hD [] rfl [(false, 0), (false, 1), (false, 2), (false, 3), (false, 4)] (fun _ => rfl) (by decide) (run_S (As := [.int t]) (rest := []) (n9 := 1) hx hb hml hown hts hE hAb hl.1 hS hP hD [] rfl (by decide) (t_X9_isShade l G b0 _ t ) (lw_S q1767 q1768 q129 q1769) ⟨by decide, by decide, by decide +kernel⟩ ⟨Nat.le_of_ble_eq_true rfl, Nat.le_of_ble_eq_true rfl⟩ ⟨by first | exact Nat.le_of_ble_eq_true rfl | (simp only [rm_X9_partsChanged_2, rm_X9_isShade]; omega), by first | exact Nat.le_of_ble_eq_true rfl | (simp only [rm_X9_partsChanged_2, rm_X9_isShade]; omega)⟩ dX9_partsChanged_20 (Nat.le_of_ble_eq_true rfl) rfl rfl) (fun r_2 u_2 H locs h_2 hP hD hS => ?_)
    have hP : va_P G.1 vwCl [oM h ad 0 sts hs len at_ num many, aI G (ad 1) 68 st, aI G (ad 5) 64 pa, aI G (ad 7) 8 li, aI G (ad 9) 64 ot] _ := hP
    have hD : va_D A [oM h ad 0 sts hs len at_ num many, aI G (ad 1) 68 st, aI G (ad 5) 64 pa, aI G (ad 7) 8 li, aI G (ad 9) 64 ot] := hD
    have h_2 : r_2 = (bI (isSh t)) := h_2
    rw [h_2]
    refine B_if_eq (tgt := 40) hx hb dX9_partsChanged_23 (by decide) (fun c_23 => ?_) (fun c_23 => ?_)
    · skip
      refine lv_aload_n hx hb dX9_partsChanged_40 rfl (lv_at hl 0 rfl) ?_
      refine lv_iconst (v := nI 2) hx hb dX9_partsChanged_41 (by decide) ?_
      refine fin_i (ws' := (fun (_ : Unit) => [oM h ad 2 sts hs len at_ num many, aI G (ad 1) 68 st, aI G (ad 5) 64 pa, aI G (ad 7) 8 li, aI G (ad 9) 64 ot])) hA hS hP hD [0] rfl [(true, 0), (false, 1), (false, 2), (false, 3), (false, 4)] (fun _ => rfl) (by decide) (run_V (As := [.int (nI 2)]) (rest := []) (n9 := 1) hx hb hml hown hts hE hAb hl.1 hS hP hD [0] rfl (by decide) (t_X9_fails l G b0 _ h ad 0 sts hs len at_ num many 2 ) (lw_V q1739 q1741 qs60 q129 q1742) 0 rfl rfl ⟨rfl, by decide, by decide, by decide +kernel⟩ ⟨Nat.le_of_ble_eq_true rfl, Nat.le_of_ble_eq_true rfl⟩ ⟨by first | exact Nat.le_of_ble_eq_true rfl | (simp only [rm_X9_partsChanged_2, rm_X9_fails]; omega), by first | exact Nat.le_of_ble_eq_true rfl | (simp only [rm_X9_partsChanged_2, rm_X9_fails]; omega)⟩ dX9_partsChanged_42 (Nat.le_of_ble_eq_true rfl) rfl rfl) (fun r_3 u_3 H locs h_3 hP hD hS => ?_)
      have hP : va_P G.1 vwCl [oM h ad 2 sts hs len at_ num many, aI G (ad 1) 68 st, aI G (ad 5) 64 pa, aI G (ad 7) 8 li, aI G (ad 9) 64 ot] _ := hP
      have hD : va_D A [oM h ad 2 sts hs len at_ num many, aI G (ad 1) 68 st, aI G (ad 5) 64 pa, aI G (ad 7) 8 li, aI G (ad 9) 64 ot] := hD
      have h_3 : r_3 = (nI 0) := h_3
      rw [h_3]
      rw [hQQ]
      exact rt_i hx hb hr hlk  (()) dX9_partsChanged_45 hP hD hS (by first | exact Nat.le_of_ble_eq_true rfl | (simp only [rm_X9_partsChanged_2]; omega)) (by first | exact Nat.le_of_ble_eq_true rfl | (simp only [rm_X9_partsChanged_2]; omega)) (by rfl)
    · skip
      exfalso; exact absurd (htt.symm.trans c_23) (by decide)
  · skip
    exfalso; exact absurd ((isCe_n hr_ hc_).symm.trans c_10) (by decide)
def rm_X9_setShade_0 : Room := ({ frames := 6, cells := 0, slots := 0, locals := 150 } : Room)
set_option maxHeartbeats 400000 in
set_option maxRecDepth 100000 in
theorem t_X9_setShade_0 (l : Launch) (G : GG) (b0 sz : Nat) (h : Nat) (ad : Nat → Nat) (thr sts : Nat) (hs : Bool) (len at_ num many : Nat) (st hi : Nat → Int32) (r c_ : Nat) (t : Int32) (hr_ : r < 8) (hc_ : c_ < 8) (hs6 : sts ≤ 6) (htt : isSh t = true) : CT l yX9_setShade cX9_setShade 5 (some FieldType.int) (rm_X9_setShade_0) G b0 [.ref h, .int (nI r), .int (nI c_), .int t] [oM h ad thr sts hs len at_ num many, aI G (ad 1) 68 st, aI G (ad 2) 408 hi] sz (Ri G (fun (r_ : Int32) (_ : Unit) => r_ = st (8 * r + c_)) (fun (_ : Unit) => [oM h ad 0 (recN sts) hs len at_ num many, aI G (ad 1) 68 (upd st (8 * r + c_) t), aI G (ad 2) 408 (recH st hi sts)])) := by
  refine CT.go (by decide) (Nat.le_of_ble_eq_true rfl) (fun p e s m below meth c A ls AR QQ hx hb hr hlk hml hown hnm hts hE hA hAb hsz hP hD hS hl hQQ => ?_)
  have hK := hE.1
  have hown : s.vm.findClass RX9 = some m.cls := hown
  have hl : lv_has ls 5 [(0, .ref h), (1, .int (nI r)), (2, .int (nI c_)), (3, .int t)] := hl
  clear hsz
  refine lv_aload_n hx hb dX9_setShade_0 rfl (lv_at hl 0 rfl) ?_
  refine lv_iconst (v := nI 0) hx hb dX9_setShade_1 (by decide) ?_
  refine va_put (D := G.1) (ci := 8) (v := .int (nI 0)) (ty := .int) (C := RX9) (T := TX9) (N := 21) hx hb hts in_X9 tyX9 tyX9_ok nmX9 hown hK hP hD hS 0 rfl rfl 0 (by decide) (hts _ q1667) (fun _ h9 => h9) rfl (by decide +kernel) rfl rfl (Nat.le_of_ble_eq_true rfl) dX9_setShade_2 (fun H locs hP hD hS => ?_)
  have hP : va_P G.1 vwCl [oM h ad 0 sts hs len at_ num many, aI G (ad 1) 68 st, aI G (ad 2) 408 hi] _ := hP
  have hD : va_D A [oM h ad 0 sts hs len at_ num many, aI G (ad 1) 68 st, aI G (ad 2) 408 hi] := hD
  refine lv_iload_n hx hb dX9_setShade_5 rfl (lv_at hl 1 rfl) ?_
  refine lv_iload_n hx hb dX9_setShade_6 rfl (lv_at hl 2 rfl) ?_
  refine fin_i (ws' := (fun (_ : Unit) => [oM h ad 0 sts hs len at_ num many, aI G (ad 1) 68 st, aI G (ad 2) 408 hi])) hA hS hP hD [] rfl [(false, 0), (false, 1), (false, 2)] (fun _ => rfl) (by decide) (run_S (As := [.int (nI r), .int (nI c_)]) (rest := []) (n9 := 2) hx hb hml hown hts hE hAb hl.1 hS hP hD [] rfl (by decide) (t_X9_isCell l G b0 _ (nI r) (nI c_) ) (lw_S q1873 q1874 q129 q1875) ⟨by decide, by decide, by decide +kernel⟩ ⟨Nat.le_of_ble_eq_true rfl, Nat.le_of_ble_eq_true rfl⟩ ⟨by first | exact Nat.le_of_ble_eq_true rfl | (simp only [rm_X9_setShade_0, rm_X9_isCell]; omega), by first | exact Nat.le_of_ble_eq_true rfl | (simp only [rm_X9_setShade_0, rm_X9_isCell]; omega)⟩ dX9_setShade_7 (Nat.le_of_ble_eq_true rfl) rfl rfl) (fun r_1 u_1 H locs h_1 hP hD hS => ?_)
  have hP : va_P G.1 vwCl [oM h ad 0 sts hs len at_ num many, aI G (ad 1) 68 st, aI G (ad 2) 408 hi] _ := hP
  have hD : va_D A [oM h ad 0 sts hs len at_ num many, aI G (ad 1) 68 st, aI G (ad 2) 408 hi] := hD
  have h_1 : r_1 = (bI (isCe (nI r) (nI c_))) := h_1
  rw [h_1]
  refine B_if_ne (tgt := 19) hx hb dX9_setShade_10 (by decide) (fun c_10 => ?_) (fun c_10 => ?_)
  · skip
    refine lv_iload_n hx hb dX9_setShade_19 rfl (lv_at hl 3 rfl) ?_
    refine fin_i (ws' := (fun (_ : Unit) => [oM h ad 0 sts hs len at_ num many, aI G (ad 1) 68 st, aI G (ad 2) 408 hi])) hA hS hP hD [] rfl [(false, 0), (false, 1), (false, 2)] (fun _ => rfl) (by decide) (run_S (As := [.int t]) (rest := []) (n9 := 1) hx hb hml hown hts hE hAb hl.1 hS hP hD [] rfl (by decide) (t_X9_isShade l G b0 _ t ) (lw_S q1767 q1768 q129 q1769) ⟨by decide, by decide, by decide +kernel⟩ ⟨Nat.le_of_ble_eq_true rfl, Nat.le_of_ble_eq_true rfl⟩ ⟨by first | exact Nat.le_of_ble_eq_true rfl | (simp only [rm_X9_setShade_0, rm_X9_isShade]; omega), by first | exact Nat.le_of_ble_eq_true rfl | (simp only [rm_X9_setShade_0, rm_X9_isShade]; omega)⟩ dX9_setShade_20 (Nat.le_of_ble_eq_true rfl) rfl rfl) (fun r_2 u_2 H locs h_2 hP hD hS => ?_)
    have hP : va_P G.1 vwCl [oM h ad 0 sts hs len at_ num many, aI G (ad 1) 68 st, aI G (ad 2) 408 hi] _ := hP
    have hD : va_D A [oM h ad 0 sts hs len at_ num many, aI G (ad 1) 68 st, aI G (ad 2) 408 hi] := hD
    have h_2 : r_2 = (bI (isSh t)) := h_2
    rw [h_2]
    refine B_if_ne (tgt := 32) hx hb dX9_setShade_23 (by decide) (fun c_23 => ?_) (fun c_23 => ?_)
    · skip
      refine lv_aload_n hx hb dX9_setShade_32 rfl (lv_at hl 0 rfl) ?_
      refine fin_v (ws' := (fun (_ : Unit) => [oM h ad 0 (recN sts) hs len at_ num many, aI G (ad 1) 68 st, aI G (ad 2) 408 (recH st hi sts)])) hA hS hP hD [0, 1, 2] rfl [(true, 0), (true, 1), (true, 2)] (fun _ => rfl) (by decide) (run_V (As := []) (rest := []) (n9 := 0) hx hb hml hown hts hE hAb hl.1 hS hP hD [0, 1, 2] rfl (by decide) (t_X9_record l G b0 _ h ad 0 sts hs len at_ num many st hi (by omega)) (lw_V q1755 q1757 qs62 q129 q1758) 0 rfl rfl ⟨rfl, by decide, by decide, by decide +kernel⟩ ⟨Nat.le_of_ble_eq_true rfl, Nat.le_of_ble_eq_true rfl⟩ ⟨by first | exact Nat.le_of_ble_eq_true rfl | (simp only [rm_X9_setShade_0, rm_X9_record]; omega), by first | exact Nat.le_of_ble_eq_true rfl | (simp only [rm_X9_setShade_0, rm_X9_record]; omega)⟩ dX9_setShade_33 (Nat.le_of_ble_eq_true rfl) rfl rfl) (fun u_3 H locs h_3 hP hD hS => ?_)
      have hP : va_P G.1 vwCl [oM h ad 0 (recN sts) hs len at_ num many, aI G (ad 1) 68 st, aI G (ad 2) 408 (recH st hi sts)] _ := hP
      have hD : va_D A [oM h ad 0 (recN sts) hs len at_ num many, aI G (ad 1) 68 st, aI G (ad 2) 408 (recH st hi sts)] := hD
      refine lv_aload_n hx hb dX9_setShade_36 rfl (lv_at hl 0 rfl) ?_
      refine va_get (D := G.1) (ci := 8) (v := .ref (ad 1)) (C := RX9) (T := TX9) (N := 21) hx hb hts in_X9 hown hK hP 0 rfl rfl 1 (by decide) (hts _ q1668) (fun _ h9 => h9) rfl dX9_setShade_37 ?_
      refine lv_bipush (v := nI 8) hx hb dX9_setShade_40 (by decide) ?_
      refine lv_iload_n hx hb dX9_setShade_42 rfl (lv_at hl 1 rfl) ?_
      refine N_imul hx hb dX9_setShade_43 ?_
      refine lv_iload_n hx hb dX9_setShade_44 rfl (lv_at hl 2 rfl) ?_
      refine N_iadd hx hb dX9_setShade_45 ?_
      refine N_iald hx hb dX9_setShade_46 hK hP 1 0 rfl rfl (by omega) (by omega) ?_
      refine lv_istore (lv' := [(4, .int (st ((8 * r) + c_))), (0, .ref h), (1, .int (nI r)), (2, .int (nI c_)), (3, .int t)]) hx hb dX9_setShade_47 hl (by decide) rfl (fun ls hl => ?_)
      refine lv_aload_n hx hb dX9_setShade_49 rfl (lv_at hl 1 rfl) ?_
      refine va_get (D := G.1) (ci := 8) (v := .ref (ad 1)) (C := RX9) (T := TX9) (N := 21) hx hb hts in_X9 hown hK hP 0 rfl rfl 1 (by decide) (hts _ q1668) (fun _ h9 => h9) rfl dX9_setShade_50 ?_
      refine lv_bipush (v := nI 8) hx hb dX9_setShade_53 (by decide) ?_
      refine lv_iload_n hx hb dX9_setShade_55 rfl (lv_at hl 2 rfl) ?_
      refine N_imul hx hb dX9_setShade_56 ?_
      refine lv_iload_n hx hb dX9_setShade_57 rfl (lv_at hl 3 rfl) ?_
      refine N_iadd hx hb dX9_setShade_58 ?_
      refine lv_iload_n hx hb dX9_setShade_59 rfl (lv_at hl 4 rfl) ?_
      refine N_iast (ws' := [oM h ad 0 (recN sts) hs len at_ num many, aI G (ad 1) 68 (upd st ((8 * r) + c_) t), aI G (ad 2) 408 (recH st hi sts)]) hx hb dX9_setShade_60 hK hP hD hS 1 0 rfl rfl (by omega) (by omega) rfl (fun H locs hP hD hS => ?_)
      refine lv_iload hx hb dX9_setShade_61 (lv_at hl 0 rfl) ?_
      have hP : va_P G.1 vwCl [oM h ad 0 (recN sts) hs len at_ num many, aI G (ad 1) 68 (upd st (8 * r + c_) t), aI G (ad 2) 408 (recH st hi sts)] _ := hP
      have hD : va_D A [oM h ad 0 (recN sts) hs len at_ num many, aI G (ad 1) 68 (upd st (8 * r + c_) t), aI G (ad 2) 408 (recH st hi sts)] := hD
      rw [hQQ]
      exact rt_i hx hb hr hlk  (()) dX9_setShade_63 hP hD hS (by first | exact Nat.le_of_ble_eq_true rfl | (simp only [rm_X9_setShade_0]; omega)) (by first | exact Nat.le_of_ble_eq_true rfl | (simp only [rm_X9_setShade_0]; omega)) (by rfl)
    · skip
      exfalso; exact absurd (htt.symm.trans c_23) (by decide)
  · skip
    exfalso; exact absurd ((isCe_n hr_ hc_).symm.trans c_10) (by decide)
def rm_X9_setShade_1 : Room := ({ frames := 6, cells := 0, slots := 0, locals := 150 } : Room)
set_option maxHeartbeats 400000 in
set_option maxRecDepth 100000 in
theorem t_X9_setShade_1 (l : Launch) (G : GG) (b0 sz : Nat) (h : Nat) (ad : Nat → Nat) (thr sts : Nat) (hs : Bool) (len at_ num many : Nat) (st hi : Nat → Int32) (r c_ t : Int32) (hce : isCe r c_ = false) : CT l yX9_setShade cX9_setShade 5 (some FieldType.int) (rm_X9_setShade_1) G b0 [.ref h, .int r, .int c_, .int t] [oM h ad thr sts hs len at_ num many, aI G (ad 1) 68 st, aI G (ad 2) 408 hi] sz (Ri G (fun (r_ : Int32) (_ : Unit) => r_ = nI 0) (fun (_ : Unit) => [oM h ad 1 sts hs len at_ num many, aI G (ad 1) 68 st, aI G (ad 2) 408 hi])) := by
  refine CT.go (by decide) (Nat.le_of_ble_eq_true rfl) (fun p e s m below meth c A ls AR QQ hx hb hr hlk hml hown hnm hts hE hA hAb hsz hP hD hS hl hQQ => ?_)
  have hK := hE.1
  have hown : s.vm.findClass RX9 = some m.cls := hown
  have hl : lv_has ls 5 [(0, .ref h), (1, .int r), (2, .int c_), (3, .int t)] := hl
  clear hsz
  refine lv_aload_n hx hb dX9_setShade_0 rfl (lv_at hl 0 rfl) ?_
  refine lv_iconst (v := nI 0) hx hb dX9_setShade_1 (by decide) ?_
  refine va_put (D := G.1) (ci := 8) (v := .int (nI 0)) (ty := .int) (C := RX9) (T := TX9) (N := 21) hx hb hts in_X9 tyX9 tyX9_ok nmX9 hown hK hP hD hS 0 rfl rfl 0 (by decide) (hts _ q1667) (fun _ h9 => h9) rfl (by decide +kernel) rfl rfl (Nat.le_of_ble_eq_true rfl) dX9_setShade_2 (fun H locs hP hD hS => ?_)
  have hP : va_P G.1 vwCl [oM h ad 0 sts hs len at_ num many, aI G (ad 1) 68 st, aI G (ad 2) 408 hi] _ := hP
  have hD : va_D A [oM h ad 0 sts hs len at_ num many, aI G (ad 1) 68 st, aI G (ad 2) 408 hi] := hD
  refine lv_iload_n hx hb dX9_setShade_5 rfl (lv_at hl 1 rfl) ?_
  refine lv_iload_n hx hb dX9_setShade_6 rfl (lv_at hl 2 rfl) ?_
  refine fin_i (ws' := (fun (_ : Unit) => [oM h ad 0 sts hs len at_ num many, aI G (ad 1) 68 st, aI G (ad 2) 408 hi])) hA hS hP hD [] rfl [(false, 0), (false, 1), (false, 2)] (fun _ => rfl) (by decide) (run_S (As := [.int r, .int c_]) (rest := []) (n9 := 2) hx hb hml hown hts hE hAb hl.1 hS hP hD [] rfl (by decide) (t_X9_isCell l G b0 _ r c_ ) (lw_S q1873 q1874 q129 q1875) ⟨by decide, by decide, by decide +kernel⟩ ⟨Nat.le_of_ble_eq_true rfl, Nat.le_of_ble_eq_true rfl⟩ ⟨by first | exact Nat.le_of_ble_eq_true rfl | (simp only [rm_X9_setShade_1, rm_X9_isCell]; omega), by first | exact Nat.le_of_ble_eq_true rfl | (simp only [rm_X9_setShade_1, rm_X9_isCell]; omega)⟩ dX9_setShade_7 (Nat.le_of_ble_eq_true rfl) rfl rfl) (fun r_1 u_1 H locs h_1 hP hD hS => ?_)
  have hP : va_P G.1 vwCl [oM h ad 0 sts hs len at_ num many, aI G (ad 1) 68 st, aI G (ad 2) 408 hi] _ := hP
  have hD : va_D A [oM h ad 0 sts hs len at_ num many, aI G (ad 1) 68 st, aI G (ad 2) 408 hi] := hD
  have h_1 : r_1 = (bI (isCe r c_)) := h_1
  rw [h_1]
  refine B_if_ne (tgt := 19) hx hb dX9_setShade_10 (by decide) (fun c_10 => ?_) (fun c_10 => ?_)
  · skip
    exfalso; exact absurd (hce.symm.trans c_10) (by decide)
  · skip
    refine lv_aload_n hx hb dX9_setShade_13 rfl (lv_at hl 0 rfl) ?_
    refine lv_iconst (v := nI 1) hx hb dX9_setShade_14 (by decide) ?_
    refine fin_i (ws' := (fun (_ : Unit) => [oM h ad 1 sts hs len at_ num many, aI G (ad 1) 68 st, aI G (ad 2) 408 hi])) hA hS hP hD [0] rfl [(true, 0), (false, 1), (false, 2)] (fun _ => rfl) (by decide) (run_V (As := [.int (nI 1)]) (rest := []) (n9 := 1) hx hb hml hown hts hE hAb hl.1 hS hP hD [0] rfl (by decide) (t_X9_fails l G b0 _ h ad 0 sts hs len at_ num many 1 ) (lw_V q1739 q1741 qs60 q129 q1742) 0 rfl rfl ⟨rfl, by decide, by decide, by decide +kernel⟩ ⟨Nat.le_of_ble_eq_true rfl, Nat.le_of_ble_eq_true rfl⟩ ⟨by first | exact Nat.le_of_ble_eq_true rfl | (simp only [rm_X9_setShade_1, rm_X9_fails]; omega), by first | exact Nat.le_of_ble_eq_true rfl | (simp only [rm_X9_setShade_1, rm_X9_fails]; omega)⟩ dX9_setShade_15 (Nat.le_of_ble_eq_true rfl) rfl rfl) (fun r_2 u_2 H locs h_2 hP hD hS => ?_)
    have hP : va_P G.1 vwCl [oM h ad 1 sts hs len at_ num many, aI G (ad 1) 68 st, aI G (ad 2) 408 hi] _ := hP
    have hD : va_D A [oM h ad 1 sts hs len at_ num many, aI G (ad 1) 68 st, aI G (ad 2) 408 hi] := hD
    have h_2 : r_2 = (nI 0) := h_2
    rw [h_2]
    rw [hQQ]
    exact rt_i hx hb hr hlk  (()) dX9_setShade_18 hP hD hS (by first | exact Nat.le_of_ble_eq_true rfl | (simp only [rm_X9_setShade_1]; omega)) (by first | exact Nat.le_of_ble_eq_true rfl | (simp only [rm_X9_setShade_1]; omega)) (by rfl)
def rm_X9_setShade_2 : Room := ({ frames := 6, cells := 0, slots := 0, locals := 150 } : Room)
set_option maxHeartbeats 400000 in
set_option maxRecDepth 100000 in
theorem t_X9_setShade_2 (l : Launch) (G : GG) (b0 sz : Nat) (h : Nat) (ad : Nat → Nat) (thr sts : Nat) (hs : Bool) (len at_ num many : Nat) (st hi : Nat → Int32) (r c_ : Nat) (t : Int32) (hr_ : r < 8) (hc_ : c_ < 8) (htt : isSh t = false) : CT l yX9_setShade cX9_setShade 5 (some FieldType.int) (rm_X9_setShade_2) G b0 [.ref h, .int (nI r), .int (nI c_), .int t] [oM h ad thr sts hs len at_ num many, aI G (ad 1) 68 st, aI G (ad 2) 408 hi] sz (Ri G (fun (r_ : Int32) (_ : Unit) => r_ = nI 0) (fun (_ : Unit) => [oM h ad 2 sts hs len at_ num many, aI G (ad 1) 68 st, aI G (ad 2) 408 hi])) := by
  refine CT.go (by decide) (Nat.le_of_ble_eq_true rfl) (fun p e s m below meth c A ls AR QQ hx hb hr hlk hml hown hnm hts hE hA hAb hsz hP hD hS hl hQQ => ?_)
  have hK := hE.1
  have hown : s.vm.findClass RX9 = some m.cls := hown
  have hl : lv_has ls 5 [(0, .ref h), (1, .int (nI r)), (2, .int (nI c_)), (3, .int t)] := hl
  clear hsz
  refine lv_aload_n hx hb dX9_setShade_0 rfl (lv_at hl 0 rfl) ?_
  refine lv_iconst (v := nI 0) hx hb dX9_setShade_1 (by decide) ?_
  refine va_put (D := G.1) (ci := 8) (v := .int (nI 0)) (ty := .int) (C := RX9) (T := TX9) (N := 21) hx hb hts in_X9 tyX9 tyX9_ok nmX9 hown hK hP hD hS 0 rfl rfl 0 (by decide) (hts _ q1667) (fun _ h9 => h9) rfl (by decide +kernel) rfl rfl (Nat.le_of_ble_eq_true rfl) dX9_setShade_2 (fun H locs hP hD hS => ?_)
  have hP : va_P G.1 vwCl [oM h ad 0 sts hs len at_ num many, aI G (ad 1) 68 st, aI G (ad 2) 408 hi] _ := hP
  have hD : va_D A [oM h ad 0 sts hs len at_ num many, aI G (ad 1) 68 st, aI G (ad 2) 408 hi] := hD
  refine lv_iload_n hx hb dX9_setShade_5 rfl (lv_at hl 1 rfl) ?_
  refine lv_iload_n hx hb dX9_setShade_6 rfl (lv_at hl 2 rfl) ?_
  refine fin_i (ws' := (fun (_ : Unit) => [oM h ad 0 sts hs len at_ num many, aI G (ad 1) 68 st, aI G (ad 2) 408 hi])) hA hS hP hD [] rfl [(false, 0), (false, 1), (false, 2)] (fun _ => rfl) (by decide) (run_S (As := [.int (nI r), .int (nI c_)]) (rest := []) (n9 := 2) hx hb hml hown hts hE hAb hl.1 hS hP hD [] rfl (by decide) (t_X9_isCell l G b0 _ (nI r) (nI c_) ) (lw_S q1873 q1874 q129 q1875) ⟨by decide, by decide, by decide +kernel⟩ ⟨Nat.le_of_ble_eq_true rfl, Nat.le_of_ble_eq_true rfl⟩ ⟨by first | exact Nat.le_of_ble_eq_true rfl | (simp only [rm_X9_setShade_2, rm_X9_isCell]; omega), by first | exact Nat.le_of_ble_eq_true rfl | (simp only [rm_X9_setShade_2, rm_X9_isCell]; omega)⟩ dX9_setShade_7 (Nat.le_of_ble_eq_true rfl) rfl rfl) (fun r_1 u_1 H locs h_1 hP hD hS => ?_)
  have hP : va_P G.1 vwCl [oM h ad 0 sts hs len at_ num many, aI G (ad 1) 68 st, aI G (ad 2) 408 hi] _ := hP
  have hD : va_D A [oM h ad 0 sts hs len at_ num many, aI G (ad 1) 68 st, aI G (ad 2) 408 hi] := hD
  have h_1 : r_1 = (bI (isCe (nI r) (nI c_))) := h_1
  rw [h_1]
  refine B_if_ne (tgt := 19) hx hb dX9_setShade_10 (by decide) (fun c_10 => ?_) (fun c_10 => ?_)
  · skip
    refine lv_iload_n hx hb dX9_setShade_19 rfl (lv_at hl 3 rfl) ?_
    refine fin_i (ws' := (fun (_ : Unit) => [oM h ad 0 sts hs len at_ num many, aI G (ad 1) 68 st, aI G (ad 2) 408 hi])) hA hS hP hD [] rfl [(false, 0), (false, 1), (false, 2)] (fun _ => rfl) (by decide) (run_S (As := [.int t]) (rest := []) (n9 := 1) hx hb hml hown hts hE hAb hl.1 hS hP hD [] rfl (by decide) (t_X9_isShade l G b0 _ t ) (lw_S q1767 q1768 q129 q1769) ⟨by decide, by decide, by decide +kernel⟩ ⟨Nat.le_of_ble_eq_true rfl, Nat.le_of_ble_eq_true rfl⟩ ⟨by first | exact Nat.le_of_ble_eq_true rfl | (simp only [rm_X9_setShade_2, rm_X9_isShade]; omega), by first | exact Nat.le_of_ble_eq_true rfl | (simp only [rm_X9_setShade_2, rm_X9_isShade]; omega)⟩ dX9_setShade_20 (Nat.le_of_ble_eq_true rfl) rfl rfl) (fun r_2 u_2 H locs h_2 hP hD hS => ?_)
    have hP : va_P G.1 vwCl [oM h ad 0 sts hs len at_ num many, aI G (ad 1) 68 st, aI G (ad 2) 408 hi] _ := hP
    have hD : va_D A [oM h ad 0 sts hs len at_ num many, aI G (ad 1) 68 st, aI G (ad 2) 408 hi] := hD
    have h_2 : r_2 = (bI (isSh t)) := h_2
    rw [h_2]
    refine B_if_ne (tgt := 32) hx hb dX9_setShade_23 (by decide) (fun c_23 => ?_) (fun c_23 => ?_)
    · skip
      exfalso; exact absurd (htt.symm.trans c_23) (by decide)
    · skip
      refine lv_aload_n hx hb dX9_setShade_26 rfl (lv_at hl 0 rfl) ?_
      refine lv_iconst (v := nI 2) hx hb dX9_setShade_27 (by decide) ?_
      refine fin_i (ws' := (fun (_ : Unit) => [oM h ad 2 sts hs len at_ num many, aI G (ad 1) 68 st, aI G (ad 2) 408 hi])) hA hS hP hD [0] rfl [(true, 0), (false, 1), (false, 2)] (fun _ => rfl) (by decide) (run_V (As := [.int (nI 2)]) (rest := []) (n9 := 1) hx hb hml hown hts hE hAb hl.1 hS hP hD [0] rfl (by decide) (t_X9_fails l G b0 _ h ad 0 sts hs len at_ num many 2 ) (lw_V q1739 q1741 qs60 q129 q1742) 0 rfl rfl ⟨rfl, by decide, by decide, by decide +kernel⟩ ⟨Nat.le_of_ble_eq_true rfl, Nat.le_of_ble_eq_true rfl⟩ ⟨by first | exact Nat.le_of_ble_eq_true rfl | (simp only [rm_X9_setShade_2, rm_X9_fails]; omega), by first | exact Nat.le_of_ble_eq_true rfl | (simp only [rm_X9_setShade_2, rm_X9_fails]; omega)⟩ dX9_setShade_28 (Nat.le_of_ble_eq_true rfl) rfl rfl) (fun r_3 u_3 H locs h_3 hP hD hS => ?_)
      have hP : va_P G.1 vwCl [oM h ad 2 sts hs len at_ num many, aI G (ad 1) 68 st, aI G (ad 2) 408 hi] _ := hP
      have hD : va_D A [oM h ad 2 sts hs len at_ num many, aI G (ad 1) 68 st, aI G (ad 2) 408 hi] := hD
      have h_3 : r_3 = (nI 0) := h_3
      rw [h_3]
      rw [hQQ]
      exact rt_i hx hb hr hlk  (()) dX9_setShade_31 hP hD hS (by first | exact Nat.le_of_ble_eq_true rfl | (simp only [rm_X9_setShade_2]; omega)) (by first | exact Nat.le_of_ble_eq_true rfl | (simp only [rm_X9_setShade_2]; omega)) (by rfl)
  · skip
    exfalso; exact absurd ((isCe_n hr_ hc_).symm.trans c_10) (by decide)
def rm_X9_fillRow_0 : Room := ({ frames := 6, cells := 0, slots := 0, locals := 150 } : Room)
set_option maxHeartbeats 400000 in
set_option maxRecDepth 100000 in
theorem t_X9_fillRow_0 (l : Launch) (G : GG) (b0 sz : Nat) (h : Nat) (ad : Nat → Nat) (thr sts : Nat) (hs : Bool) (len at_ num many : Nat) (st hi : Nat → Int32) (r : Nat) (t b : Int32) (hr_ : r < 8) (htt : isSh t = true) (hby : inB b (-36) (nI 36) = true) (h3t : isSh (t + nI 7 * b) = true) (hs6 : sts ≤ 6) : CT l yX9_fillRow cX9_fillRow 6 (some FieldType.int) (rm_X9_fillRow_0) G b0 [.ref h, .int (nI r), .int t, .int b] [oM h ad thr sts hs len at_ num many, aI G (ad 1) 68 st, aI G (ad 2) 408 hi] sz (Ri G (fun (r_ : Int32) (_ : Unit) => r_ = l_sum (rowN r t b st) 8) (fun (_ : Unit) => [oM h ad 0 (recN sts) hs len at_ num many, aI G (ad 1) 68 (rowF r t b 8 st), aI G (ad 2) 408 (recH st hi sts)])) := by
  refine CT.go (by decide) (Nat.le_of_ble_eq_true rfl) (fun p e s m below meth c A ls AR QQ hx hb hr hlk hml hown hnm hts hE hA hAb hsz hP hD hS hl hQQ => ?_)
  have hK := hE.1
  have hown : s.vm.findClass RX9 = some m.cls := hown
  have hl : lv_has ls 6 [(0, .ref h), (1, .int (nI r)), (2, .int t), (3, .int b)] := hl
  clear hsz
  refine lv_aload_n hx hb dX9_fillRow_0 rfl (lv_at hl 0 rfl) ?_
  refine lv_iconst (v := nI 0) hx hb dX9_fillRow_1 (by decide) ?_
  refine va_put (D := G.1) (ci := 8) (v := .int (nI 0)) (ty := .int) (C := RX9) (T := TX9) (N := 21) hx hb hts in_X9 tyX9 tyX9_ok nmX9 hown hK hP hD hS 0 rfl rfl 0 (by decide) (hts _ q1667) (fun _ h9 => h9) rfl (by decide +kernel) rfl rfl (Nat.le_of_ble_eq_true rfl) dX9_fillRow_2 (fun H locs hP hD hS => ?_)
  have hP : va_P G.1 vwCl [oM h ad 0 sts hs len at_ num many, aI G (ad 1) 68 st, aI G (ad 2) 408 hi] _ := hP
  have hD : va_D A [oM h ad 0 sts hs len at_ num many, aI G (ad 1) 68 st, aI G (ad 2) 408 hi] := hD
  refine lv_iload_n hx hb dX9_fillRow_5 rfl (lv_at hl 1 rfl) ?_
  refine lv_iconst (v := nI 0) hx hb dX9_fillRow_6 (by decide) ?_
  refine lv_bipush (v := nI 7) hx hb dX9_fillRow_7 (by decide) ?_
  refine fin_i (ws' := (fun (_ : Unit) => [oM h ad 0 sts hs len at_ num many, aI G (ad 1) 68 st, aI G (ad 2) 408 hi])) hA hS hP hD [] rfl [(false, 0), (false, 1), (false, 2)] (fun _ => rfl) (by decide) (run_S (As := [.int (nI r), .int (nI 0), .int (nI 7)]) (rest := []) (n9 := 3) hx hb hml hown hts hE hAb hl.1 hS hP hD [] rfl (by decide) (t_X9_within l G b0 _ (nI r) (nI 0) (nI 7) ) (lw_S q1770 q1771 q129 q1772) ⟨by decide, by decide, by decide +kernel⟩ ⟨Nat.le_of_ble_eq_true rfl, Nat.le_of_ble_eq_true rfl⟩ ⟨by first | exact Nat.le_of_ble_eq_true rfl | (simp only [rm_X9_fillRow_0, rm_X9_within]; omega), by first | exact Nat.le_of_ble_eq_true rfl | (simp only [rm_X9_fillRow_0, rm_X9_within]; omega)⟩ dX9_fillRow_9 (Nat.le_of_ble_eq_true rfl) rfl rfl) (fun r_1 u_1 H locs h_1 hP hD hS => ?_)
  have hP : va_P G.1 vwCl [oM h ad 0 sts hs len at_ num many, aI G (ad 1) 68 st, aI G (ad 2) 408 hi] _ := hP
  have hD : va_D A [oM h ad 0 sts hs len at_ num many, aI G (ad 1) 68 st, aI G (ad 2) 408 hi] := hD
  have h_1 : r_1 = (bI (inB (nI r) (nI 0) (nI 7))) := h_1
  rw [h_1]
  refine B_if_ne (tgt := 21) hx hb dX9_fillRow_12 (by decide) (fun c_12 => ?_) (fun c_12 => ?_)
  · skip
    refine lv_iload_n hx hb dX9_fillRow_21 rfl (lv_at hl 2 rfl) ?_
    refine fin_i (ws' := (fun (_ : Unit) => [oM h ad 0 sts hs len at_ num many, aI G (ad 1) 68 st, aI G (ad 2) 408 hi])) hA hS hP hD [] rfl [(false, 0), (false, 1), (false, 2)] (fun _ => rfl) (by decide) (run_S (As := [.int t]) (rest := []) (n9 := 1) hx hb hml hown hts hE hAb hl.1 hS hP hD [] rfl (by decide) (t_X9_isShade l G b0 _ t ) (lw_S q1767 q1768 q129 q1769) ⟨by decide, by decide, by decide +kernel⟩ ⟨Nat.le_of_ble_eq_true rfl, Nat.le_of_ble_eq_true rfl⟩ ⟨by first | exact Nat.le_of_ble_eq_true rfl | (simp only [rm_X9_fillRow_0, rm_X9_isShade]; omega), by first | exact Nat.le_of_ble_eq_true rfl | (simp only [rm_X9_fillRow_0, rm_X9_isShade]; omega)⟩ dX9_fillRow_22 (Nat.le_of_ble_eq_true rfl) rfl rfl) (fun r_2 u_2 H locs h_2 hP hD hS => ?_)
    have hP : va_P G.1 vwCl [oM h ad 0 sts hs len at_ num many, aI G (ad 1) 68 st, aI G (ad 2) 408 hi] _ := hP
    have hD : va_D A [oM h ad 0 sts hs len at_ num many, aI G (ad 1) 68 st, aI G (ad 2) 408 hi] := hD
    have h_2 : r_2 = (bI (isSh t)) := h_2
    rw [h_2]
    refine B_if_eq (tgt := 39) hx hb dX9_fillRow_25 (by decide) (fun c_25 => ?_) (fun c_25 => ?_)
    · skip
      exfalso; exact absurd (htt.symm.trans c_25) (by decide)
    · skip
      refine lv_iload_n hx hb dX9_fillRow_28 rfl (lv_at hl 3 rfl) ?_
      refine lv_bipush (v := (-36)) hx hb dX9_fillRow_29 (by decide) ?_
      refine lv_bipush (v := nI 36) hx hb dX9_fillRow_31 (by decide) ?_
      refine fin_i (ws' := (fun (_ : Unit) => [oM h ad 0 sts hs len at_ num many, aI G (ad 1) 68 st, aI G (ad 2) 408 hi])) hA hS hP hD [] rfl [(false, 0), (false, 1), (false, 2)] (fun _ => rfl) (by decide) (run_S (As := [.int b, .int ((-36)), .int (nI 36)]) (rest := []) (n9 := 3) hx hb hml hown hts hE hAb hl.1 hS hP hD [] rfl (by decide) (t_X9_within l G b0 _ b ((-36)) (nI 36) ) (lw_S q1770 q1771 q129 q1772) ⟨by decide, by decide, by decide +kernel⟩ ⟨Nat.le_of_ble_eq_true rfl, Nat.le_of_ble_eq_true rfl⟩ ⟨by first | exact Nat.le_of_ble_eq_true rfl | (simp only [rm_X9_fillRow_0, rm_X9_within]; omega), by first | exact Nat.le_of_ble_eq_true rfl | (simp only [rm_X9_fillRow_0, rm_X9_within]; omega)⟩ dX9_fillRow_33 (Nat.le_of_ble_eq_true rfl) rfl rfl) (fun r_3 u_3 H locs h_3 hP hD hS => ?_)
      have hP : va_P G.1 vwCl [oM h ad 0 sts hs len at_ num many, aI G (ad 1) 68 st, aI G (ad 2) 408 hi] _ := hP
      have hD : va_D A [oM h ad 0 sts hs len at_ num many, aI G (ad 1) 68 st, aI G (ad 2) 408 hi] := hD
      have h_3 : r_3 = (bI (inB b ((-36)) (nI 36))) := h_3
      rw [h_3]
      refine B_if_ne (tgt := 45) hx hb dX9_fillRow_36 (by decide) (fun c_36 => ?_) (fun c_36 => ?_)
      · skip
        refine lv_iload_n hx hb dX9_fillRow_45 rfl (lv_at hl 2 rfl) ?_
        refine lv_bipush (v := nI 7) hx hb dX9_fillRow_46 (by decide) ?_
        refine lv_iload_n hx hb dX9_fillRow_48 rfl (lv_at hl 3 rfl) ?_
        refine lv_imul hx hb dX9_fillRow_49 ?_
        refine lv_iadd hx hb dX9_fillRow_50 ?_
        refine fin_i (ws' := (fun (_ : Unit) => [oM h ad 0 sts hs len at_ num many, aI G (ad 1) 68 st, aI G (ad 2) 408 hi])) hA hS hP hD [] rfl [(false, 0), (false, 1), (false, 2)] (fun _ => rfl) (by decide) (run_S (As := [.int (t + ((nI 7) * b))]) (rest := []) (n9 := 1) hx hb hml hown hts hE hAb hl.1 hS hP hD [] rfl (by decide) (t_X9_isShade l G b0 _ (t + ((nI 7) * b)) ) (lw_S q1767 q1768 q129 q1769) ⟨by decide, by decide, by decide +kernel⟩ ⟨Nat.le_of_ble_eq_true rfl, Nat.le_of_ble_eq_true rfl⟩ ⟨by first | exact Nat.le_of_ble_eq_true rfl | (simp only [rm_X9_fillRow_0, rm_X9_isShade]; omega), by first | exact Nat.le_of_ble_eq_true rfl | (simp only [rm_X9_fillRow_0, rm_X9_isShade]; omega)⟩ dX9_fillRow_51 (Nat.le_of_ble_eq_true rfl) rfl rfl) (fun r_4 u_4 H locs h_4 hP hD hS => ?_)
        have hP : va_P G.1 vwCl [oM h ad 0 sts hs len at_ num many, aI G (ad 1) 68 st, aI G (ad 2) 408 hi] _ := hP
        have hD : va_D A [oM h ad 0 sts hs len at_ num many, aI G (ad 1) 68 st, aI G (ad 2) 408 hi] := hD
        have h_4 : r_4 = (bI (isSh (t + ((nI 7) * b)))) := h_4
        rw [h_4]
        refine B_if_ne (tgt := 63) hx hb dX9_fillRow_54 (by decide) (fun c_54 => ?_) (fun c_54 => ?_)
        · skip
          refine lv_aload_n hx hb dX9_fillRow_63 rfl (lv_at hl 0 rfl) ?_
          refine fin_v (ws' := (fun (_ : Unit) => [oM h ad 0 (recN sts) hs len at_ num many, aI G (ad 1) 68 st, aI G (ad 2) 408 (recH st hi sts)])) hA hS hP hD [0, 1, 2] rfl [(true, 0), (true, 1), (true, 2)] (fun _ => rfl) (by decide) (run_V (As := []) (rest := []) (n9 := 0) hx hb hml hown hts hE hAb hl.1 hS hP hD [0, 1, 2] rfl (by decide) (t_X9_record l G b0 _ h ad 0 sts hs len at_ num many st hi (by omega)) (lw_V q1755 q1757 qs62 q129 q1758) 0 rfl rfl ⟨rfl, by decide, by decide, by decide +kernel⟩ ⟨Nat.le_of_ble_eq_true rfl, Nat.le_of_ble_eq_true rfl⟩ ⟨by first | exact Nat.le_of_ble_eq_true rfl | (simp only [rm_X9_fillRow_0, rm_X9_record]; omega), by first | exact Nat.le_of_ble_eq_true rfl | (simp only [rm_X9_fillRow_0, rm_X9_record]; omega)⟩ dX9_fillRow_64 (Nat.le_of_ble_eq_true rfl) rfl rfl) (fun u_5 H locs h_5 hP hD hS => ?_)
          have hP : va_P G.1 vwCl [oM h ad 0 (recN sts) hs len at_ num many, aI G (ad 1) 68 st, aI G (ad 2) 408 (recH st hi sts)] _ := hP
          have hD : va_D A [oM h ad 0 (recN sts) hs len at_ num many, aI G (ad 1) 68 st, aI G (ad 2) 408 (recH st hi sts)] := hD
          refine lv_iconst (v := nI 0) hx hb dX9_fillRow_67 (by decide) ?_
          refine lv_istore (lv' := [(4, .int (nI 0)), (0, .ref h), (1, .int (nI r)), (2, .int t), (3, .int b)]) hx hb dX9_fillRow_68 hl (by decide) rfl (fun ls hl => ?_)
          refine lv_iconst (v := nI 0) hx hb dX9_fillRow_70 (by decide) ?_
          refine lv_istore (lv' := [(5, .int (nI 0)), (4, .int (nI 0)), (0, .ref h), (1, .int (nI r)), (2, .int t), (3, .int b)]) hx hb dX9_fillRow_71 hl (by decide) rfl (fun ls hl => ?_)
          have lp_73 : ∀ (n_73 : Nat) (k : Nat), (k ≤ 8) → (8 - k) < n_73 → ∀ (H : Heap) (locs : List Loc) (ls : Array Slot), va_P G.1 vwCl [oM h ad 0 (recN sts) hs len at_ num many, aI G (ad 1) 68 (rowF r t b k st), aI G (ad 2) 408 (recH st hi sts)] H → va_D A [oM h ad 0 (recN sts) hs len at_ num many, aI G (ad 1) 68 (rowF r t b k st), aI G (ad 2) 408 (recH st hi sts)] → va_S A s.heap H locs → lv_has ls 6 [(0, .ref h), (1, .int (nI r)), (2, .int t), (3, .int b), (4, .int (l_sum (rowN r t b st) k)), (5, .int (nI k))] → W p l e (rm_X9_fillRow_0) s m AR below meth c H locs 0 0 QQ (F0 m 73 ls []) := by
            intro n_73
            induction n_73 with
            | zero => intro k hk hn_; exact absurd hn_ (Nat.not_lt_zero _)
            | succ n_73 ih_73 =>
              intro k hk hn_73 H locs ls hP hD hS hl
              refine lv_iload hx hb dX9_fillRow_73 (lv_at hl 5 rfl) ?_
              refine lv_bipush (v := nI 8) hx hb dX9_fillRow_75 (by decide) ?_
              refine N_icmp_ge (tgt := 135) hx hb dX9_fillRow_77 (by decide) (by omega) (by omega) (fun c_77 => ?_) (fun c_77 => ?_)
              · skip
                obtain rfl : k = 8 := by omega
                refine lv_iload hx hb dX9_fillRow_135 (lv_at hl 4 rfl) ?_
                rw [hQQ]
                exact rt_i hx hb hr hlk  (()) dX9_fillRow_137 hP hD hS (by first | exact Nat.le_of_ble_eq_true rfl | (simp only [rm_X9_fillRow_0]; omega)) (by first | exact Nat.le_of_ble_eq_true rfl | (simp only [rm_X9_fillRow_0]; omega)) (by rfl)
              · skip
                refine lv_iload hx hb dX9_fillRow_80 (lv_at hl 4 rfl) ?_
                refine lv_aload_n hx hb dX9_fillRow_82 rfl (lv_at hl 0 rfl) ?_
                refine va_get (D := G.1) (ci := 8) (v := .ref (ad 1)) (C := RX9) (T := TX9) (N := 21) hx hb hts in_X9 hown hK hP 0 rfl rfl 1 (by decide) (hts _ q1668) (fun _ h9 => h9) rfl dX9_fillRow_83 ?_
                refine lv_bipush (v := nI 8) hx hb dX9_fillRow_86 (by decide) ?_
                refine lv_iload_n hx hb dX9_fillRow_88 rfl (lv_at hl 1 rfl) ?_
                refine N_imul hx hb dX9_fillRow_89 ?_
                refine lv_iload hx hb dX9_fillRow_90 (lv_at hl 5 rfl) ?_
                refine N_iadd hx hb dX9_fillRow_92 ?_
                refine N_iald hx hb dX9_fillRow_93 hK hP 1 0 rfl rfl (by omega) (by omega) ?_
                refine lv_iload_n hx hb dX9_fillRow_94 rfl (lv_at hl 2 rfl) ?_
                refine lv_iload hx hb dX9_fillRow_95 (lv_at hl 5 rfl) ?_
                refine lv_iload_n hx hb dX9_fillRow_97 rfl (lv_at hl 3 rfl) ?_
                refine lv_imul hx hb dX9_fillRow_98 ?_
                refine lv_iadd hx hb dX9_fillRow_99 ?_
                have K_100 : ∀ (v_6 : Bool) (_ : v_6 = if ((rowF r t b k st) ((8 * r) + k)) = (t + ((nI k) * b)) then false else true) (H : Heap) (locs : List Loc) (ls : Array Slot), va_P G.1 vwCl [oM h ad 0 (recN sts) hs len at_ num many, aI G (ad 1) 68 (rowF r t b k st), aI G (ad 2) 408 (recH st hi sts)] H → va_D A [oM h ad 0 (recN sts) hs len at_ num many, aI G (ad 1) 68 (rowF r t b k st), aI G (ad 2) 408 (recH st hi sts)] → va_S A s.heap H locs → lv_has ls 6 [(0, .ref h), (1, .int (nI r)), (2, .int t), (3, .int b), (4, .int (l_sum (rowN r t b st) k)), (5, .int (nI k))] → W p l e (rm_X9_fillRow_0) s m AR below meth c H locs 0 0 QQ (F0 m 108 ls [.int (bI v_6), .int (l_sum (rowN r t b st) k)]) := by
                  intro v_6 e_v_6 H locs ls hP hD hS hl
                  subst e_v_6
                  refine lv_iadd hx hb dX9_fillRow_108 ?_
                  refine lv_istore (lv' := [(4, .int ((l_sum (rowN r t b st) k) + (bI (if ((rowF r t b k st) ((8 * r) + k)) = (t + ((nI k) * b)) then false else true)))), (0, .ref h), (1, .int (nI r)), (2, .int t), (3, .int b), (5, .int (nI k))]) hx hb dX9_fillRow_109 hl (by decide) rfl (fun ls hl => ?_)
                  refine lv_aload_n hx hb dX9_fillRow_111 rfl (lv_at hl 1 rfl) ?_
                  refine va_get (D := G.1) (ci := 8) (v := .ref (ad 1)) (C := RX9) (T := TX9) (N := 21) hx hb hts in_X9 hown hK hP 0 rfl rfl 1 (by decide) (hts _ q1668) (fun _ h9 => h9) rfl dX9_fillRow_112 ?_
                  refine lv_bipush (v := nI 8) hx hb dX9_fillRow_115 (by decide) ?_
                  refine lv_iload_n hx hb dX9_fillRow_117 rfl (lv_at hl 2 rfl) ?_
                  refine N_imul hx hb dX9_fillRow_118 ?_
                  refine lv_iload hx hb dX9_fillRow_119 (lv_at hl 5 rfl) ?_
                  refine N_iadd hx hb dX9_fillRow_121 ?_
                  refine lv_iload_n hx hb dX9_fillRow_122 rfl (lv_at hl 3 rfl) ?_
                  refine lv_iload hx hb dX9_fillRow_123 (lv_at hl 5 rfl) ?_
                  refine lv_iload_n hx hb dX9_fillRow_125 rfl (lv_at hl 4 rfl) ?_
                  refine lv_imul hx hb dX9_fillRow_126 ?_
                  refine lv_iadd hx hb dX9_fillRow_127 ?_
                  refine N_iast (ws' := [oM h ad 0 (recN sts) hs len at_ num many, aI G (ad 1) 68 (upd (rowF r t b k st) ((8 * r) + k) (t + ((nI k) * b))), aI G (ad 2) 408 (recH st hi sts)]) hx hb dX9_fillRow_128 hK hP hD hS 1 0 rfl rfl (by omega) (by omega) rfl (fun H locs hP hD hS => ?_)
                  refine N_iinc (a := k) (b := 1) (k9 := 5) (lv' := [(5, .int (nI (k + 1))), (4, .int ((l_sum (rowN r t b st) k) + (bI (if ((rowF r t b k st) ((8 * r) + k)) = (t + ((nI k) * b)) then false else true)))), (0, .ref h), (1, .int (nI r)), (2, .int t), (3, .int b)]) hx hb dX9_fillRow_129 hl rfl rfl (by decide) rfl (fun ls hl => ?_)
                  refine lv_goto (tgt := 73) hx hb dX9_fillRow_132 (by decide) ?_
                  have e_7 : (upd (rowF r t b k st) ((8 * r) + k) (t + ((nI k) * b))) = (rowF r t b (k + 1) st) := by exact rowF_step
                  have hP : va_P G.1 vwCl [oM h ad 0 (recN sts) hs len at_ num many, aI G (ad 1) 68 (rowF r t b (k + 1) st), aI G (ad 2) 408 (recH st hi sts)] _ := cong_P (q0 := 1) (fun j _ => congrFun e_7 j) rfl rfl hP
                  have hD : va_D A [oM h ad 0 (recN sts) hs len at_ num many, aI G (ad 1) 68 (rowF r t b (k + 1) st), aI G (ad 2) 408 (recH st hi sts)] := cong_D (q0 := 1) rfl rfl hD
                  have hP : va_P G.1 vwCl [oM h ad 0 (recN sts) hs len at_ num many, aI G (ad 1) 68 (rowF r t b (k + 1) st), aI G (ad 2) 408 (recH st hi sts)] _ := hP
                  have hD : va_D A [oM h ad 0 (recN sts) hs len at_ num many, aI G (ad 1) 68 (rowF r t b (k + 1) st), aI G (ad 2) 408 (recH st hi sts)] := hD
                  have hl : lv_has ls 6 [(0, .ref h), (1, .int (nI r)), (2, .int t), (3, .int b), (4, .int ((l_sum (rowN r t b st) k) + (bI (if ((rowF r t b k st) ((8 * r) + k)) = (t + ((nI k) * b)) then false else true)))), (5, .int (nI (k + 1)))] := lv_sub hl [2, 3, 4, 5, 1, 0] rfl
                  have e_8 : ((l_sum (rowN r t b st) k) + (bI (if ((rowF r t b k st) ((8 * r) + k)) = (t + ((nI k) * b)) then false else true))) = (l_sum (rowN r t b st) (k + 1)) := by rw [rowF_ge]; rfl
                  rw [e_8] at hl
                  have hl : lv_has ls 6 [(0, .ref h), (1, .int (nI r)), (2, .int t), (3, .int b), (4, .int (l_sum (rowN r t b st) (k + 1))), (5, .int (nI (k + 1)))] := hl
                  exact ih_73 (k + 1) (by omega) (by omega) _ _ _ hP hD hS hl
                refine lv_icmp_eq (tgt := 107) hx hb dX9_fillRow_100 (by decide) (fun c_100 => ?_) (fun c_100 => ?_)
                · skip
                  refine lv_iconst (v := nI 0) hx hb dX9_fillRow_107 (by decide) ?_
                  exact K_100 false (by first | rfl | (try rw [if_pos c_100]) | simp_all) _ _ _ hP hD hS (lv_sub hl [0, 1, 2, 3, 4, 5] rfl)
                · skip
                  refine lv_iconst (v := nI 1) hx hb dX9_fillRow_103 (by decide) ?_
                  refine lv_goto (tgt := 108) hx hb dX9_fillRow_104 (by decide) ?_
                  exact K_100 true (by first | rfl | (try rw [if_neg c_100]) | simp_all) _ _ _ hP hD hS (lv_sub hl [0, 1, 2, 3, 4, 5] rfl)
          have e_9 : (st) = (rowF r t b 0 st) := by exact rowF_0.symm
          have hP : va_P G.1 vwCl [oM h ad 0 (recN sts) hs len at_ num many, aI G (ad 1) 68 (rowF r t b 0 st), aI G (ad 2) 408 (recH st hi sts)] _ := cong_P (q0 := 1) (fun j _ => congrFun e_9 j) rfl rfl hP
          have hD : va_D A [oM h ad 0 (recN sts) hs len at_ num many, aI G (ad 1) 68 (rowF r t b 0 st), aI G (ad 2) 408 (recH st hi sts)] := cong_D (q0 := 1) rfl rfl hD
          have hP : va_P G.1 vwCl [oM h ad 0 (recN sts) hs len at_ num many, aI G (ad 1) 68 (rowF r t b 0 st), aI G (ad 2) 408 (recH st hi sts)] _ := hP
          have hD : va_D A [oM h ad 0 (recN sts) hs len at_ num many, aI G (ad 1) 68 (rowF r t b 0 st), aI G (ad 2) 408 (recH st hi sts)] := hD
          have hl : lv_has ls 6 [(0, .ref h), (1, .int (nI r)), (2, .int t), (3, .int b), (4, .int (nI 0)), (5, .int (nI 0))] := lv_sub hl [2, 3, 4, 5, 1, 0] rfl
          have e_10 : (nI 0) = (l_sum (rowN r t b st) 0) := by rfl
          rw [e_10] at hl
          have hl : lv_has ls 6 [(0, .ref h), (1, .int (nI r)), (2, .int t), (3, .int b), (4, .int (l_sum (rowN r t b st) 0)), (5, .int (nI 0))] := hl
          exact lp_73 _ 0 (by omega) (Nat.lt_succ_self _) _ _ _ hP hD hS hl
        · skip
          exfalso; exact absurd (h3t.symm.trans c_54) (by decide)
      · skip
        exfalso; exact absurd (hby.symm.trans c_36) (by decide)
  · skip
    exfalso; exact absurd ((show inB (nI r) (nI 0) (nI 7) = true by rw [inB_nat (by omega) (by decide) (by decide)]; exact decide_eq_true (by omega)).symm.trans c_12) (by decide)
def rm_X9_fillRow_1 : Room := ({ frames := 6, cells := 0, slots := 0, locals := 150 } : Room)
set_option maxHeartbeats 400000 in
set_option maxRecDepth 100000 in
theorem t_X9_fillRow_1 (l : Launch) (G : GG) (b0 sz : Nat) (h : Nat) (ad : Nat → Nat) (thr sts : Nat) (hs : Bool) (len at_ num many : Nat) (st hi : Nat → Int32) (r t b : Int32) (hr_ : inB r (nI 0) (nI 7) = false) : CT l yX9_fillRow cX9_fillRow 6 (some FieldType.int) (rm_X9_fillRow_1) G b0 [.ref h, .int r, .int t, .int b] [oM h ad thr sts hs len at_ num many, aI G (ad 1) 68 st, aI G (ad 2) 408 hi] sz (Ri G (fun (r_ : Int32) (_ : Unit) => r_ = nI 0) (fun (_ : Unit) => [oM h ad 1 sts hs len at_ num many, aI G (ad 1) 68 st, aI G (ad 2) 408 hi])) := by
  refine CT.go (by decide) (Nat.le_of_ble_eq_true rfl) (fun p e s m below meth c A ls AR QQ hx hb hr hlk hml hown hnm hts hE hA hAb hsz hP hD hS hl hQQ => ?_)
  have hK := hE.1
  have hown : s.vm.findClass RX9 = some m.cls := hown
  have hl : lv_has ls 6 [(0, .ref h), (1, .int r), (2, .int t), (3, .int b)] := hl
  clear hsz
  refine lv_aload_n hx hb dX9_fillRow_0 rfl (lv_at hl 0 rfl) ?_
  refine lv_iconst (v := nI 0) hx hb dX9_fillRow_1 (by decide) ?_
  refine va_put (D := G.1) (ci := 8) (v := .int (nI 0)) (ty := .int) (C := RX9) (T := TX9) (N := 21) hx hb hts in_X9 tyX9 tyX9_ok nmX9 hown hK hP hD hS 0 rfl rfl 0 (by decide) (hts _ q1667) (fun _ h9 => h9) rfl (by decide +kernel) rfl rfl (Nat.le_of_ble_eq_true rfl) dX9_fillRow_2 (fun H locs hP hD hS => ?_)
  have hP : va_P G.1 vwCl [oM h ad 0 sts hs len at_ num many, aI G (ad 1) 68 st, aI G (ad 2) 408 hi] _ := hP
  have hD : va_D A [oM h ad 0 sts hs len at_ num many, aI G (ad 1) 68 st, aI G (ad 2) 408 hi] := hD
  refine lv_iload_n hx hb dX9_fillRow_5 rfl (lv_at hl 1 rfl) ?_
  refine lv_iconst (v := nI 0) hx hb dX9_fillRow_6 (by decide) ?_
  refine lv_bipush (v := nI 7) hx hb dX9_fillRow_7 (by decide) ?_
  refine fin_i (ws' := (fun (_ : Unit) => [oM h ad 0 sts hs len at_ num many, aI G (ad 1) 68 st, aI G (ad 2) 408 hi])) hA hS hP hD [] rfl [(false, 0), (false, 1), (false, 2)] (fun _ => rfl) (by decide) (run_S (As := [.int r, .int (nI 0), .int (nI 7)]) (rest := []) (n9 := 3) hx hb hml hown hts hE hAb hl.1 hS hP hD [] rfl (by decide) (t_X9_within l G b0 _ r (nI 0) (nI 7) ) (lw_S q1770 q1771 q129 q1772) ⟨by decide, by decide, by decide +kernel⟩ ⟨Nat.le_of_ble_eq_true rfl, Nat.le_of_ble_eq_true rfl⟩ ⟨by first | exact Nat.le_of_ble_eq_true rfl | (simp only [rm_X9_fillRow_1, rm_X9_within]; omega), by first | exact Nat.le_of_ble_eq_true rfl | (simp only [rm_X9_fillRow_1, rm_X9_within]; omega)⟩ dX9_fillRow_9 (Nat.le_of_ble_eq_true rfl) rfl rfl) (fun r_1 u_1 H locs h_1 hP hD hS => ?_)
  have hP : va_P G.1 vwCl [oM h ad 0 sts hs len at_ num many, aI G (ad 1) 68 st, aI G (ad 2) 408 hi] _ := hP
  have hD : va_D A [oM h ad 0 sts hs len at_ num many, aI G (ad 1) 68 st, aI G (ad 2) 408 hi] := hD
  have h_1 : r_1 = (bI (inB r (nI 0) (nI 7))) := h_1
  rw [h_1]
  refine B_if_ne (tgt := 21) hx hb dX9_fillRow_12 (by decide) (fun c_12 => ?_) (fun c_12 => ?_)
  · skip
    exfalso; exact absurd (hr_.symm.trans c_12) (by decide)
  · skip
    refine lv_aload_n hx hb dX9_fillRow_15 rfl (lv_at hl 0 rfl) ?_
    refine lv_iconst (v := nI 1) hx hb dX9_fillRow_16 (by decide) ?_
    refine fin_i (ws' := (fun (_ : Unit) => [oM h ad 1 sts hs len at_ num many, aI G (ad 1) 68 st, aI G (ad 2) 408 hi])) hA hS hP hD [0] rfl [(true, 0), (false, 1), (false, 2)] (fun _ => rfl) (by decide) (run_V (As := [.int (nI 1)]) (rest := []) (n9 := 1) hx hb hml hown hts hE hAb hl.1 hS hP hD [0] rfl (by decide) (t_X9_fails l G b0 _ h ad 0 sts hs len at_ num many 1 ) (lw_V q1739 q1741 qs60 q129 q1742) 0 rfl rfl ⟨rfl, by decide, by decide, by decide +kernel⟩ ⟨Nat.le_of_ble_eq_true rfl, Nat.le_of_ble_eq_true rfl⟩ ⟨by first | exact Nat.le_of_ble_eq_true rfl | (simp only [rm_X9_fillRow_1, rm_X9_fails]; omega), by first | exact Nat.le_of_ble_eq_true rfl | (simp only [rm_X9_fillRow_1, rm_X9_fails]; omega)⟩ dX9_fillRow_17 (Nat.le_of_ble_eq_true rfl) rfl rfl) (fun r_2 u_2 H locs h_2 hP hD hS => ?_)
    have hP : va_P G.1 vwCl [oM h ad 1 sts hs len at_ num many, aI G (ad 1) 68 st, aI G (ad 2) 408 hi] _ := hP
    have hD : va_D A [oM h ad 1 sts hs len at_ num many, aI G (ad 1) 68 st, aI G (ad 2) 408 hi] := hD
    have h_2 : r_2 = (nI 0) := h_2
    rw [h_2]
    rw [hQQ]
    exact rt_i hx hb hr hlk  (()) dX9_fillRow_20 hP hD hS (by first | exact Nat.le_of_ble_eq_true rfl | (simp only [rm_X9_fillRow_1]; omega)) (by first | exact Nat.le_of_ble_eq_true rfl | (simp only [rm_X9_fillRow_1]; omega)) (by rfl)
def rm_X9_fillRow_2a : Room := ({ frames := 6, cells := 0, slots := 0, locals := 150 } : Room)
set_option maxHeartbeats 400000 in
set_option maxRecDepth 100000 in
theorem t_X9_fillRow_2a (l : Launch) (G : GG) (b0 sz : Nat) (h : Nat) (ad : Nat → Nat) (thr sts : Nat) (hs : Bool) (len at_ num many : Nat) (st hi : Nat → Int32) (r : Nat) (t b : Int32) (hr_ : r < 8) (htt : isSh t = false) : CT l yX9_fillRow cX9_fillRow 6 (some FieldType.int) (rm_X9_fillRow_2a) G b0 [.ref h, .int (nI r), .int t, .int b] [oM h ad thr sts hs len at_ num many, aI G (ad 1) 68 st, aI G (ad 2) 408 hi] sz (Ri G (fun (r_ : Int32) (_ : Unit) => r_ = nI 0) (fun (_ : Unit) => [oM h ad 2 sts hs len at_ num many, aI G (ad 1) 68 st, aI G (ad 2) 408 hi])) := by
  refine CT.go (by decide) (Nat.le_of_ble_eq_true rfl) (fun p e s m below meth c A ls AR QQ hx hb hr hlk hml hown hnm hts hE hA hAb hsz hP hD hS hl hQQ => ?_)
  have hK := hE.1
  have hown : s.vm.findClass RX9 = some m.cls := hown
  have hl : lv_has ls 6 [(0, .ref h), (1, .int (nI r)), (2, .int t), (3, .int b)] := hl
  clear hsz
  refine lv_aload_n hx hb dX9_fillRow_0 rfl (lv_at hl 0 rfl) ?_
  refine lv_iconst (v := nI 0) hx hb dX9_fillRow_1 (by decide) ?_
  refine va_put (D := G.1) (ci := 8) (v := .int (nI 0)) (ty := .int) (C := RX9) (T := TX9) (N := 21) hx hb hts in_X9 tyX9 tyX9_ok nmX9 hown hK hP hD hS 0 rfl rfl 0 (by decide) (hts _ q1667) (fun _ h9 => h9) rfl (by decide +kernel) rfl rfl (Nat.le_of_ble_eq_true rfl) dX9_fillRow_2 (fun H locs hP hD hS => ?_)
  have hP : va_P G.1 vwCl [oM h ad 0 sts hs len at_ num many, aI G (ad 1) 68 st, aI G (ad 2) 408 hi] _ := hP
  have hD : va_D A [oM h ad 0 sts hs len at_ num many, aI G (ad 1) 68 st, aI G (ad 2) 408 hi] := hD
  refine lv_iload_n hx hb dX9_fillRow_5 rfl (lv_at hl 1 rfl) ?_
  refine lv_iconst (v := nI 0) hx hb dX9_fillRow_6 (by decide) ?_
  refine lv_bipush (v := nI 7) hx hb dX9_fillRow_7 (by decide) ?_
  refine fin_i (ws' := (fun (_ : Unit) => [oM h ad 0 sts hs len at_ num many, aI G (ad 1) 68 st, aI G (ad 2) 408 hi])) hA hS hP hD [] rfl [(false, 0), (false, 1), (false, 2)] (fun _ => rfl) (by decide) (run_S (As := [.int (nI r), .int (nI 0), .int (nI 7)]) (rest := []) (n9 := 3) hx hb hml hown hts hE hAb hl.1 hS hP hD [] rfl (by decide) (t_X9_within l G b0 _ (nI r) (nI 0) (nI 7) ) (lw_S q1770 q1771 q129 q1772) ⟨by decide, by decide, by decide +kernel⟩ ⟨Nat.le_of_ble_eq_true rfl, Nat.le_of_ble_eq_true rfl⟩ ⟨by first | exact Nat.le_of_ble_eq_true rfl | (simp only [rm_X9_fillRow_2a, rm_X9_within]; omega), by first | exact Nat.le_of_ble_eq_true rfl | (simp only [rm_X9_fillRow_2a, rm_X9_within]; omega)⟩ dX9_fillRow_9 (Nat.le_of_ble_eq_true rfl) rfl rfl) (fun r_1 u_1 H locs h_1 hP hD hS => ?_)
  have hP : va_P G.1 vwCl [oM h ad 0 sts hs len at_ num many, aI G (ad 1) 68 st, aI G (ad 2) 408 hi] _ := hP
  have hD : va_D A [oM h ad 0 sts hs len at_ num many, aI G (ad 1) 68 st, aI G (ad 2) 408 hi] := hD
  have h_1 : r_1 = (bI (inB (nI r) (nI 0) (nI 7))) := h_1
  rw [h_1]
  refine B_if_ne (tgt := 21) hx hb dX9_fillRow_12 (by decide) (fun c_12 => ?_) (fun c_12 => ?_)
  · skip
    refine lv_iload_n hx hb dX9_fillRow_21 rfl (lv_at hl 2 rfl) ?_
    refine fin_i (ws' := (fun (_ : Unit) => [oM h ad 0 sts hs len at_ num many, aI G (ad 1) 68 st, aI G (ad 2) 408 hi])) hA hS hP hD [] rfl [(false, 0), (false, 1), (false, 2)] (fun _ => rfl) (by decide) (run_S (As := [.int t]) (rest := []) (n9 := 1) hx hb hml hown hts hE hAb hl.1 hS hP hD [] rfl (by decide) (t_X9_isShade l G b0 _ t ) (lw_S q1767 q1768 q129 q1769) ⟨by decide, by decide, by decide +kernel⟩ ⟨Nat.le_of_ble_eq_true rfl, Nat.le_of_ble_eq_true rfl⟩ ⟨by first | exact Nat.le_of_ble_eq_true rfl | (simp only [rm_X9_fillRow_2a, rm_X9_isShade]; omega), by first | exact Nat.le_of_ble_eq_true rfl | (simp only [rm_X9_fillRow_2a, rm_X9_isShade]; omega)⟩ dX9_fillRow_22 (Nat.le_of_ble_eq_true rfl) rfl rfl) (fun r_2 u_2 H locs h_2 hP hD hS => ?_)
    have hP : va_P G.1 vwCl [oM h ad 0 sts hs len at_ num many, aI G (ad 1) 68 st, aI G (ad 2) 408 hi] _ := hP
    have hD : va_D A [oM h ad 0 sts hs len at_ num many, aI G (ad 1) 68 st, aI G (ad 2) 408 hi] := hD
    have h_2 : r_2 = (bI (isSh t)) := h_2
    rw [h_2]
    refine B_if_eq (tgt := 39) hx hb dX9_fillRow_25 (by decide) (fun c_25 => ?_) (fun c_25 => ?_)
    · skip
      refine lv_aload_n hx hb dX9_fillRow_39 rfl (lv_at hl 0 rfl) ?_
      refine lv_iconst (v := nI 2) hx hb dX9_fillRow_40 (by decide) ?_
      refine fin_i (ws' := (fun (_ : Unit) => [oM h ad 2 sts hs len at_ num many, aI G (ad 1) 68 st, aI G (ad 2) 408 hi])) hA hS hP hD [0] rfl [(true, 0), (false, 1), (false, 2)] (fun _ => rfl) (by decide) (run_V (As := [.int (nI 2)]) (rest := []) (n9 := 1) hx hb hml hown hts hE hAb hl.1 hS hP hD [0] rfl (by decide) (t_X9_fails l G b0 _ h ad 0 sts hs len at_ num many 2 ) (lw_V q1739 q1741 qs60 q129 q1742) 0 rfl rfl ⟨rfl, by decide, by decide, by decide +kernel⟩ ⟨Nat.le_of_ble_eq_true rfl, Nat.le_of_ble_eq_true rfl⟩ ⟨by first | exact Nat.le_of_ble_eq_true rfl | (simp only [rm_X9_fillRow_2a, rm_X9_fails]; omega), by first | exact Nat.le_of_ble_eq_true rfl | (simp only [rm_X9_fillRow_2a, rm_X9_fails]; omega)⟩ dX9_fillRow_41 (Nat.le_of_ble_eq_true rfl) rfl rfl) (fun r_3 u_3 H locs h_3 hP hD hS => ?_)
      have hP : va_P G.1 vwCl [oM h ad 2 sts hs len at_ num many, aI G (ad 1) 68 st, aI G (ad 2) 408 hi] _ := hP
      have hD : va_D A [oM h ad 2 sts hs len at_ num many, aI G (ad 1) 68 st, aI G (ad 2) 408 hi] := hD
      have h_3 : r_3 = (nI 0) := h_3
      rw [h_3]
      rw [hQQ]
      exact rt_i hx hb hr hlk  (()) dX9_fillRow_44 hP hD hS (by first | exact Nat.le_of_ble_eq_true rfl | (simp only [rm_X9_fillRow_2a]; omega)) (by first | exact Nat.le_of_ble_eq_true rfl | (simp only [rm_X9_fillRow_2a]; omega)) (by rfl)
    · skip
      exfalso; exact absurd (htt.symm.trans c_25) (by decide)
  · skip
    exfalso; exact absurd ((show inB (nI r) (nI 0) (nI 7) = true by rw [inB_nat (by omega) (by decide) (by decide)]; exact decide_eq_true (by omega)).symm.trans c_12) (by decide)
def rm_X9_fillRow_2b : Room := ({ frames := 6, cells := 0, slots := 0, locals := 150 } : Room)
set_option maxHeartbeats 400000 in
set_option maxRecDepth 100000 in
theorem t_X9_fillRow_2b (l : Launch) (G : GG) (b0 sz : Nat) (h : Nat) (ad : Nat → Nat) (thr sts : Nat) (hs : Bool) (len at_ num many : Nat) (st hi : Nat → Int32) (r : Nat) (t b : Int32) (hr_ : r < 8) (htt : isSh t = true) (hby : inB b (-36) (nI 36) = false) : CT l yX9_fillRow cX9_fillRow 6 (some FieldType.int) (rm_X9_fillRow_2b) G b0 [.ref h, .int (nI r), .int t, .int b] [oM h ad thr sts hs len at_ num many, aI G (ad 1) 68 st, aI G (ad 2) 408 hi] sz (Ri G (fun (r_ : Int32) (_ : Unit) => r_ = nI 0) (fun (_ : Unit) => [oM h ad 2 sts hs len at_ num many, aI G (ad 1) 68 st, aI G (ad 2) 408 hi])) := by
  refine CT.go (by decide) (Nat.le_of_ble_eq_true rfl) (fun p e s m below meth c A ls AR QQ hx hb hr hlk hml hown hnm hts hE hA hAb hsz hP hD hS hl hQQ => ?_)
  have hK := hE.1
  have hown : s.vm.findClass RX9 = some m.cls := hown
  have hl : lv_has ls 6 [(0, .ref h), (1, .int (nI r)), (2, .int t), (3, .int b)] := hl
  clear hsz
  refine lv_aload_n hx hb dX9_fillRow_0 rfl (lv_at hl 0 rfl) ?_
  refine lv_iconst (v := nI 0) hx hb dX9_fillRow_1 (by decide) ?_
  refine va_put (D := G.1) (ci := 8) (v := .int (nI 0)) (ty := .int) (C := RX9) (T := TX9) (N := 21) hx hb hts in_X9 tyX9 tyX9_ok nmX9 hown hK hP hD hS 0 rfl rfl 0 (by decide) (hts _ q1667) (fun _ h9 => h9) rfl (by decide +kernel) rfl rfl (Nat.le_of_ble_eq_true rfl) dX9_fillRow_2 (fun H locs hP hD hS => ?_)
  have hP : va_P G.1 vwCl [oM h ad 0 sts hs len at_ num many, aI G (ad 1) 68 st, aI G (ad 2) 408 hi] _ := hP
  have hD : va_D A [oM h ad 0 sts hs len at_ num many, aI G (ad 1) 68 st, aI G (ad 2) 408 hi] := hD
  refine lv_iload_n hx hb dX9_fillRow_5 rfl (lv_at hl 1 rfl) ?_
  refine lv_iconst (v := nI 0) hx hb dX9_fillRow_6 (by decide) ?_
  refine lv_bipush (v := nI 7) hx hb dX9_fillRow_7 (by decide) ?_
  refine fin_i (ws' := (fun (_ : Unit) => [oM h ad 0 sts hs len at_ num many, aI G (ad 1) 68 st, aI G (ad 2) 408 hi])) hA hS hP hD [] rfl [(false, 0), (false, 1), (false, 2)] (fun _ => rfl) (by decide) (run_S (As := [.int (nI r), .int (nI 0), .int (nI 7)]) (rest := []) (n9 := 3) hx hb hml hown hts hE hAb hl.1 hS hP hD [] rfl (by decide) (t_X9_within l G b0 _ (nI r) (nI 0) (nI 7) ) (lw_S q1770 q1771 q129 q1772) ⟨by decide, by decide, by decide +kernel⟩ ⟨Nat.le_of_ble_eq_true rfl, Nat.le_of_ble_eq_true rfl⟩ ⟨by first | exact Nat.le_of_ble_eq_true rfl | (simp only [rm_X9_fillRow_2b, rm_X9_within]; omega), by first | exact Nat.le_of_ble_eq_true rfl | (simp only [rm_X9_fillRow_2b, rm_X9_within]; omega)⟩ dX9_fillRow_9 (Nat.le_of_ble_eq_true rfl) rfl rfl) (fun r_1 u_1 H locs h_1 hP hD hS => ?_)
  have hP : va_P G.1 vwCl [oM h ad 0 sts hs len at_ num many, aI G (ad 1) 68 st, aI G (ad 2) 408 hi] _ := hP
  have hD : va_D A [oM h ad 0 sts hs len at_ num many, aI G (ad 1) 68 st, aI G (ad 2) 408 hi] := hD
  have h_1 : r_1 = (bI (inB (nI r) (nI 0) (nI 7))) := h_1
  rw [h_1]
  refine B_if_ne (tgt := 21) hx hb dX9_fillRow_12 (by decide) (fun c_12 => ?_) (fun c_12 => ?_)
  · skip
    refine lv_iload_n hx hb dX9_fillRow_21 rfl (lv_at hl 2 rfl) ?_
    refine fin_i (ws' := (fun (_ : Unit) => [oM h ad 0 sts hs len at_ num many, aI G (ad 1) 68 st, aI G (ad 2) 408 hi])) hA hS hP hD [] rfl [(false, 0), (false, 1), (false, 2)] (fun _ => rfl) (by decide) (run_S (As := [.int t]) (rest := []) (n9 := 1) hx hb hml hown hts hE hAb hl.1 hS hP hD [] rfl (by decide) (t_X9_isShade l G b0 _ t ) (lw_S q1767 q1768 q129 q1769) ⟨by decide, by decide, by decide +kernel⟩ ⟨Nat.le_of_ble_eq_true rfl, Nat.le_of_ble_eq_true rfl⟩ ⟨by first | exact Nat.le_of_ble_eq_true rfl | (simp only [rm_X9_fillRow_2b, rm_X9_isShade]; omega), by first | exact Nat.le_of_ble_eq_true rfl | (simp only [rm_X9_fillRow_2b, rm_X9_isShade]; omega)⟩ dX9_fillRow_22 (Nat.le_of_ble_eq_true rfl) rfl rfl) (fun r_2 u_2 H locs h_2 hP hD hS => ?_)
    have hP : va_P G.1 vwCl [oM h ad 0 sts hs len at_ num many, aI G (ad 1) 68 st, aI G (ad 2) 408 hi] _ := hP
    have hD : va_D A [oM h ad 0 sts hs len at_ num many, aI G (ad 1) 68 st, aI G (ad 2) 408 hi] := hD
    have h_2 : r_2 = (bI (isSh t)) := h_2
    rw [h_2]
    refine B_if_eq (tgt := 39) hx hb dX9_fillRow_25 (by decide) (fun c_25 => ?_) (fun c_25 => ?_)
    · skip
      exfalso; exact absurd (htt.symm.trans c_25) (by decide)
    · skip
      refine lv_iload_n hx hb dX9_fillRow_28 rfl (lv_at hl 3 rfl) ?_
      refine lv_bipush (v := (-36)) hx hb dX9_fillRow_29 (by decide) ?_
      refine lv_bipush (v := nI 36) hx hb dX9_fillRow_31 (by decide) ?_
      refine fin_i (ws' := (fun (_ : Unit) => [oM h ad 0 sts hs len at_ num many, aI G (ad 1) 68 st, aI G (ad 2) 408 hi])) hA hS hP hD [] rfl [(false, 0), (false, 1), (false, 2)] (fun _ => rfl) (by decide) (run_S (As := [.int b, .int ((-36)), .int (nI 36)]) (rest := []) (n9 := 3) hx hb hml hown hts hE hAb hl.1 hS hP hD [] rfl (by decide) (t_X9_within l G b0 _ b ((-36)) (nI 36) ) (lw_S q1770 q1771 q129 q1772) ⟨by decide, by decide, by decide +kernel⟩ ⟨Nat.le_of_ble_eq_true rfl, Nat.le_of_ble_eq_true rfl⟩ ⟨by first | exact Nat.le_of_ble_eq_true rfl | (simp only [rm_X9_fillRow_2b, rm_X9_within]; omega), by first | exact Nat.le_of_ble_eq_true rfl | (simp only [rm_X9_fillRow_2b, rm_X9_within]; omega)⟩ dX9_fillRow_33 (Nat.le_of_ble_eq_true rfl) rfl rfl) (fun r_3 u_3 H locs h_3 hP hD hS => ?_)
      have hP : va_P G.1 vwCl [oM h ad 0 sts hs len at_ num many, aI G (ad 1) 68 st, aI G (ad 2) 408 hi] _ := hP
      have hD : va_D A [oM h ad 0 sts hs len at_ num many, aI G (ad 1) 68 st, aI G (ad 2) 408 hi] := hD
      have h_3 : r_3 = (bI (inB b ((-36)) (nI 36))) := h_3
      rw [h_3]
      refine B_if_ne (tgt := 45) hx hb dX9_fillRow_36 (by decide) (fun c_36 => ?_) (fun c_36 => ?_)
      · skip
        exfalso; exact absurd (hby.symm.trans c_36) (by decide)
      · skip
        refine lv_aload_n hx hb dX9_fillRow_39 rfl (lv_at hl 0 rfl) ?_
        refine lv_iconst (v := nI 2) hx hb dX9_fillRow_40 (by decide) ?_
        refine fin_i (ws' := (fun (_ : Unit) => [oM h ad 2 sts hs len at_ num many, aI G (ad 1) 68 st, aI G (ad 2) 408 hi])) hA hS hP hD [0] rfl [(true, 0), (false, 1), (false, 2)] (fun _ => rfl) (by decide) (run_V (As := [.int (nI 2)]) (rest := []) (n9 := 1) hx hb hml hown hts hE hAb hl.1 hS hP hD [0] rfl (by decide) (t_X9_fails l G b0 _ h ad 0 sts hs len at_ num many 2 ) (lw_V q1739 q1741 qs60 q129 q1742) 0 rfl rfl ⟨rfl, by decide, by decide, by decide +kernel⟩ ⟨Nat.le_of_ble_eq_true rfl, Nat.le_of_ble_eq_true rfl⟩ ⟨by first | exact Nat.le_of_ble_eq_true rfl | (simp only [rm_X9_fillRow_2b, rm_X9_fails]; omega), by first | exact Nat.le_of_ble_eq_true rfl | (simp only [rm_X9_fillRow_2b, rm_X9_fails]; omega)⟩ dX9_fillRow_41 (Nat.le_of_ble_eq_true rfl) rfl rfl) (fun r_4 u_4 H locs h_4 hP hD hS => ?_)
        have hP : va_P G.1 vwCl [oM h ad 2 sts hs len at_ num many, aI G (ad 1) 68 st, aI G (ad 2) 408 hi] _ := hP
        have hD : va_D A [oM h ad 2 sts hs len at_ num many, aI G (ad 1) 68 st, aI G (ad 2) 408 hi] := hD
        have h_4 : r_4 = (nI 0) := h_4
        rw [h_4]
        rw [hQQ]
        exact rt_i hx hb hr hlk  (()) dX9_fillRow_44 hP hD hS (by first | exact Nat.le_of_ble_eq_true rfl | (simp only [rm_X9_fillRow_2b]; omega)) (by first | exact Nat.le_of_ble_eq_true rfl | (simp only [rm_X9_fillRow_2b]; omega)) (by rfl)
  · skip
    exfalso; exact absurd ((show inB (nI r) (nI 0) (nI 7) = true by rw [inB_nat (by omega) (by decide) (by decide)]; exact decide_eq_true (by omega)).symm.trans c_12) (by decide)
def rm_X9_fillRow_3 : Room := ({ frames := 6, cells := 0, slots := 0, locals := 150 } : Room)
set_option maxHeartbeats 400000 in
set_option maxRecDepth 100000 in
theorem t_X9_fillRow_3 (l : Launch) (G : GG) (b0 sz : Nat) (h : Nat) (ad : Nat → Nat) (thr sts : Nat) (hs : Bool) (len at_ num many : Nat) (st hi : Nat → Int32) (r : Nat) (t b : Int32) (hr_ : r < 8) (htt : isSh t = true) (hby : inB b (-36) (nI 36) = true) (h3t : isSh (t + nI 7 * b) = false) : CT l yX9_fillRow cX9_fillRow 6 (some FieldType.int) (rm_X9_fillRow_3) G b0 [.ref h, .int (nI r), .int t, .int b] [oM h ad thr sts hs len at_ num many, aI G (ad 1) 68 st, aI G (ad 2) 408 hi] sz (Ri G (fun (r_ : Int32) (_ : Unit) => r_ = nI 0) (fun (_ : Unit) => [oM h ad 3 sts hs len at_ num many, aI G (ad 1) 68 st, aI G (ad 2) 408 hi])) := by
  refine CT.go (by decide) (Nat.le_of_ble_eq_true rfl) (fun p e s m below meth c A ls AR QQ hx hb hr hlk hml hown hnm hts hE hA hAb hsz hP hD hS hl hQQ => ?_)
  have hK := hE.1
  have hown : s.vm.findClass RX9 = some m.cls := hown
  have hl : lv_has ls 6 [(0, .ref h), (1, .int (nI r)), (2, .int t), (3, .int b)] := hl
  clear hsz
  refine lv_aload_n hx hb dX9_fillRow_0 rfl (lv_at hl 0 rfl) ?_
  refine lv_iconst (v := nI 0) hx hb dX9_fillRow_1 (by decide) ?_
  refine va_put (D := G.1) (ci := 8) (v := .int (nI 0)) (ty := .int) (C := RX9) (T := TX9) (N := 21) hx hb hts in_X9 tyX9 tyX9_ok nmX9 hown hK hP hD hS 0 rfl rfl 0 (by decide) (hts _ q1667) (fun _ h9 => h9) rfl (by decide +kernel) rfl rfl (Nat.le_of_ble_eq_true rfl) dX9_fillRow_2 (fun H locs hP hD hS => ?_)
  have hP : va_P G.1 vwCl [oM h ad 0 sts hs len at_ num many, aI G (ad 1) 68 st, aI G (ad 2) 408 hi] _ := hP
  have hD : va_D A [oM h ad 0 sts hs len at_ num many, aI G (ad 1) 68 st, aI G (ad 2) 408 hi] := hD
  refine lv_iload_n hx hb dX9_fillRow_5 rfl (lv_at hl 1 rfl) ?_
  refine lv_iconst (v := nI 0) hx hb dX9_fillRow_6 (by decide) ?_
  refine lv_bipush (v := nI 7) hx hb dX9_fillRow_7 (by decide) ?_
  refine fin_i (ws' := (fun (_ : Unit) => [oM h ad 0 sts hs len at_ num many, aI G (ad 1) 68 st, aI G (ad 2) 408 hi])) hA hS hP hD [] rfl [(false, 0), (false, 1), (false, 2)] (fun _ => rfl) (by decide) (run_S (As := [.int (nI r), .int (nI 0), .int (nI 7)]) (rest := []) (n9 := 3) hx hb hml hown hts hE hAb hl.1 hS hP hD [] rfl (by decide) (t_X9_within l G b0 _ (nI r) (nI 0) (nI 7) ) (lw_S q1770 q1771 q129 q1772) ⟨by decide, by decide, by decide +kernel⟩ ⟨Nat.le_of_ble_eq_true rfl, Nat.le_of_ble_eq_true rfl⟩ ⟨by first | exact Nat.le_of_ble_eq_true rfl | (simp only [rm_X9_fillRow_3, rm_X9_within]; omega), by first | exact Nat.le_of_ble_eq_true rfl | (simp only [rm_X9_fillRow_3, rm_X9_within]; omega)⟩ dX9_fillRow_9 (Nat.le_of_ble_eq_true rfl) rfl rfl) (fun r_1 u_1 H locs h_1 hP hD hS => ?_)
  have hP : va_P G.1 vwCl [oM h ad 0 sts hs len at_ num many, aI G (ad 1) 68 st, aI G (ad 2) 408 hi] _ := hP
  have hD : va_D A [oM h ad 0 sts hs len at_ num many, aI G (ad 1) 68 st, aI G (ad 2) 408 hi] := hD
  have h_1 : r_1 = (bI (inB (nI r) (nI 0) (nI 7))) := h_1
  rw [h_1]
  refine B_if_ne (tgt := 21) hx hb dX9_fillRow_12 (by decide) (fun c_12 => ?_) (fun c_12 => ?_)
  · skip
    refine lv_iload_n hx hb dX9_fillRow_21 rfl (lv_at hl 2 rfl) ?_
    refine fin_i (ws' := (fun (_ : Unit) => [oM h ad 0 sts hs len at_ num many, aI G (ad 1) 68 st, aI G (ad 2) 408 hi])) hA hS hP hD [] rfl [(false, 0), (false, 1), (false, 2)] (fun _ => rfl) (by decide) (run_S (As := [.int t]) (rest := []) (n9 := 1) hx hb hml hown hts hE hAb hl.1 hS hP hD [] rfl (by decide) (t_X9_isShade l G b0 _ t ) (lw_S q1767 q1768 q129 q1769) ⟨by decide, by decide, by decide +kernel⟩ ⟨Nat.le_of_ble_eq_true rfl, Nat.le_of_ble_eq_true rfl⟩ ⟨by first | exact Nat.le_of_ble_eq_true rfl | (simp only [rm_X9_fillRow_3, rm_X9_isShade]; omega), by first | exact Nat.le_of_ble_eq_true rfl | (simp only [rm_X9_fillRow_3, rm_X9_isShade]; omega)⟩ dX9_fillRow_22 (Nat.le_of_ble_eq_true rfl) rfl rfl) (fun r_2 u_2 H locs h_2 hP hD hS => ?_)
    have hP : va_P G.1 vwCl [oM h ad 0 sts hs len at_ num many, aI G (ad 1) 68 st, aI G (ad 2) 408 hi] _ := hP
    have hD : va_D A [oM h ad 0 sts hs len at_ num many, aI G (ad 1) 68 st, aI G (ad 2) 408 hi] := hD
    have h_2 : r_2 = (bI (isSh t)) := h_2
    rw [h_2]
    refine B_if_eq (tgt := 39) hx hb dX9_fillRow_25 (by decide) (fun c_25 => ?_) (fun c_25 => ?_)
    · skip
      exfalso; exact absurd (htt.symm.trans c_25) (by decide)
    · skip
      refine lv_iload_n hx hb dX9_fillRow_28 rfl (lv_at hl 3 rfl) ?_
      refine lv_bipush (v := (-36)) hx hb dX9_fillRow_29 (by decide) ?_
      refine lv_bipush (v := nI 36) hx hb dX9_fillRow_31 (by decide) ?_
      refine fin_i (ws' := (fun (_ : Unit) => [oM h ad 0 sts hs len at_ num many, aI G (ad 1) 68 st, aI G (ad 2) 408 hi])) hA hS hP hD [] rfl [(false, 0), (false, 1), (false, 2)] (fun _ => rfl) (by decide) (run_S (As := [.int b, .int ((-36)), .int (nI 36)]) (rest := []) (n9 := 3) hx hb hml hown hts hE hAb hl.1 hS hP hD [] rfl (by decide) (t_X9_within l G b0 _ b ((-36)) (nI 36) ) (lw_S q1770 q1771 q129 q1772) ⟨by decide, by decide, by decide +kernel⟩ ⟨Nat.le_of_ble_eq_true rfl, Nat.le_of_ble_eq_true rfl⟩ ⟨by first | exact Nat.le_of_ble_eq_true rfl | (simp only [rm_X9_fillRow_3, rm_X9_within]; omega), by first | exact Nat.le_of_ble_eq_true rfl | (simp only [rm_X9_fillRow_3, rm_X9_within]; omega)⟩ dX9_fillRow_33 (Nat.le_of_ble_eq_true rfl) rfl rfl) (fun r_3 u_3 H locs h_3 hP hD hS => ?_)
      have hP : va_P G.1 vwCl [oM h ad 0 sts hs len at_ num many, aI G (ad 1) 68 st, aI G (ad 2) 408 hi] _ := hP
      have hD : va_D A [oM h ad 0 sts hs len at_ num many, aI G (ad 1) 68 st, aI G (ad 2) 408 hi] := hD
      have h_3 : r_3 = (bI (inB b ((-36)) (nI 36))) := h_3
      rw [h_3]
      refine B_if_ne (tgt := 45) hx hb dX9_fillRow_36 (by decide) (fun c_36 => ?_) (fun c_36 => ?_)
      · skip
        refine lv_iload_n hx hb dX9_fillRow_45 rfl (lv_at hl 2 rfl) ?_
        refine lv_bipush (v := nI 7) hx hb dX9_fillRow_46 (by decide) ?_
        refine lv_iload_n hx hb dX9_fillRow_48 rfl (lv_at hl 3 rfl) ?_
        refine lv_imul hx hb dX9_fillRow_49 ?_
        refine lv_iadd hx hb dX9_fillRow_50 ?_
        refine fin_i (ws' := (fun (_ : Unit) => [oM h ad 0 sts hs len at_ num many, aI G (ad 1) 68 st, aI G (ad 2) 408 hi])) hA hS hP hD [] rfl [(false, 0), (false, 1), (false, 2)] (fun _ => rfl) (by decide) (run_S (As := [.int (t + ((nI 7) * b))]) (rest := []) (n9 := 1) hx hb hml hown hts hE hAb hl.1 hS hP hD [] rfl (by decide) (t_X9_isShade l G b0 _ (t + ((nI 7) * b)) ) (lw_S q1767 q1768 q129 q1769) ⟨by decide, by decide, by decide +kernel⟩ ⟨Nat.le_of_ble_eq_true rfl, Nat.le_of_ble_eq_true rfl⟩ ⟨by first | exact Nat.le_of_ble_eq_true rfl | (simp only [rm_X9_fillRow_3, rm_X9_isShade]; omega), by first | exact Nat.le_of_ble_eq_true rfl | (simp only [rm_X9_fillRow_3, rm_X9_isShade]; omega)⟩ dX9_fillRow_51 (Nat.le_of_ble_eq_true rfl) rfl rfl) (fun r_4 u_4 H locs h_4 hP hD hS => ?_)
        have hP : va_P G.1 vwCl [oM h ad 0 sts hs len at_ num many, aI G (ad 1) 68 st, aI G (ad 2) 408 hi] _ := hP
        have hD : va_D A [oM h ad 0 sts hs len at_ num many, aI G (ad 1) 68 st, aI G (ad 2) 408 hi] := hD
        have h_4 : r_4 = (bI (isSh (t + ((nI 7) * b)))) := h_4
        rw [h_4]
        refine B_if_ne (tgt := 63) hx hb dX9_fillRow_54 (by decide) (fun c_54 => ?_) (fun c_54 => ?_)
        · skip
          exfalso; exact absurd (h3t.symm.trans c_54) (by decide)
        · skip
          refine lv_aload_n hx hb dX9_fillRow_57 rfl (lv_at hl 0 rfl) ?_
          refine lv_iconst (v := nI 3) hx hb dX9_fillRow_58 (by decide) ?_
          refine fin_i (ws' := (fun (_ : Unit) => [oM h ad 3 sts hs len at_ num many, aI G (ad 1) 68 st, aI G (ad 2) 408 hi])) hA hS hP hD [0] rfl [(true, 0), (false, 1), (false, 2)] (fun _ => rfl) (by decide) (run_V (As := [.int (nI 3)]) (rest := []) (n9 := 1) hx hb hml hown hts hE hAb hl.1 hS hP hD [0] rfl (by decide) (t_X9_fails l G b0 _ h ad 0 sts hs len at_ num many 3 ) (lw_V q1739 q1741 qs60 q129 q1742) 0 rfl rfl ⟨rfl, by decide, by decide, by decide +kernel⟩ ⟨Nat.le_of_ble_eq_true rfl, Nat.le_of_ble_eq_true rfl⟩ ⟨by first | exact Nat.le_of_ble_eq_true rfl | (simp only [rm_X9_fillRow_3, rm_X9_fails]; omega), by first | exact Nat.le_of_ble_eq_true rfl | (simp only [rm_X9_fillRow_3, rm_X9_fails]; omega)⟩ dX9_fillRow_59 (Nat.le_of_ble_eq_true rfl) rfl rfl) (fun r_5 u_5 H locs h_5 hP hD hS => ?_)
          have hP : va_P G.1 vwCl [oM h ad 3 sts hs len at_ num many, aI G (ad 1) 68 st, aI G (ad 2) 408 hi] _ := hP
          have hD : va_D A [oM h ad 3 sts hs len at_ num many, aI G (ad 1) 68 st, aI G (ad 2) 408 hi] := hD
          have h_5 : r_5 = (nI 0) := h_5
          rw [h_5]
          rw [hQQ]
          exact rt_i hx hb hr hlk  (()) dX9_fillRow_62 hP hD hS (by first | exact Nat.le_of_ble_eq_true rfl | (simp only [rm_X9_fillRow_3]; omega)) (by first | exact Nat.le_of_ble_eq_true rfl | (simp only [rm_X9_fillRow_3]; omega)) (by rfl)
      · skip
        exfalso; exact absurd (hby.symm.trans c_36) (by decide)
  · skip
    exfalso; exact absurd ((show inB (nI r) (nI 0) (nI 7) = true by rw [inB_nat (by omega) (by decide) (by decide)]; exact decide_eq_true (by omega)).symm.trans c_12) (by decide)
def rm_X9_setPart_0 : Room := ({ frames := 6, cells := 0, slots := 0, locals := 150 } : Room)
set_option maxHeartbeats 400000 in
set_option maxRecDepth 100000 in
theorem t_X9_setPart_0 (l : Launch) (G : GG) (b0 sz : Nat) (h : Nat) (ad : Nat → Nat) (thr sts : Nat) (hs : Bool) (len at_ num many : Nat) (st hi pa bk li : Nat → Int32) (r c_ L : Nat) (t : Int32) (hr_ : r < 8) (hc_ : c_ < 8) (hL1 : 1 ≤ L) (hL : L ≤ 3) (hst : st 64 = nI L) (hs6 : sts ≤ 6) (htv : inB t (-255) (nI 255) = true) (hcp : allB (shsB (joinP L (upd (splitP st L) (8 * r + c_) t))) 64 = true) : CT l yX9_setPart cX9_setPart 6 (some FieldType.int) (rm_X9_setPart_0) G b0 [.ref h, .int (nI r), .int (nI c_), .int t] [oM h ad thr sts hs len at_ num many, aI G (ad 1) 68 st, aI G (ad 2) 408 hi, aI G (ad 5) 64 pa, aI G (ad 6) 64 bk, aI G (ad 7) 8 li] sz (Ri G (fun (r_ : Int32) (u : (Nat → Int32) × (Nat → Int32) × (Nat → Int32)) => r_ = splitP st L (8 * r + c_)) (fun (u : (Nat → Int32) × (Nat → Int32) × (Nat → Int32)) => [oM h ad 0 (recN sts) hs len at_ num many, aI G (ad 1) 68 (fillTo 64 (joinP L (upd (splitP st L) (8 * r + c_) t)) st), aI G (ad 2) 408 (recH st hi sts), aI G (ad 5) 64 u.1, aI G (ad 6) 64 u.2.1, aI G (ad 7) 8 u.2.2])) := by
  refine CT.go (by decide) (Nat.le_of_ble_eq_true rfl) (fun p e s m below meth c A ls AR QQ hx hb hr hlk hml hown hnm hts hE hA hAb hsz hP hD hS hl hQQ => ?_)
  have hK := hE.1
  have hown : s.vm.findClass RX9 = some m.cls := hown
  have hl : lv_has ls 6 [(0, .ref h), (1, .int (nI r)), (2, .int (nI c_)), (3, .int t)] := hl
  clear hsz
  refine lv_aload_n hx hb dX9_setPart_0 rfl (lv_at hl 0 rfl) ?_
  refine lv_iconst (v := nI 0) hx hb dX9_setPart_1 (by decide) ?_
  refine va_put (D := G.1) (ci := 8) (v := .int (nI 0)) (ty := .int) (C := RX9) (T := TX9) (N := 21) hx hb hts in_X9 tyX9 tyX9_ok nmX9 hown hK hP hD hS 0 rfl rfl 0 (by decide) (hts _ q1667) (fun _ h9 => h9) rfl (by decide +kernel) rfl rfl (Nat.le_of_ble_eq_true rfl) dX9_setPart_2 (fun H locs hP hD hS => ?_)
  have hP : va_P G.1 vwCl [oM h ad 0 sts hs len at_ num many, aI G (ad 1) 68 st, aI G (ad 2) 408 hi, aI G (ad 5) 64 pa, aI G (ad 6) 64 bk, aI G (ad 7) 8 li] _ := hP
  have hD : va_D A [oM h ad 0 sts hs len at_ num many, aI G (ad 1) 68 st, aI G (ad 2) 408 hi, aI G (ad 5) 64 pa, aI G (ad 6) 64 bk, aI G (ad 7) 8 li] := hD
  refine lv_iload_n hx hb dX9_setPart_5 rfl (lv_at hl 1 rfl) ?_
  refine lv_iload_n hx hb dX9_setPart_6 rfl (lv_at hl 2 rfl) ?_
  refine fin_i (ws' := (fun (_ : Unit) => [oM h ad 0 sts hs len at_ num many, aI G (ad 1) 68 st, aI G (ad 2) 408 hi, aI G (ad 5) 64 pa, aI G (ad 6) 64 bk, aI G (ad 7) 8 li])) hA hS hP hD [] rfl [(false, 0), (false, 1), (false, 2), (false, 3), (false, 4), (false, 5)] (fun _ => rfl) (by decide) (run_S (As := [.int (nI r), .int (nI c_)]) (rest := []) (n9 := 2) hx hb hml hown hts hE hAb hl.1 hS hP hD [] rfl (by decide) (t_X9_isCell l G b0 _ (nI r) (nI c_) ) (lw_S q1873 q1874 q129 q1875) ⟨by decide, by decide, by decide +kernel⟩ ⟨Nat.le_of_ble_eq_true rfl, Nat.le_of_ble_eq_true rfl⟩ ⟨by first | exact Nat.le_of_ble_eq_true rfl | (simp only [rm_X9_setPart_0, rm_X9_isCell]; omega), by first | exact Nat.le_of_ble_eq_true rfl | (simp only [rm_X9_setPart_0, rm_X9_isCell]; omega)⟩ dX9_setPart_7 (Nat.le_of_ble_eq_true rfl) rfl rfl) (fun r_1 u_1 H locs h_1 hP hD hS => ?_)
  have hP : va_P G.1 vwCl [oM h ad 0 sts hs len at_ num many, aI G (ad 1) 68 st, aI G (ad 2) 408 hi, aI G (ad 5) 64 pa, aI G (ad 6) 64 bk, aI G (ad 7) 8 li] _ := hP
  have hD : va_D A [oM h ad 0 sts hs len at_ num many, aI G (ad 1) 68 st, aI G (ad 2) 408 hi, aI G (ad 5) 64 pa, aI G (ad 6) 64 bk, aI G (ad 7) 8 li] := hD
  have h_1 : r_1 = (bI (isCe (nI r) (nI c_))) := h_1
  rw [h_1]
  refine B_if_ne (tgt := 19) hx hb dX9_setPart_10 (by decide) (fun c_10 => ?_) (fun c_10 => ?_)
  · skip
    refine lv_iload_n hx hb dX9_setPart_19 rfl (lv_at hl 3 rfl) ?_
    refine lv_sipush (v := (-255)) hx hb dX9_setPart_20 (by decide) ?_
    refine lv_sipush (v := nI 255) hx hb dX9_setPart_23 (by decide) ?_
    refine fin_i (ws' := (fun (_ : Unit) => [oM h ad 0 sts hs len at_ num many, aI G (ad 1) 68 st, aI G (ad 2) 408 hi, aI G (ad 5) 64 pa, aI G (ad 6) 64 bk, aI G (ad 7) 8 li])) hA hS hP hD [] rfl [(false, 0), (false, 1), (false, 2), (false, 3), (false, 4), (false, 5)] (fun _ => rfl) (by decide) (run_S (As := [.int t, .int ((-255)), .int (nI 255)]) (rest := []) (n9 := 3) hx hb hml hown hts hE hAb hl.1 hS hP hD [] rfl (by decide) (t_X9_within l G b0 _ t ((-255)) (nI 255) ) (lw_S q1770 q1771 q129 q1772) ⟨by decide, by decide, by decide +kernel⟩ ⟨Nat.le_of_ble_eq_true rfl, Nat.le_of_ble_eq_true rfl⟩ ⟨by first | exact Nat.le_of_ble_eq_true rfl | (simp only [rm_X9_setPart_0, rm_X9_within]; omega), by first | exact Nat.le_of_ble_eq_true rfl | (simp only [rm_X9_setPart_0, rm_X9_within]; omega)⟩ dX9_setPart_26 (Nat.le_of_ble_eq_true rfl) rfl rfl) (fun r_2 u_2 H locs h_2 hP hD hS => ?_)
    have hP : va_P G.1 vwCl [oM h ad 0 sts hs len at_ num many, aI G (ad 1) 68 st, aI G (ad 2) 408 hi, aI G (ad 5) 64 pa, aI G (ad 6) 64 bk, aI G (ad 7) 8 li] _ := hP
    have hD : va_D A [oM h ad 0 sts hs len at_ num many, aI G (ad 1) 68 st, aI G (ad 2) 408 hi, aI G (ad 5) 64 pa, aI G (ad 6) 64 bk, aI G (ad 7) 8 li] := hD
    have h_2 : r_2 = (bI (inB t ((-255)) (nI 255))) := h_2
    rw [h_2]
    refine B_if_ne (tgt := 38) hx hb dX9_setPart_29 (by decide) (fun c_29 => ?_) (fun c_29 => ?_)
    · skip
      refine lv_aload_n hx hb dX9_setPart_38 rfl (lv_at hl 0 rfl) ?_
      refine fin_v (ws' := (fun (u_3 : Nat → Int32) => [oM h ad 0 sts hs len at_ num many, aI G (ad 1) 68 st, aI G (ad 2) 408 hi, aI G (ad 5) 64 (splitP st L), aI G (ad 6) 64 bk, aI G (ad 7) 8 u_3])) hA hS hP hD [0, 1, 3, 5] rfl [(true, 0), (true, 1), (false, 2), (true, 2), (false, 4), (true, 3)] (fun _ => rfl) (by decide) (run_V (As := []) (rest := []) (n9 := 0) hx hb hml hown hts hE hAb hl.1 hS hP hD [0, 1, 3, 5] rfl (by decide) (t_X9_split l G b0 _ h ad 0 sts hs len at_ num many st pa li L (by omega) (by omega) (by omega)) (lw_V q1777 q1779 qs64 q129 q1780) 0 rfl rfl ⟨rfl, by decide, by decide, by decide +kernel⟩ ⟨Nat.le_of_ble_eq_true rfl, Nat.le_of_ble_eq_true rfl⟩ ⟨by first | exact Nat.le_of_ble_eq_true rfl | (simp only [rm_X9_setPart_0, rm_X9_split]; omega), by first | exact Nat.le_of_ble_eq_true rfl | (simp only [rm_X9_setPart_0, rm_X9_split]; omega)⟩ dX9_setPart_39 (Nat.le_of_ble_eq_true rfl) rfl rfl) (fun u_3 H locs h_3 hP hD hS => ?_)
      have hP : va_P G.1 vwCl [oM h ad 0 sts hs len at_ num many, aI G (ad 1) 68 st, aI G (ad 2) 408 hi, aI G (ad 5) 64 (splitP st L), aI G (ad 6) 64 bk, aI G (ad 7) 8 u_3] _ := hP
      have hD : va_D A [oM h ad 0 sts hs len at_ num many, aI G (ad 1) 68 st, aI G (ad 2) 408 hi, aI G (ad 5) 64 (splitP st L), aI G (ad 6) 64 bk, aI G (ad 7) 8 u_3] := hD
      refine lv_aload_n hx hb dX9_setPart_42 rfl (lv_at hl 0 rfl) ?_
      refine va_get (D := G.1) (ci := 8) (v := .ref (ad 5)) (C := RX9) (T := TX9) (N := 21) hx hb hts in_X9 hown hK hP 0 rfl rfl 8 (by decide) (hts _ q1675) (fun _ h9 => h9) rfl dX9_setPart_43 ?_
      refine lv_bipush (v := nI 8) hx hb dX9_setPart_46 (by decide) ?_
      refine lv_iload_n hx hb dX9_setPart_48 rfl (lv_at hl 1 rfl) ?_
      refine N_imul hx hb dX9_setPart_49 ?_
      refine lv_iload_n hx hb dX9_setPart_50 rfl (lv_at hl 2 rfl) ?_
      refine N_iadd hx hb dX9_setPart_51 ?_
      refine N_iald hx hb dX9_setPart_52 hK hP 3 0 rfl rfl (by omega) (by omega) ?_
      refine lv_istore (lv' := [(4, .int ((splitP st L) ((8 * r) + c_))), (0, .ref h), (1, .int (nI r)), (2, .int (nI c_)), (3, .int t)]) hx hb dX9_setPart_53 hl (by decide) rfl (fun ls hl => ?_)
      refine lv_aload_n hx hb dX9_setPart_55 rfl (lv_at hl 1 rfl) ?_
      refine lv_bipush (v := nI 8) hx hb dX9_setPart_56 (by decide) ?_
      refine lv_iload_n hx hb dX9_setPart_58 rfl (lv_at hl 2 rfl) ?_
      refine N_imul hx hb dX9_setPart_59 ?_
      refine lv_iload_n hx hb dX9_setPart_60 rfl (lv_at hl 3 rfl) ?_
      refine N_iadd hx hb dX9_setPart_61 ?_
      refine lv_iload_n hx hb dX9_setPart_62 rfl (lv_at hl 4 rfl) ?_
      refine fin_i (ws' := (fun (u_4 : Nat → Int32) => [oM h ad 0 sts hs len at_ num many, aI G (ad 1) 68 st, aI G (ad 2) 408 hi, aI G (ad 5) 64 (upd (splitP st L) ((8 * r) + c_) t), aI G (ad 6) 64 (joinP L (upd (splitP st L) ((8 * r) + c_) t)), aI G (ad 7) 8 u_4])) hA hS hP hD [0, 1, 3, 4, 5] rfl [(true, 0), (true, 1), (false, 2), (true, 2), (true, 3), (true, 4)] (fun _ => rfl) (by decide) (run_V (As := [.int (nI ((8 * r) + c_)), .int t]) (rest := []) (n9 := 2) hx hb hml hown hts hE hAb hl.1 hS hP hD [0, 1, 3, 4, 5] rfl (by decide) (t_X9_canPart l G b0 _ h ad 0 sts hs len at_ num many st (splitP st L) bk u_3 ((8 * r) + c_) L t (by omega) (by omega) (by omega) (by omega)) (lw_V q1962 q1964 qs87 q129 q1965) 0 rfl rfl ⟨rfl, by decide, by decide, by decide +kernel⟩ ⟨Nat.le_of_ble_eq_true rfl, Nat.le_of_ble_eq_true rfl⟩ ⟨by first | exact Nat.le_of_ble_eq_true rfl | (simp only [rm_X9_setPart_0, rm_X9_canPart]; omega), by first | exact Nat.le_of_ble_eq_true rfl | (simp only [rm_X9_setPart_0, rm_X9_canPart]; omega)⟩ dX9_setPart_63 (Nat.le_of_ble_eq_true rfl) rfl rfl) (fun r_4 u_4 H locs h_4 hP hD hS => ?_)
      have hP : va_P G.1 vwCl [oM h ad 0 sts hs len at_ num many, aI G (ad 1) 68 st, aI G (ad 2) 408 hi, aI G (ad 5) 64 (upd (splitP st L) ((8 * r) + c_) t), aI G (ad 6) 64 (joinP L (upd (splitP st L) ((8 * r) + c_) t)), aI G (ad 7) 8 u_4] _ := hP
      have hD : va_D A [oM h ad 0 sts hs len at_ num many, aI G (ad 1) 68 st, aI G (ad 2) 408 hi, aI G (ad 5) 64 (upd (splitP st L) ((8 * r) + c_) t), aI G (ad 6) 64 (joinP L (upd (splitP st L) ((8 * r) + c_) t)), aI G (ad 7) 8 u_4] := hD
      have h_4 : r_4 = (bI (allB (shsB (joinP L (upd (splitP st L) ((8 * r) + c_) t))) 64)) := h_4
      rw [h_4]
      refine B_if_ne (tgt := 75) hx hb dX9_setPart_66 (by decide) (fun c_66 => ?_) (fun c_66 => ?_)
      · skip
        refine lv_aload_n hx hb dX9_setPart_75 rfl (lv_at hl 1 rfl) ?_
        refine fin_v (ws' := (fun (_ : Unit) => [oM h ad 0 (recN sts) hs len at_ num many, aI G (ad 1) 68 st, aI G (ad 2) 408 (recH st hi sts), aI G (ad 5) 64 (upd (splitP st L) ((8 * r) + c_) t), aI G (ad 6) 64 (joinP L (upd (splitP st L) ((8 * r) + c_) t)), aI G (ad 7) 8 u_4])) hA hS hP hD [0, 1, 2] rfl [(true, 0), (true, 1), (true, 2), (false, 3), (false, 4), (false, 5)] (fun _ => rfl) (by decide) (run_V (As := []) (rest := []) (n9 := 0) hx hb hml hown hts hE hAb hl.1 hS hP hD [0, 1, 2] rfl (by decide) (t_X9_record l G b0 _ h ad 0 sts hs len at_ num many st hi (by omega)) (lw_V q1755 q1757 qs62 q129 q1758) 0 rfl rfl ⟨rfl, by decide, by decide, by decide +kernel⟩ ⟨Nat.le_of_ble_eq_true rfl, Nat.le_of_ble_eq_true rfl⟩ ⟨by first | exact Nat.le_of_ble_eq_true rfl | (simp only [rm_X9_setPart_0, rm_X9_record]; omega), by first | exact Nat.le_of_ble_eq_true rfl | (simp only [rm_X9_setPart_0, rm_X9_record]; omega)⟩ dX9_setPart_76 (Nat.le_of_ble_eq_true rfl) rfl rfl) (fun u_5 H locs h_5 hP hD hS => ?_)
        have hP : va_P G.1 vwCl [oM h ad 0 (recN sts) hs len at_ num many, aI G (ad 1) 68 st, aI G (ad 2) 408 (recH st hi sts), aI G (ad 5) 64 (upd (splitP st L) ((8 * r) + c_) t), aI G (ad 6) 64 (joinP L (upd (splitP st L) ((8 * r) + c_) t)), aI G (ad 7) 8 u_4] _ := hP
        have hD : va_D A [oM h ad 0 (recN sts) hs len at_ num many, aI G (ad 1) 68 st, aI G (ad 2) 408 (recH st hi sts), aI G (ad 5) 64 (upd (splitP st L) ((8 * r) + c_) t), aI G (ad 6) 64 (joinP L (upd (splitP st L) ((8 * r) + c_) t)), aI G (ad 7) 8 u_4] := hD
        refine lv_aload_n hx hb dX9_setPart_79 rfl (lv_at hl 1 rfl) ?_
        refine fin_i (ws' := (fun (_ : Unit) => [oM h ad 0 (recN sts) hs len at_ num many, aI G (ad 1) 68 (fillTo 64 (joinP L (upd (splitP st L) ((8 * r) + c_) t)) st), aI G (ad 2) 408 (recH st hi sts), aI G (ad 5) 64 (upd (splitP st L) ((8 * r) + c_) t), aI G (ad 6) 64 (joinP L (upd (splitP st L) ((8 * r) + c_) t)), aI G (ad 7) 8 u_4])) hA hS hP hD [0, 1, 4] rfl [(true, 0), (true, 1), (false, 2), (false, 3), (true, 2), (false, 5)] (fun _ => rfl) (by decide) (run_V (As := []) (rest := []) (n9 := 0) hx hb hml hown hts hE hAb hl.1 hS hP hD [0, 1, 4] rfl (by decide) (t_X9_takeBack l G b0 _ h ad 0 (recN sts) hs len at_ num many st (joinP L (upd (splitP st L) ((8 * r) + c_) t)) ) (lw_V q1966 q1968 qs88 q129 q1969) 0 rfl rfl ⟨rfl, by decide, by decide, by decide +kernel⟩ ⟨Nat.le_of_ble_eq_true rfl, Nat.le_of_ble_eq_true rfl⟩ ⟨by first | exact Nat.le_of_ble_eq_true rfl | (simp only [rm_X9_setPart_0, rm_X9_takeBack]; omega), by first | exact Nat.le_of_ble_eq_true rfl | (simp only [rm_X9_setPart_0, rm_X9_takeBack]; omega)⟩ dX9_setPart_80 (Nat.le_of_ble_eq_true rfl) rfl rfl) (fun r_6 u_6 H locs h_6 hP hD hS => ?_)
        have hP : va_P G.1 vwCl [oM h ad 0 (recN sts) hs len at_ num many, aI G (ad 1) 68 (fillTo 64 (joinP L (upd (splitP st L) ((8 * r) + c_) t)) st), aI G (ad 2) 408 (recH st hi sts), aI G (ad 5) 64 (upd (splitP st L) ((8 * r) + c_) t), aI G (ad 6) 64 (joinP L (upd (splitP st L) ((8 * r) + c_) t)), aI G (ad 7) 8 u_4] _ := hP
        have hD : va_D A [oM h ad 0 (recN sts) hs len at_ num many, aI G (ad 1) 68 (fillTo 64 (joinP L (upd (splitP st L) ((8 * r) + c_) t)) st), aI G (ad 2) 408 (recH st hi sts), aI G (ad 5) 64 (upd (splitP st L) ((8 * r) + c_) t), aI G (ad 6) 64 (joinP L (upd (splitP st L) ((8 * r) + c_) t)), aI G (ad 7) 8 u_4] := hD
        have h_6 : r_6 = (l_sum (cneI (joinP L (upd (splitP st L) ((8 * r) + c_) t)) st) 64) := h_6
        rw [h_6]
        refine lv_istore (lv' := [(5, .int (l_sum (cneI (joinP L (upd (splitP st L) ((8 * r) + c_) t)) st) 64)), (4, .int ((splitP st L) ((8 * r) + c_))), (0, .ref h), (1, .int (nI r)), (2, .int (nI c_)), (3, .int t)]) hx hb dX9_setPart_83 hl (by decide) rfl (fun ls hl => ?_)
        refine lv_iload hx hb dX9_setPart_85 (lv_at hl 1 rfl) ?_
        have hP : va_P G.1 vwCl [oM h ad 0 (recN sts) hs len at_ num many, aI G (ad 1) 68 (fillTo 64 (joinP L (upd (splitP st L) (8 * r + c_) t)) st), aI G (ad 2) 408 (recH st hi sts), aI G (ad 5) 64 (((upd (splitP st L) ((8 * r) + c_) t, joinP L (upd (splitP st L) ((8 * r) + c_) t), u_4)).1), aI G (ad 6) 64 (((upd (splitP st L) ((8 * r) + c_) t, joinP L (upd (splitP st L) ((8 * r) + c_) t), u_4)).2.1), aI G (ad 7) 8 (((upd (splitP st L) ((8 * r) + c_) t, joinP L (upd (splitP st L) ((8 * r) + c_) t), u_4)).2.2)] _ := hP
        have hD : va_D A [oM h ad 0 (recN sts) hs len at_ num many, aI G (ad 1) 68 (fillTo 64 (joinP L (upd (splitP st L) (8 * r + c_) t)) st), aI G (ad 2) 408 (recH st hi sts), aI G (ad 5) 64 (((upd (splitP st L) ((8 * r) + c_) t, joinP L (upd (splitP st L) ((8 * r) + c_) t), u_4)).1), aI G (ad 6) 64 (((upd (splitP st L) ((8 * r) + c_) t, joinP L (upd (splitP st L) ((8 * r) + c_) t), u_4)).2.1), aI G (ad 7) 8 (((upd (splitP st L) ((8 * r) + c_) t, joinP L (upd (splitP st L) ((8 * r) + c_) t), u_4)).2.2)] := hD
        rw [hQQ]
        exact rt_i hx hb hr hlk  ((upd (splitP st L) ((8 * r) + c_) t, joinP L (upd (splitP st L) ((8 * r) + c_) t), u_4)) dX9_setPart_87 hP hD hS (by first | exact Nat.le_of_ble_eq_true rfl | (simp only [rm_X9_setPart_0]; omega)) (by first | exact Nat.le_of_ble_eq_true rfl | (simp only [rm_X9_setPart_0]; omega)) (by rfl)
      · skip
        exfalso; exact absurd (hcp.symm.trans c_66) (by decide)
    · skip
      exfalso; exact absurd (htv.symm.trans c_29) (by decide)
  · skip
    exfalso; exact absurd ((isCe_n hr_ hc_).symm.trans c_10) (by decide)
def rm_X9_setPart_1 : Room := ({ frames := 6, cells := 0, slots := 0, locals := 150 } : Room)
set_option maxHeartbeats 400000 in
set_option maxRecDepth 100000 in
theorem t_X9_setPart_1 (l : Launch) (G : GG) (b0 sz : Nat) (h : Nat) (ad : Nat → Nat) (thr sts : Nat) (hs : Bool) (len at_ num many : Nat) (st hi pa bk li : Nat → Int32) (r c_ t : Int32) (hce : isCe r c_ = false) : CT l yX9_setPart cX9_setPart 6 (some FieldType.int) (rm_X9_setPart_1) G b0 [.ref h, .int r, .int c_, .int t] [oM h ad thr sts hs len at_ num many, aI G (ad 1) 68 st, aI G (ad 2) 408 hi, aI G (ad 5) 64 pa, aI G (ad 6) 64 bk, aI G (ad 7) 8 li] sz (Ri G (fun (r_ : Int32) (_ : Unit) => r_ = nI 0) (fun (_ : Unit) => [oM h ad 1 sts hs len at_ num many, aI G (ad 1) 68 st, aI G (ad 2) 408 hi, aI G (ad 5) 64 pa, aI G (ad 6) 64 bk, aI G (ad 7) 8 li])) := by
  refine CT.go (by decide) (Nat.le_of_ble_eq_true rfl) (fun p e s m below meth c A ls AR QQ hx hb hr hlk hml hown hnm hts hE hA hAb hsz hP hD hS hl hQQ => ?_)
  have hK := hE.1
  have hown : s.vm.findClass RX9 = some m.cls := hown
  have hl : lv_has ls 6 [(0, .ref h), (1, .int r), (2, .int c_), (3, .int t)] := hl
  clear hsz
  refine lv_aload_n hx hb dX9_setPart_0 rfl (lv_at hl 0 rfl) ?_
  refine lv_iconst (v := nI 0) hx hb dX9_setPart_1 (by decide) ?_
  refine va_put (D := G.1) (ci := 8) (v := .int (nI 0)) (ty := .int) (C := RX9) (T := TX9) (N := 21) hx hb hts in_X9 tyX9 tyX9_ok nmX9 hown hK hP hD hS 0 rfl rfl 0 (by decide) (hts _ q1667) (fun _ h9 => h9) rfl (by decide +kernel) rfl rfl (Nat.le_of_ble_eq_true rfl) dX9_setPart_2 (fun H locs hP hD hS => ?_)
  have hP : va_P G.1 vwCl [oM h ad 0 sts hs len at_ num many, aI G (ad 1) 68 st, aI G (ad 2) 408 hi, aI G (ad 5) 64 pa, aI G (ad 6) 64 bk, aI G (ad 7) 8 li] _ := hP
  have hD : va_D A [oM h ad 0 sts hs len at_ num many, aI G (ad 1) 68 st, aI G (ad 2) 408 hi, aI G (ad 5) 64 pa, aI G (ad 6) 64 bk, aI G (ad 7) 8 li] := hD
  refine lv_iload_n hx hb dX9_setPart_5 rfl (lv_at hl 1 rfl) ?_
  refine lv_iload_n hx hb dX9_setPart_6 rfl (lv_at hl 2 rfl) ?_
  refine fin_i (ws' := (fun (_ : Unit) => [oM h ad 0 sts hs len at_ num many, aI G (ad 1) 68 st, aI G (ad 2) 408 hi, aI G (ad 5) 64 pa, aI G (ad 6) 64 bk, aI G (ad 7) 8 li])) hA hS hP hD [] rfl [(false, 0), (false, 1), (false, 2), (false, 3), (false, 4), (false, 5)] (fun _ => rfl) (by decide) (run_S (As := [.int r, .int c_]) (rest := []) (n9 := 2) hx hb hml hown hts hE hAb hl.1 hS hP hD [] rfl (by decide) (t_X9_isCell l G b0 _ r c_ ) (lw_S q1873 q1874 q129 q1875) ⟨by decide, by decide, by decide +kernel⟩ ⟨Nat.le_of_ble_eq_true rfl, Nat.le_of_ble_eq_true rfl⟩ ⟨by first | exact Nat.le_of_ble_eq_true rfl | (simp only [rm_X9_setPart_1, rm_X9_isCell]; omega), by first | exact Nat.le_of_ble_eq_true rfl | (simp only [rm_X9_setPart_1, rm_X9_isCell]; omega)⟩ dX9_setPart_7 (Nat.le_of_ble_eq_true rfl) rfl rfl) (fun r_1 u_1 H locs h_1 hP hD hS => ?_)
  have hP : va_P G.1 vwCl [oM h ad 0 sts hs len at_ num many, aI G (ad 1) 68 st, aI G (ad 2) 408 hi, aI G (ad 5) 64 pa, aI G (ad 6) 64 bk, aI G (ad 7) 8 li] _ := hP
  have hD : va_D A [oM h ad 0 sts hs len at_ num many, aI G (ad 1) 68 st, aI G (ad 2) 408 hi, aI G (ad 5) 64 pa, aI G (ad 6) 64 bk, aI G (ad 7) 8 li] := hD
  have h_1 : r_1 = (bI (isCe r c_)) := h_1
  rw [h_1]
  refine B_if_ne (tgt := 19) hx hb dX9_setPart_10 (by decide) (fun c_10 => ?_) (fun c_10 => ?_)
  · skip
    exfalso; exact absurd (hce.symm.trans c_10) (by decide)
  · skip
    refine lv_aload_n hx hb dX9_setPart_13 rfl (lv_at hl 0 rfl) ?_
    refine lv_iconst (v := nI 1) hx hb dX9_setPart_14 (by decide) ?_
    refine fin_i (ws' := (fun (_ : Unit) => [oM h ad 1 sts hs len at_ num many, aI G (ad 1) 68 st, aI G (ad 2) 408 hi, aI G (ad 5) 64 pa, aI G (ad 6) 64 bk, aI G (ad 7) 8 li])) hA hS hP hD [0] rfl [(true, 0), (false, 1), (false, 2), (false, 3), (false, 4), (false, 5)] (fun _ => rfl) (by decide) (run_V (As := [.int (nI 1)]) (rest := []) (n9 := 1) hx hb hml hown hts hE hAb hl.1 hS hP hD [0] rfl (by decide) (t_X9_fails l G b0 _ h ad 0 sts hs len at_ num many 1 ) (lw_V q1739 q1741 qs60 q129 q1742) 0 rfl rfl ⟨rfl, by decide, by decide, by decide +kernel⟩ ⟨Nat.le_of_ble_eq_true rfl, Nat.le_of_ble_eq_true rfl⟩ ⟨by first | exact Nat.le_of_ble_eq_true rfl | (simp only [rm_X9_setPart_1, rm_X9_fails]; omega), by first | exact Nat.le_of_ble_eq_true rfl | (simp only [rm_X9_setPart_1, rm_X9_fails]; omega)⟩ dX9_setPart_15 (Nat.le_of_ble_eq_true rfl) rfl rfl) (fun r_2 u_2 H locs h_2 hP hD hS => ?_)
    have hP : va_P G.1 vwCl [oM h ad 1 sts hs len at_ num many, aI G (ad 1) 68 st, aI G (ad 2) 408 hi, aI G (ad 5) 64 pa, aI G (ad 6) 64 bk, aI G (ad 7) 8 li] _ := hP
    have hD : va_D A [oM h ad 1 sts hs len at_ num many, aI G (ad 1) 68 st, aI G (ad 2) 408 hi, aI G (ad 5) 64 pa, aI G (ad 6) 64 bk, aI G (ad 7) 8 li] := hD
    have h_2 : r_2 = (nI 0) := h_2
    rw [h_2]
    rw [hQQ]
    exact rt_i hx hb hr hlk  (()) dX9_setPart_18 hP hD hS (by first | exact Nat.le_of_ble_eq_true rfl | (simp only [rm_X9_setPart_1]; omega)) (by first | exact Nat.le_of_ble_eq_true rfl | (simp only [rm_X9_setPart_1]; omega)) (by rfl)
def rm_X9_setPart_2 : Room := ({ frames := 6, cells := 0, slots := 0, locals := 150 } : Room)
set_option maxHeartbeats 400000 in
set_option maxRecDepth 100000 in
theorem t_X9_setPart_2 (l : Launch) (G : GG) (b0 sz : Nat) (h : Nat) (ad : Nat → Nat) (thr sts : Nat) (hs : Bool) (len at_ num many : Nat) (st hi pa bk li : Nat → Int32) (r c_ : Nat) (t : Int32) (hr_ : r < 8) (hc_ : c_ < 8) (htv : inB t (-255) (nI 255) = false) : CT l yX9_setPart cX9_setPart 6 (some FieldType.int) (rm_X9_setPart_2) G b0 [.ref h, .int (nI r), .int (nI c_), .int t] [oM h ad thr sts hs len at_ num many, aI G (ad 1) 68 st, aI G (ad 2) 408 hi, aI G (ad 5) 64 pa, aI G (ad 6) 64 bk, aI G (ad 7) 8 li] sz (Ri G (fun (r_ : Int32) (_ : Unit) => r_ = nI 0) (fun (_ : Unit) => [oM h ad 2 sts hs len at_ num many, aI G (ad 1) 68 st, aI G (ad 2) 408 hi, aI G (ad 5) 64 pa, aI G (ad 6) 64 bk, aI G (ad 7) 8 li])) := by
  refine CT.go (by decide) (Nat.le_of_ble_eq_true rfl) (fun p e s m below meth c A ls AR QQ hx hb hr hlk hml hown hnm hts hE hA hAb hsz hP hD hS hl hQQ => ?_)
  have hK := hE.1
  have hown : s.vm.findClass RX9 = some m.cls := hown
  have hl : lv_has ls 6 [(0, .ref h), (1, .int (nI r)), (2, .int (nI c_)), (3, .int t)] := hl
  clear hsz
  refine lv_aload_n hx hb dX9_setPart_0 rfl (lv_at hl 0 rfl) ?_
  refine lv_iconst (v := nI 0) hx hb dX9_setPart_1 (by decide) ?_
  refine va_put (D := G.1) (ci := 8) (v := .int (nI 0)) (ty := .int) (C := RX9) (T := TX9) (N := 21) hx hb hts in_X9 tyX9 tyX9_ok nmX9 hown hK hP hD hS 0 rfl rfl 0 (by decide) (hts _ q1667) (fun _ h9 => h9) rfl (by decide +kernel) rfl rfl (Nat.le_of_ble_eq_true rfl) dX9_setPart_2 (fun H locs hP hD hS => ?_)
  have hP : va_P G.1 vwCl [oM h ad 0 sts hs len at_ num many, aI G (ad 1) 68 st, aI G (ad 2) 408 hi, aI G (ad 5) 64 pa, aI G (ad 6) 64 bk, aI G (ad 7) 8 li] _ := hP
  have hD : va_D A [oM h ad 0 sts hs len at_ num many, aI G (ad 1) 68 st, aI G (ad 2) 408 hi, aI G (ad 5) 64 pa, aI G (ad 6) 64 bk, aI G (ad 7) 8 li] := hD
  refine lv_iload_n hx hb dX9_setPart_5 rfl (lv_at hl 1 rfl) ?_
  refine lv_iload_n hx hb dX9_setPart_6 rfl (lv_at hl 2 rfl) ?_
  refine fin_i (ws' := (fun (_ : Unit) => [oM h ad 0 sts hs len at_ num many, aI G (ad 1) 68 st, aI G (ad 2) 408 hi, aI G (ad 5) 64 pa, aI G (ad 6) 64 bk, aI G (ad 7) 8 li])) hA hS hP hD [] rfl [(false, 0), (false, 1), (false, 2), (false, 3), (false, 4), (false, 5)] (fun _ => rfl) (by decide) (run_S (As := [.int (nI r), .int (nI c_)]) (rest := []) (n9 := 2) hx hb hml hown hts hE hAb hl.1 hS hP hD [] rfl (by decide) (t_X9_isCell l G b0 _ (nI r) (nI c_) ) (lw_S q1873 q1874 q129 q1875) ⟨by decide, by decide, by decide +kernel⟩ ⟨Nat.le_of_ble_eq_true rfl, Nat.le_of_ble_eq_true rfl⟩ ⟨by first | exact Nat.le_of_ble_eq_true rfl | (simp only [rm_X9_setPart_2, rm_X9_isCell]; omega), by first | exact Nat.le_of_ble_eq_true rfl | (simp only [rm_X9_setPart_2, rm_X9_isCell]; omega)⟩ dX9_setPart_7 (Nat.le_of_ble_eq_true rfl) rfl rfl) (fun r_1 u_1 H locs h_1 hP hD hS => ?_)
  have hP : va_P G.1 vwCl [oM h ad 0 sts hs len at_ num many, aI G (ad 1) 68 st, aI G (ad 2) 408 hi, aI G (ad 5) 64 pa, aI G (ad 6) 64 bk, aI G (ad 7) 8 li] _ := hP
  have hD : va_D A [oM h ad 0 sts hs len at_ num many, aI G (ad 1) 68 st, aI G (ad 2) 408 hi, aI G (ad 5) 64 pa, aI G (ad 6) 64 bk, aI G (ad 7) 8 li] := hD
  have h_1 : r_1 = (bI (isCe (nI r) (nI c_))) := h_1
  rw [h_1]
  refine B_if_ne (tgt := 19) hx hb dX9_setPart_10 (by decide) (fun c_10 => ?_) (fun c_10 => ?_)
  · skip
    refine lv_iload_n hx hb dX9_setPart_19 rfl (lv_at hl 3 rfl) ?_
    refine lv_sipush (v := (-255)) hx hb dX9_setPart_20 (by decide) ?_
    refine lv_sipush (v := nI 255) hx hb dX9_setPart_23 (by decide) ?_
    refine fin_i (ws' := (fun (_ : Unit) => [oM h ad 0 sts hs len at_ num many, aI G (ad 1) 68 st, aI G (ad 2) 408 hi, aI G (ad 5) 64 pa, aI G (ad 6) 64 bk, aI G (ad 7) 8 li])) hA hS hP hD [] rfl [(false, 0), (false, 1), (false, 2), (false, 3), (false, 4), (false, 5)] (fun _ => rfl) (by decide) (run_S (As := [.int t, .int ((-255)), .int (nI 255)]) (rest := []) (n9 := 3) hx hb hml hown hts hE hAb hl.1 hS hP hD [] rfl (by decide) (t_X9_within l G b0 _ t ((-255)) (nI 255) ) (lw_S q1770 q1771 q129 q1772) ⟨by decide, by decide, by decide +kernel⟩ ⟨Nat.le_of_ble_eq_true rfl, Nat.le_of_ble_eq_true rfl⟩ ⟨by first | exact Nat.le_of_ble_eq_true rfl | (simp only [rm_X9_setPart_2, rm_X9_within]; omega), by first | exact Nat.le_of_ble_eq_true rfl | (simp only [rm_X9_setPart_2, rm_X9_within]; omega)⟩ dX9_setPart_26 (Nat.le_of_ble_eq_true rfl) rfl rfl) (fun r_2 u_2 H locs h_2 hP hD hS => ?_)
    have hP : va_P G.1 vwCl [oM h ad 0 sts hs len at_ num many, aI G (ad 1) 68 st, aI G (ad 2) 408 hi, aI G (ad 5) 64 pa, aI G (ad 6) 64 bk, aI G (ad 7) 8 li] _ := hP
    have hD : va_D A [oM h ad 0 sts hs len at_ num many, aI G (ad 1) 68 st, aI G (ad 2) 408 hi, aI G (ad 5) 64 pa, aI G (ad 6) 64 bk, aI G (ad 7) 8 li] := hD
    have h_2 : r_2 = (bI (inB t ((-255)) (nI 255))) := h_2
    rw [h_2]
    refine B_if_ne (tgt := 38) hx hb dX9_setPart_29 (by decide) (fun c_29 => ?_) (fun c_29 => ?_)
    · skip
      exfalso; exact absurd (htv.symm.trans c_29) (by decide)
    · skip
      refine lv_aload_n hx hb dX9_setPart_32 rfl (lv_at hl 0 rfl) ?_
      refine lv_iconst (v := nI 2) hx hb dX9_setPart_33 (by decide) ?_
      refine fin_i (ws' := (fun (_ : Unit) => [oM h ad 2 sts hs len at_ num many, aI G (ad 1) 68 st, aI G (ad 2) 408 hi, aI G (ad 5) 64 pa, aI G (ad 6) 64 bk, aI G (ad 7) 8 li])) hA hS hP hD [0] rfl [(true, 0), (false, 1), (false, 2), (false, 3), (false, 4), (false, 5)] (fun _ => rfl) (by decide) (run_V (As := [.int (nI 2)]) (rest := []) (n9 := 1) hx hb hml hown hts hE hAb hl.1 hS hP hD [0] rfl (by decide) (t_X9_fails l G b0 _ h ad 0 sts hs len at_ num many 2 ) (lw_V q1739 q1741 qs60 q129 q1742) 0 rfl rfl ⟨rfl, by decide, by decide, by decide +kernel⟩ ⟨Nat.le_of_ble_eq_true rfl, Nat.le_of_ble_eq_true rfl⟩ ⟨by first | exact Nat.le_of_ble_eq_true rfl | (simp only [rm_X9_setPart_2, rm_X9_fails]; omega), by first | exact Nat.le_of_ble_eq_true rfl | (simp only [rm_X9_setPart_2, rm_X9_fails]; omega)⟩ dX9_setPart_34 (Nat.le_of_ble_eq_true rfl) rfl rfl) (fun r_3 u_3 H locs h_3 hP hD hS => ?_)
      have hP : va_P G.1 vwCl [oM h ad 2 sts hs len at_ num many, aI G (ad 1) 68 st, aI G (ad 2) 408 hi, aI G (ad 5) 64 pa, aI G (ad 6) 64 bk, aI G (ad 7) 8 li] _ := hP
      have hD : va_D A [oM h ad 2 sts hs len at_ num many, aI G (ad 1) 68 st, aI G (ad 2) 408 hi, aI G (ad 5) 64 pa, aI G (ad 6) 64 bk, aI G (ad 7) 8 li] := hD
      have h_3 : r_3 = (nI 0) := h_3
      rw [h_3]
      rw [hQQ]
      exact rt_i hx hb hr hlk  (()) dX9_setPart_37 hP hD hS (by first | exact Nat.le_of_ble_eq_true rfl | (simp only [rm_X9_setPart_2]; omega)) (by first | exact Nat.le_of_ble_eq_true rfl | (simp only [rm_X9_setPart_2]; omega)) (by rfl)
  · skip
    exfalso; exact absurd ((isCe_n hr_ hc_).symm.trans c_10) (by decide)
def rm_X9_setPart_3 : Room := ({ frames := 6, cells := 0, slots := 0, locals := 150 } : Room)
set_option maxHeartbeats 400000 in
set_option maxRecDepth 100000 in
theorem t_X9_setPart_3 (l : Launch) (G : GG) (b0 sz : Nat) (h : Nat) (ad : Nat → Nat) (thr sts : Nat) (hs : Bool) (len at_ num many : Nat) (st hi pa bk li : Nat → Int32) (r c_ L : Nat) (t : Int32) (hr_ : r < 8) (hc_ : c_ < 8) (hL1 : 1 ≤ L) (hL : L ≤ 3) (hst : st 64 = nI L) (htv : inB t (-255) (nI 255) = true) (hcp : allB (shsB (joinP L (upd (splitP st L) (8 * r + c_) t))) 64 = false) : CT l yX9_setPart cX9_setPart 6 (some FieldType.int) (rm_X9_setPart_3) G b0 [.ref h, .int (nI r), .int (nI c_), .int t] [oM h ad thr sts hs len at_ num many, aI G (ad 1) 68 st, aI G (ad 2) 408 hi, aI G (ad 5) 64 pa, aI G (ad 6) 64 bk, aI G (ad 7) 8 li] sz (Ri G (fun (r_ : Int32) (u : (Nat → Int32) × (Nat → Int32) × (Nat → Int32)) => r_ = nI 0) (fun (u : (Nat → Int32) × (Nat → Int32) × (Nat → Int32)) => [oM h ad 3 sts hs len at_ num many, aI G (ad 1) 68 st, aI G (ad 2) 408 hi, aI G (ad 5) 64 u.1, aI G (ad 6) 64 u.2.1, aI G (ad 7) 8 u.2.2])) := by
  refine CT.go (by decide) (Nat.le_of_ble_eq_true rfl) (fun p e s m below meth c A ls AR QQ hx hb hr hlk hml hown hnm hts hE hA hAb hsz hP hD hS hl hQQ => ?_)
  have hK := hE.1
  have hown : s.vm.findClass RX9 = some m.cls := hown
  have hl : lv_has ls 6 [(0, .ref h), (1, .int (nI r)), (2, .int (nI c_)), (3, .int t)] := hl
  clear hsz
  refine lv_aload_n hx hb dX9_setPart_0 rfl (lv_at hl 0 rfl) ?_
  refine lv_iconst (v := nI 0) hx hb dX9_setPart_1 (by decide) ?_
  refine va_put (D := G.1) (ci := 8) (v := .int (nI 0)) (ty := .int) (C := RX9) (T := TX9) (N := 21) hx hb hts in_X9 tyX9 tyX9_ok nmX9 hown hK hP hD hS 0 rfl rfl 0 (by decide) (hts _ q1667) (fun _ h9 => h9) rfl (by decide +kernel) rfl rfl (Nat.le_of_ble_eq_true rfl) dX9_setPart_2 (fun H locs hP hD hS => ?_)
  have hP : va_P G.1 vwCl [oM h ad 0 sts hs len at_ num many, aI G (ad 1) 68 st, aI G (ad 2) 408 hi, aI G (ad 5) 64 pa, aI G (ad 6) 64 bk, aI G (ad 7) 8 li] _ := hP
  have hD : va_D A [oM h ad 0 sts hs len at_ num many, aI G (ad 1) 68 st, aI G (ad 2) 408 hi, aI G (ad 5) 64 pa, aI G (ad 6) 64 bk, aI G (ad 7) 8 li] := hD
  refine lv_iload_n hx hb dX9_setPart_5 rfl (lv_at hl 1 rfl) ?_
  refine lv_iload_n hx hb dX9_setPart_6 rfl (lv_at hl 2 rfl) ?_
  refine fin_i (ws' := (fun (_ : Unit) => [oM h ad 0 sts hs len at_ num many, aI G (ad 1) 68 st, aI G (ad 2) 408 hi, aI G (ad 5) 64 pa, aI G (ad 6) 64 bk, aI G (ad 7) 8 li])) hA hS hP hD [] rfl [(false, 0), (false, 1), (false, 2), (false, 3), (false, 4), (false, 5)] (fun _ => rfl) (by decide) (run_S (As := [.int (nI r), .int (nI c_)]) (rest := []) (n9 := 2) hx hb hml hown hts hE hAb hl.1 hS hP hD [] rfl (by decide) (t_X9_isCell l G b0 _ (nI r) (nI c_) ) (lw_S q1873 q1874 q129 q1875) ⟨by decide, by decide, by decide +kernel⟩ ⟨Nat.le_of_ble_eq_true rfl, Nat.le_of_ble_eq_true rfl⟩ ⟨by first | exact Nat.le_of_ble_eq_true rfl | (simp only [rm_X9_setPart_3, rm_X9_isCell]; omega), by first | exact Nat.le_of_ble_eq_true rfl | (simp only [rm_X9_setPart_3, rm_X9_isCell]; omega)⟩ dX9_setPart_7 (Nat.le_of_ble_eq_true rfl) rfl rfl) (fun r_1 u_1 H locs h_1 hP hD hS => ?_)
  have hP : va_P G.1 vwCl [oM h ad 0 sts hs len at_ num many, aI G (ad 1) 68 st, aI G (ad 2) 408 hi, aI G (ad 5) 64 pa, aI G (ad 6) 64 bk, aI G (ad 7) 8 li] _ := hP
  have hD : va_D A [oM h ad 0 sts hs len at_ num many, aI G (ad 1) 68 st, aI G (ad 2) 408 hi, aI G (ad 5) 64 pa, aI G (ad 6) 64 bk, aI G (ad 7) 8 li] := hD
  have h_1 : r_1 = (bI (isCe (nI r) (nI c_))) := h_1
  rw [h_1]
  refine B_if_ne (tgt := 19) hx hb dX9_setPart_10 (by decide) (fun c_10 => ?_) (fun c_10 => ?_)
  · skip
    refine lv_iload_n hx hb dX9_setPart_19 rfl (lv_at hl 3 rfl) ?_
    refine lv_sipush (v := (-255)) hx hb dX9_setPart_20 (by decide) ?_
    refine lv_sipush (v := nI 255) hx hb dX9_setPart_23 (by decide) ?_
    refine fin_i (ws' := (fun (_ : Unit) => [oM h ad 0 sts hs len at_ num many, aI G (ad 1) 68 st, aI G (ad 2) 408 hi, aI G (ad 5) 64 pa, aI G (ad 6) 64 bk, aI G (ad 7) 8 li])) hA hS hP hD [] rfl [(false, 0), (false, 1), (false, 2), (false, 3), (false, 4), (false, 5)] (fun _ => rfl) (by decide) (run_S (As := [.int t, .int ((-255)), .int (nI 255)]) (rest := []) (n9 := 3) hx hb hml hown hts hE hAb hl.1 hS hP hD [] rfl (by decide) (t_X9_within l G b0 _ t ((-255)) (nI 255) ) (lw_S q1770 q1771 q129 q1772) ⟨by decide, by decide, by decide +kernel⟩ ⟨Nat.le_of_ble_eq_true rfl, Nat.le_of_ble_eq_true rfl⟩ ⟨by first | exact Nat.le_of_ble_eq_true rfl | (simp only [rm_X9_setPart_3, rm_X9_within]; omega), by first | exact Nat.le_of_ble_eq_true rfl | (simp only [rm_X9_setPart_3, rm_X9_within]; omega)⟩ dX9_setPart_26 (Nat.le_of_ble_eq_true rfl) rfl rfl) (fun r_2 u_2 H locs h_2 hP hD hS => ?_)
    have hP : va_P G.1 vwCl [oM h ad 0 sts hs len at_ num many, aI G (ad 1) 68 st, aI G (ad 2) 408 hi, aI G (ad 5) 64 pa, aI G (ad 6) 64 bk, aI G (ad 7) 8 li] _ := hP
    have hD : va_D A [oM h ad 0 sts hs len at_ num many, aI G (ad 1) 68 st, aI G (ad 2) 408 hi, aI G (ad 5) 64 pa, aI G (ad 6) 64 bk, aI G (ad 7) 8 li] := hD
    have h_2 : r_2 = (bI (inB t ((-255)) (nI 255))) := h_2
    rw [h_2]
    refine B_if_ne (tgt := 38) hx hb dX9_setPart_29 (by decide) (fun c_29 => ?_) (fun c_29 => ?_)
    · skip
      refine lv_aload_n hx hb dX9_setPart_38 rfl (lv_at hl 0 rfl) ?_
      refine fin_v (ws' := (fun (u_3 : Nat → Int32) => [oM h ad 0 sts hs len at_ num many, aI G (ad 1) 68 st, aI G (ad 2) 408 hi, aI G (ad 5) 64 (splitP st L), aI G (ad 6) 64 bk, aI G (ad 7) 8 u_3])) hA hS hP hD [0, 1, 3, 5] rfl [(true, 0), (true, 1), (false, 2), (true, 2), (false, 4), (true, 3)] (fun _ => rfl) (by decide) (run_V (As := []) (rest := []) (n9 := 0) hx hb hml hown hts hE hAb hl.1 hS hP hD [0, 1, 3, 5] rfl (by decide) (t_X9_split l G b0 _ h ad 0 sts hs len at_ num many st pa li L (by omega) (by omega) (by omega)) (lw_V q1777 q1779 qs64 q129 q1780) 0 rfl rfl ⟨rfl, by decide, by decide, by decide +kernel⟩ ⟨Nat.le_of_ble_eq_true rfl, Nat.le_of_ble_eq_true rfl⟩ ⟨by first | exact Nat.le_of_ble_eq_true rfl | (simp only [rm_X9_setPart_3, rm_X9_split]; omega), by first | exact Nat.le_of_ble_eq_true rfl | (simp only [rm_X9_setPart_3, rm_X9_split]; omega)⟩ dX9_setPart_39 (Nat.le_of_ble_eq_true rfl) rfl rfl) (fun u_3 H locs h_3 hP hD hS => ?_)
      have hP : va_P G.1 vwCl [oM h ad 0 sts hs len at_ num many, aI G (ad 1) 68 st, aI G (ad 2) 408 hi, aI G (ad 5) 64 (splitP st L), aI G (ad 6) 64 bk, aI G (ad 7) 8 u_3] _ := hP
      have hD : va_D A [oM h ad 0 sts hs len at_ num many, aI G (ad 1) 68 st, aI G (ad 2) 408 hi, aI G (ad 5) 64 (splitP st L), aI G (ad 6) 64 bk, aI G (ad 7) 8 u_3] := hD
      refine lv_aload_n hx hb dX9_setPart_42 rfl (lv_at hl 0 rfl) ?_
      refine va_get (D := G.1) (ci := 8) (v := .ref (ad 5)) (C := RX9) (T := TX9) (N := 21) hx hb hts in_X9 hown hK hP 0 rfl rfl 8 (by decide) (hts _ q1675) (fun _ h9 => h9) rfl dX9_setPart_43 ?_
      refine lv_bipush (v := nI 8) hx hb dX9_setPart_46 (by decide) ?_
      refine lv_iload_n hx hb dX9_setPart_48 rfl (lv_at hl 1 rfl) ?_
      refine N_imul hx hb dX9_setPart_49 ?_
      refine lv_iload_n hx hb dX9_setPart_50 rfl (lv_at hl 2 rfl) ?_
      refine N_iadd hx hb dX9_setPart_51 ?_
      refine N_iald hx hb dX9_setPart_52 hK hP 3 0 rfl rfl (by omega) (by omega) ?_
      refine lv_istore (lv' := [(4, .int ((splitP st L) ((8 * r) + c_))), (0, .ref h), (1, .int (nI r)), (2, .int (nI c_)), (3, .int t)]) hx hb dX9_setPart_53 hl (by decide) rfl (fun ls hl => ?_)
      refine lv_aload_n hx hb dX9_setPart_55 rfl (lv_at hl 1 rfl) ?_
      refine lv_bipush (v := nI 8) hx hb dX9_setPart_56 (by decide) ?_
      refine lv_iload_n hx hb dX9_setPart_58 rfl (lv_at hl 2 rfl) ?_
      refine N_imul hx hb dX9_setPart_59 ?_
      refine lv_iload_n hx hb dX9_setPart_60 rfl (lv_at hl 3 rfl) ?_
      refine N_iadd hx hb dX9_setPart_61 ?_
      refine lv_iload_n hx hb dX9_setPart_62 rfl (lv_at hl 4 rfl) ?_
      refine fin_i (ws' := (fun (u_4 : Nat → Int32) => [oM h ad 0 sts hs len at_ num many, aI G (ad 1) 68 st, aI G (ad 2) 408 hi, aI G (ad 5) 64 (upd (splitP st L) ((8 * r) + c_) t), aI G (ad 6) 64 (joinP L (upd (splitP st L) ((8 * r) + c_) t)), aI G (ad 7) 8 u_4])) hA hS hP hD [0, 1, 3, 4, 5] rfl [(true, 0), (true, 1), (false, 2), (true, 2), (true, 3), (true, 4)] (fun _ => rfl) (by decide) (run_V (As := [.int (nI ((8 * r) + c_)), .int t]) (rest := []) (n9 := 2) hx hb hml hown hts hE hAb hl.1 hS hP hD [0, 1, 3, 4, 5] rfl (by decide) (t_X9_canPart l G b0 _ h ad 0 sts hs len at_ num many st (splitP st L) bk u_3 ((8 * r) + c_) L t (by omega) (by omega) (by omega) (by omega)) (lw_V q1962 q1964 qs87 q129 q1965) 0 rfl rfl ⟨rfl, by decide, by decide, by decide +kernel⟩ ⟨Nat.le_of_ble_eq_true rfl, Nat.le_of_ble_eq_true rfl⟩ ⟨by first | exact Nat.le_of_ble_eq_true rfl | (simp only [rm_X9_setPart_3, rm_X9_canPart]; omega), by first | exact Nat.le_of_ble_eq_true rfl | (simp only [rm_X9_setPart_3, rm_X9_canPart]; omega)⟩ dX9_setPart_63 (Nat.le_of_ble_eq_true rfl) rfl rfl) (fun r_4 u_4 H locs h_4 hP hD hS => ?_)
      have hP : va_P G.1 vwCl [oM h ad 0 sts hs len at_ num many, aI G (ad 1) 68 st, aI G (ad 2) 408 hi, aI G (ad 5) 64 (upd (splitP st L) ((8 * r) + c_) t), aI G (ad 6) 64 (joinP L (upd (splitP st L) ((8 * r) + c_) t)), aI G (ad 7) 8 u_4] _ := hP
      have hD : va_D A [oM h ad 0 sts hs len at_ num many, aI G (ad 1) 68 st, aI G (ad 2) 408 hi, aI G (ad 5) 64 (upd (splitP st L) ((8 * r) + c_) t), aI G (ad 6) 64 (joinP L (upd (splitP st L) ((8 * r) + c_) t)), aI G (ad 7) 8 u_4] := hD
      have h_4 : r_4 = (bI (allB (shsB (joinP L (upd (splitP st L) ((8 * r) + c_) t))) 64)) := h_4
      rw [h_4]
      refine B_if_ne (tgt := 75) hx hb dX9_setPart_66 (by decide) (fun c_66 => ?_) (fun c_66 => ?_)
      · skip
        exfalso; exact absurd (hcp.symm.trans c_66) (by decide)
      · skip
        refine lv_aload_n hx hb dX9_setPart_69 rfl (lv_at hl 1 rfl) ?_
        refine lv_iconst (v := nI 3) hx hb dX9_setPart_70 (by decide) ?_
        refine fin_i (ws' := (fun (_ : Unit) => [oM h ad 3 sts hs len at_ num many, aI G (ad 1) 68 st, aI G (ad 2) 408 hi, aI G (ad 5) 64 (upd (splitP st L) ((8 * r) + c_) t), aI G (ad 6) 64 (joinP L (upd (splitP st L) ((8 * r) + c_) t)), aI G (ad 7) 8 u_4])) hA hS hP hD [0] rfl [(true, 0), (false, 1), (false, 2), (false, 3), (false, 4), (false, 5)] (fun _ => rfl) (by decide) (run_V (As := [.int (nI 3)]) (rest := []) (n9 := 1) hx hb hml hown hts hE hAb hl.1 hS hP hD [0] rfl (by decide) (t_X9_fails l G b0 _ h ad 0 sts hs len at_ num many 3 ) (lw_V q1739 q1741 qs60 q129 q1742) 0 rfl rfl ⟨rfl, by decide, by decide, by decide +kernel⟩ ⟨Nat.le_of_ble_eq_true rfl, Nat.le_of_ble_eq_true rfl⟩ ⟨by first | exact Nat.le_of_ble_eq_true rfl | (simp only [rm_X9_setPart_3, rm_X9_fails]; omega), by first | exact Nat.le_of_ble_eq_true rfl | (simp only [rm_X9_setPart_3, rm_X9_fails]; omega)⟩ dX9_setPart_71 (Nat.le_of_ble_eq_true rfl) rfl rfl) (fun r_5 u_5 H locs h_5 hP hD hS => ?_)
        have hP : va_P G.1 vwCl [oM h ad 3 sts hs len at_ num many, aI G (ad 1) 68 st, aI G (ad 2) 408 hi, aI G (ad 5) 64 (upd (splitP st L) ((8 * r) + c_) t), aI G (ad 6) 64 (joinP L (upd (splitP st L) ((8 * r) + c_) t)), aI G (ad 7) 8 u_4] _ := hP
        have hD : va_D A [oM h ad 3 sts hs len at_ num many, aI G (ad 1) 68 st, aI G (ad 2) 408 hi, aI G (ad 5) 64 (upd (splitP st L) ((8 * r) + c_) t), aI G (ad 6) 64 (joinP L (upd (splitP st L) ((8 * r) + c_) t)), aI G (ad 7) 8 u_4] := hD
        have h_5 : r_5 = (nI 0) := h_5
        rw [h_5]
        have hP : va_P G.1 vwCl [oM h ad 3 sts hs len at_ num many, aI G (ad 1) 68 st, aI G (ad 2) 408 hi, aI G (ad 5) 64 (((upd (splitP st L) ((8 * r) + c_) t, joinP L (upd (splitP st L) ((8 * r) + c_) t), u_4)).1), aI G (ad 6) 64 (((upd (splitP st L) ((8 * r) + c_) t, joinP L (upd (splitP st L) ((8 * r) + c_) t), u_4)).2.1), aI G (ad 7) 8 (((upd (splitP st L) ((8 * r) + c_) t, joinP L (upd (splitP st L) ((8 * r) + c_) t), u_4)).2.2)] _ := hP
        have hD : va_D A [oM h ad 3 sts hs len at_ num many, aI G (ad 1) 68 st, aI G (ad 2) 408 hi, aI G (ad 5) 64 (((upd (splitP st L) ((8 * r) + c_) t, joinP L (upd (splitP st L) ((8 * r) + c_) t), u_4)).1), aI G (ad 6) 64 (((upd (splitP st L) ((8 * r) + c_) t, joinP L (upd (splitP st L) ((8 * r) + c_) t), u_4)).2.1), aI G (ad 7) 8 (((upd (splitP st L) ((8 * r) + c_) t, joinP L (upd (splitP st L) ((8 * r) + c_) t), u_4)).2.2)] := hD
        rw [hQQ]
        exact rt_i hx hb hr hlk  ((upd (splitP st L) ((8 * r) + c_) t, joinP L (upd (splitP st L) ((8 * r) + c_) t), u_4)) dX9_setPart_74 hP hD hS (by first | exact Nat.le_of_ble_eq_true rfl | (simp only [rm_X9_setPart_3]; omega)) (by first | exact Nat.le_of_ble_eq_true rfl | (simp only [rm_X9_setPart_3]; omega)) (by rfl)
    · skip
      exfalso; exact absurd (htv.symm.trans c_29) (by decide)
  · skip
    exfalso; exact absurd ((isCe_n hr_ hc_).symm.trans c_10) (by decide)
def rm_X9_dropCrumbs_0 : Room := ({ frames := 6, cells := 0, slots := 0, locals := 150 } : Room)
set_option maxHeartbeats 400000 in
set_option maxRecDepth 100000 in
theorem t_X9_dropCrumbs_0 (l : Launch) (G : GG) (b0 sz : Nat) (h : Nat) (ad : Nat → Nat) (thr sts : Nat) (hs : Bool) (len at_ num many : Nat) (st hi pa bk li : Nat → Int32) (L : Nat) (t : Int32) (hL1 : 1 ≤ L) (hL : L ≤ 3) (hst : st 64 = nI L) (hs6 : sts ≤ 6) (htt : isSh t = true) (hcn : ¬ l_sum (crmN L t (splitP st L)) 64 = 0) : CT l yX9_dropCrumbs cX9_dropCrumbs 4 (some FieldType.int) (rm_X9_dropCrumbs_0) G b0 [.ref h, .int t] [oM h ad thr sts hs len at_ num many, aI G (ad 1) 68 st, aI G (ad 2) 408 hi, aI G (ad 5) 64 pa, aI G (ad 6) 64 bk, aI G (ad 7) 8 li] sz (Ri G (fun (r_ : Int32) (u : (Nat → Int32) × (Nat → Int32) × (Nat → Int32)) => r_ = l_sum (crmN L t (splitP st L)) 64) (fun (u : (Nat → Int32) × (Nat → Int32) × (Nat → Int32)) => [oM h ad 0 (recN sts) hs len at_ num many, aI G (ad 1) 68 (fillTo 64 (bkD L t st) st), aI G (ad 2) 408 (recH st hi sts), aI G (ad 5) 64 u.1, aI G (ad 6) 64 u.2.1, aI G (ad 7) 8 u.2.2])) := by
  refine CT.go (by decide) (Nat.le_of_ble_eq_true rfl) (fun p e s m below meth c A ls AR QQ hx hb hr hlk hml hown hnm hts hE hA hAb hsz hP hD hS hl hQQ => ?_)
  have hK := hE.1
  have hown : s.vm.findClass RX9 = some m.cls := hown
  have hl : lv_has ls 4 [(0, .ref h), (1, .int t)] := hl
  clear hsz
  refine lv_aload_n hx hb dX9_dropCrumbs_0 rfl (lv_at hl 0 rfl) ?_
  refine lv_iconst (v := nI 0) hx hb dX9_dropCrumbs_1 (by decide) ?_
  refine va_put (D := G.1) (ci := 8) (v := .int (nI 0)) (ty := .int) (C := RX9) (T := TX9) (N := 21) hx hb hts in_X9 tyX9 tyX9_ok nmX9 hown hK hP hD hS 0 rfl rfl 0 (by decide) (hts _ q1667) (fun _ h9 => h9) rfl (by decide +kernel) rfl rfl (Nat.le_of_ble_eq_true rfl) dX9_dropCrumbs_2 (fun H locs hP hD hS => ?_)
  have hP : va_P G.1 vwCl [oM h ad 0 sts hs len at_ num many, aI G (ad 1) 68 st, aI G (ad 2) 408 hi, aI G (ad 5) 64 pa, aI G (ad 6) 64 bk, aI G (ad 7) 8 li] _ := hP
  have hD : va_D A [oM h ad 0 sts hs len at_ num many, aI G (ad 1) 68 st, aI G (ad 2) 408 hi, aI G (ad 5) 64 pa, aI G (ad 6) 64 bk, aI G (ad 7) 8 li] := hD
  refine lv_iload_n hx hb dX9_dropCrumbs_5 rfl (lv_at hl 1 rfl) ?_
  refine fin_i (ws' := (fun (_ : Unit) => [oM h ad 0 sts hs len at_ num many, aI G (ad 1) 68 st, aI G (ad 2) 408 hi, aI G (ad 5) 64 pa, aI G (ad 6) 64 bk, aI G (ad 7) 8 li])) hA hS hP hD [] rfl [(false, 0), (false, 1), (false, 2), (false, 3), (false, 4), (false, 5)] (fun _ => rfl) (by decide) (run_S (As := [.int t]) (rest := []) (n9 := 1) hx hb hml hown hts hE hAb hl.1 hS hP hD [] rfl (by decide) (t_X9_isShade l G b0 _ t ) (lw_S q1767 q1768 q129 q1769) ⟨by decide, by decide, by decide +kernel⟩ ⟨Nat.le_of_ble_eq_true rfl, Nat.le_of_ble_eq_true rfl⟩ ⟨by first | exact Nat.le_of_ble_eq_true rfl | (simp only [rm_X9_dropCrumbs_0, rm_X9_isShade]; omega), by first | exact Nat.le_of_ble_eq_true rfl | (simp only [rm_X9_dropCrumbs_0, rm_X9_isShade]; omega)⟩ dX9_dropCrumbs_6 (Nat.le_of_ble_eq_true rfl) rfl rfl) (fun r_1 u_1 H locs h_1 hP hD hS => ?_)
  have hP : va_P G.1 vwCl [oM h ad 0 sts hs len at_ num many, aI G (ad 1) 68 st, aI G (ad 2) 408 hi, aI G (ad 5) 64 pa, aI G (ad 6) 64 bk, aI G (ad 7) 8 li] _ := hP
  have hD : va_D A [oM h ad 0 sts hs len at_ num many, aI G (ad 1) 68 st, aI G (ad 2) 408 hi, aI G (ad 5) 64 pa, aI G (ad 6) 64 bk, aI G (ad 7) 8 li] := hD
  have h_1 : r_1 = (bI (isSh t)) := h_1
  rw [h_1]
  refine B_if_ne (tgt := 18) hx hb dX9_dropCrumbs_9 (by decide) (fun c_9 => ?_) (fun c_9 => ?_)
  · skip
    refine lv_aload_n hx hb dX9_dropCrumbs_18 rfl (lv_at hl 0 rfl) ?_
    refine lv_iload_n hx hb dX9_dropCrumbs_19 rfl (lv_at hl 1 rfl) ?_
    refine fin_i (ws' := (fun (u_2 : Nat → Int32) => [oM h ad 0 sts hs len at_ num many, aI G (ad 1) 68 st, aI G (ad 2) 408 hi, aI G (ad 5) 64 (drpA L t (splitP st L)), aI G (ad 6) 64 bk, aI G (ad 7) 8 u_2])) hA hS hP hD [0, 1, 3, 5] rfl [(true, 0), (true, 1), (false, 2), (true, 2), (false, 4), (true, 3)] (fun _ => rfl) (by decide) (run_V (As := [.int t]) (rest := []) (n9 := 1) hx hb hml hown hts hE hAb hl.1 hS hP hD [0, 1, 3, 5] rfl (by decide) (t_X9_dropFrom l G b0 _ h ad 0 sts hs len at_ num many st pa li L t (by omega) (by omega) (by omega)) (lw_V q1773 q1775 qs63 q129 q1776) 0 rfl rfl ⟨rfl, by decide, by decide, by decide +kernel⟩ ⟨Nat.le_of_ble_eq_true rfl, Nat.le_of_ble_eq_true rfl⟩ ⟨by first | exact Nat.le_of_ble_eq_true rfl | (simp only [rm_X9_dropCrumbs_0, rm_X9_dropFrom]; omega), by first | exact Nat.le_of_ble_eq_true rfl | (simp only [rm_X9_dropCrumbs_0, rm_X9_dropFrom]; omega)⟩ dX9_dropCrumbs_20 (Nat.le_of_ble_eq_true rfl) rfl rfl) (fun r_2 u_2 H locs h_2 hP hD hS => ?_)
    have hP : va_P G.1 vwCl [oM h ad 0 sts hs len at_ num many, aI G (ad 1) 68 st, aI G (ad 2) 408 hi, aI G (ad 5) 64 (drpA L t (splitP st L)), aI G (ad 6) 64 bk, aI G (ad 7) 8 u_2] _ := hP
    have hD : va_D A [oM h ad 0 sts hs len at_ num many, aI G (ad 1) 68 st, aI G (ad 2) 408 hi, aI G (ad 5) 64 (drpA L t (splitP st L)), aI G (ad 6) 64 bk, aI G (ad 7) 8 u_2] := hD
    have h_2 : r_2 = (l_sum (crmN L t (splitP st L)) 64) := h_2
    rw [h_2]
    refine lv_istore_n (lv' := [(2, .int (l_sum (crmN L t (splitP st L)) 64)), (0, .ref h), (1, .int t)]) hx hb dX9_dropCrumbs_23 rfl hl (by decide) rfl (fun ls hl => ?_)
    refine lv_iload_n hx hb dX9_dropCrumbs_24 rfl (lv_at hl 0 rfl) ?_
    refine lv_if_ne (tgt := 34) hx hb dX9_dropCrumbs_25 (by decide) (fun c_25 => ?_) (fun c_25 => ?_)
    · skip
      refine lv_aload_n hx hb dX9_dropCrumbs_34 rfl (lv_at hl 1 rfl) ?_
      refine fin_v (ws' := (fun (_ : Unit) => [oM h ad 0 (recN sts) hs len at_ num many, aI G (ad 1) 68 st, aI G (ad 2) 408 (recH st hi sts), aI G (ad 5) 64 (drpA L t (splitP st L)), aI G (ad 6) 64 bk, aI G (ad 7) 8 u_2])) hA hS hP hD [0, 1, 2] rfl [(true, 0), (true, 1), (true, 2), (false, 3), (false, 4), (false, 5)] (fun _ => rfl) (by decide) (run_V (As := []) (rest := []) (n9 := 0) hx hb hml hown hts hE hAb hl.1 hS hP hD [0, 1, 2] rfl (by decide) (t_X9_record l G b0 _ h ad 0 sts hs len at_ num many st hi (by omega)) (lw_V q1755 q1757 qs62 q129 q1758) 0 rfl rfl ⟨rfl, by decide, by decide, by decide +kernel⟩ ⟨Nat.le_of_ble_eq_true rfl, Nat.le_of_ble_eq_true rfl⟩ ⟨by first | exact Nat.le_of_ble_eq_true rfl | (simp only [rm_X9_dropCrumbs_0, rm_X9_record]; omega), by first | exact Nat.le_of_ble_eq_true rfl | (simp only [rm_X9_dropCrumbs_0, rm_X9_record]; omega)⟩ dX9_dropCrumbs_35 (Nat.le_of_ble_eq_true rfl) rfl rfl) (fun u_3 H locs h_3 hP hD hS => ?_)
      have hP : va_P G.1 vwCl [oM h ad 0 (recN sts) hs len at_ num many, aI G (ad 1) 68 st, aI G (ad 2) 408 (recH st hi sts), aI G (ad 5) 64 (drpA L t (splitP st L)), aI G (ad 6) 64 bk, aI G (ad 7) 8 u_2] _ := hP
      have hD : va_D A [oM h ad 0 (recN sts) hs len at_ num many, aI G (ad 1) 68 st, aI G (ad 2) 408 (recH st hi sts), aI G (ad 5) 64 (drpA L t (splitP st L)), aI G (ad 6) 64 bk, aI G (ad 7) 8 u_2] := hD
      refine lv_aload_n hx hb dX9_dropCrumbs_38 rfl (lv_at hl 1 rfl) ?_
      refine fin_v (ws' := (fun (u_4 : Nat → Int32) => [oM h ad 0 (recN sts) hs len at_ num many, aI G (ad 1) 68 st, aI G (ad 2) 408 (recH st hi sts), aI G (ad 5) 64 (drpA L t (splitP st L)), aI G (ad 6) 64 (clmF (joinP L (drpA L t (splitP st L)))), aI G (ad 7) 8 u_4])) hA hS hP hD [0, 1, 3, 4, 5] rfl [(true, 0), (true, 1), (false, 2), (true, 2), (true, 3), (true, 4)] (fun _ => rfl) (by decide) (run_V (As := []) (rest := []) (n9 := 0) hx hb hml hown hts hE hAb hl.1 hS hP hD [0, 1, 3, 4, 5] rfl (by decide) (t_X9_joinClamped l G b0 _ h ad 0 (recN sts) hs len at_ num many st (drpA L t (splitP st L)) bk u_2 L (by omega) (by omega) (by omega)) (lw_V q1810 q1812 qs69 q129 q1813) 0 rfl rfl ⟨rfl, by decide, by decide, by decide +kernel⟩ ⟨Nat.le_of_ble_eq_true rfl, Nat.le_of_ble_eq_true rfl⟩ ⟨by first | exact Nat.le_of_ble_eq_true rfl | (simp only [rm_X9_dropCrumbs_0, rm_X9_joinClamped]; omega), by first | exact Nat.le_of_ble_eq_true rfl | (simp only [rm_X9_dropCrumbs_0, rm_X9_joinClamped]; omega)⟩ dX9_dropCrumbs_39 (Nat.le_of_ble_eq_true rfl) rfl rfl) (fun u_4 H locs h_4 hP hD hS => ?_)
      have hP : va_P G.1 vwCl [oM h ad 0 (recN sts) hs len at_ num many, aI G (ad 1) 68 st, aI G (ad 2) 408 (recH st hi sts), aI G (ad 5) 64 (drpA L t (splitP st L)), aI G (ad 6) 64 (clmF (joinP L (drpA L t (splitP st L)))), aI G (ad 7) 8 u_4] _ := hP
      have hD : va_D A [oM h ad 0 (recN sts) hs len at_ num many, aI G (ad 1) 68 st, aI G (ad 2) 408 (recH st hi sts), aI G (ad 5) 64 (drpA L t (splitP st L)), aI G (ad 6) 64 (clmF (joinP L (drpA L t (splitP st L)))), aI G (ad 7) 8 u_4] := hD
      refine lv_aload_n hx hb dX9_dropCrumbs_42 rfl (lv_at hl 1 rfl) ?_
      refine fin_i (ws' := (fun (_ : Unit) => [oM h ad 0 (recN sts) hs len at_ num many, aI G (ad 1) 68 (fillTo 64 (clmF (joinP L (drpA L t (splitP st L)))) st), aI G (ad 2) 408 (recH st hi sts), aI G (ad 5) 64 (drpA L t (splitP st L)), aI G (ad 6) 64 (clmF (joinP L (drpA L t (splitP st L)))), aI G (ad 7) 8 u_4])) hA hS hP hD [0, 1, 4] rfl [(true, 0), (true, 1), (false, 2), (false, 3), (true, 2), (false, 5)] (fun _ => rfl) (by decide) (run_V (As := []) (rest := []) (n9 := 0) hx hb hml hown hts hE hAb hl.1 hS hP hD [0, 1, 4] rfl (by decide) (t_X9_takeBack l G b0 _ h ad 0 (recN sts) hs len at_ num many st (clmF (joinP L (drpA L t (splitP st L)))) ) (lw_V q1966 q1968 qs88 q129 q1969) 0 rfl rfl ⟨rfl, by decide, by decide, by decide +kernel⟩ ⟨Nat.le_of_ble_eq_true rfl, Nat.le_of_ble_eq_true rfl⟩ ⟨by first | exact Nat.le_of_ble_eq_true rfl | (simp only [rm_X9_dropCrumbs_0, rm_X9_takeBack]; omega), by first | exact Nat.le_of_ble_eq_true rfl | (simp only [rm_X9_dropCrumbs_0, rm_X9_takeBack]; omega)⟩ dX9_dropCrumbs_43 (Nat.le_of_ble_eq_true rfl) rfl rfl) (fun r_5 u_5 H locs h_5 hP hD hS => ?_)
      have hP : va_P G.1 vwCl [oM h ad 0 (recN sts) hs len at_ num many, aI G (ad 1) 68 (fillTo 64 (clmF (joinP L (drpA L t (splitP st L)))) st), aI G (ad 2) 408 (recH st hi sts), aI G (ad 5) 64 (drpA L t (splitP st L)), aI G (ad 6) 64 (clmF (joinP L (drpA L t (splitP st L)))), aI G (ad 7) 8 u_4] _ := hP
      have hD : va_D A [oM h ad 0 (recN sts) hs len at_ num many, aI G (ad 1) 68 (fillTo 64 (clmF (joinP L (drpA L t (splitP st L)))) st), aI G (ad 2) 408 (recH st hi sts), aI G (ad 5) 64 (drpA L t (splitP st L)), aI G (ad 6) 64 (clmF (joinP L (drpA L t (splitP st L)))), aI G (ad 7) 8 u_4] := hD
      have h_5 : r_5 = (l_sum (cneI (clmF (joinP L (drpA L t (splitP st L)))) st) 64) := h_5
      rw [h_5]
      refine lv_istore_n (lv' := [(3, .int (l_sum (cneI (clmF (joinP L (drpA L t (splitP st L)))) st) 64)), (2, .int (l_sum (crmN L t (splitP st L)) 64)), (0, .ref h), (1, .int t)]) hx hb dX9_dropCrumbs_46 rfl hl (by decide) rfl (fun ls hl => ?_)
      refine lv_iload_n hx hb dX9_dropCrumbs_47 rfl (lv_at hl 1 rfl) ?_
      have hP : va_P G.1 vwCl [oM h ad 0 (recN sts) hs len at_ num many, aI G (ad 1) 68 (fillTo 64 (bkD L t st) st), aI G (ad 2) 408 (recH st hi sts), aI G (ad 5) 64 (((drpA L t (splitP st L), clmF (joinP L (drpA L t (splitP st L))), u_4)).1), aI G (ad 6) 64 (((drpA L t (splitP st L), clmF (joinP L (drpA L t (splitP st L))), u_4)).2.1), aI G (ad 7) 8 (((drpA L t (splitP st L), clmF (joinP L (drpA L t (splitP st L))), u_4)).2.2)] _ := hP
      have hD : va_D A [oM h ad 0 (recN sts) hs len at_ num many, aI G (ad 1) 68 (fillTo 64 (bkD L t st) st), aI G (ad 2) 408 (recH st hi sts), aI G (ad 5) 64 (((drpA L t (splitP st L), clmF (joinP L (drpA L t (splitP st L))), u_4)).1), aI G (ad 6) 64 (((drpA L t (splitP st L), clmF (joinP L (drpA L t (splitP st L))), u_4)).2.1), aI G (ad 7) 8 (((drpA L t (splitP st L), clmF (joinP L (drpA L t (splitP st L))), u_4)).2.2)] := hD
      rw [hQQ]
      exact rt_i hx hb hr hlk  ((drpA L t (splitP st L), clmF (joinP L (drpA L t (splitP st L))), u_4)) dX9_dropCrumbs_48 hP hD hS (by first | exact Nat.le_of_ble_eq_true rfl | (simp only [rm_X9_dropCrumbs_0]; omega)) (by first | exact Nat.le_of_ble_eq_true rfl | (simp only [rm_X9_dropCrumbs_0]; omega)) (by rfl)
    · skip
      exfalso; exact hcn c_25
  · skip
    exfalso; exact absurd (htt.symm.trans c_9) (by decide)
def rm_X9_dropCrumbs_1 : Room := ({ frames := 6, cells := 0, slots := 0, locals := 150 } : Room)
set_option maxHeartbeats 400000 in
set_option maxRecDepth 100000 in
theorem t_X9_dropCrumbs_1 (l : Launch) (G : GG) (b0 sz : Nat) (h : Nat) (ad : Nat → Nat) (thr sts : Nat) (hs : Bool) (len at_ num many : Nat) (st hi pa bk li : Nat → Int32) (t : Int32) (htt : isSh t = false) : CT l yX9_dropCrumbs cX9_dropCrumbs 4 (some FieldType.int) (rm_X9_dropCrumbs_1) G b0 [.ref h, .int t] [oM h ad thr sts hs len at_ num many, aI G (ad 1) 68 st, aI G (ad 2) 408 hi, aI G (ad 5) 64 pa, aI G (ad 6) 64 bk, aI G (ad 7) 8 li] sz (Ri G (fun (r_ : Int32) (_ : Unit) => r_ = nI 0) (fun (_ : Unit) => [oM h ad 1 sts hs len at_ num many, aI G (ad 1) 68 st, aI G (ad 2) 408 hi, aI G (ad 5) 64 pa, aI G (ad 6) 64 bk, aI G (ad 7) 8 li])) := by
  refine CT.go (by decide) (Nat.le_of_ble_eq_true rfl) (fun p e s m below meth c A ls AR QQ hx hb hr hlk hml hown hnm hts hE hA hAb hsz hP hD hS hl hQQ => ?_)
  have hK := hE.1
  have hown : s.vm.findClass RX9 = some m.cls := hown
  have hl : lv_has ls 4 [(0, .ref h), (1, .int t)] := hl
  clear hsz
  refine lv_aload_n hx hb dX9_dropCrumbs_0 rfl (lv_at hl 0 rfl) ?_
  refine lv_iconst (v := nI 0) hx hb dX9_dropCrumbs_1 (by decide) ?_
  refine va_put (D := G.1) (ci := 8) (v := .int (nI 0)) (ty := .int) (C := RX9) (T := TX9) (N := 21) hx hb hts in_X9 tyX9 tyX9_ok nmX9 hown hK hP hD hS 0 rfl rfl 0 (by decide) (hts _ q1667) (fun _ h9 => h9) rfl (by decide +kernel) rfl rfl (Nat.le_of_ble_eq_true rfl) dX9_dropCrumbs_2 (fun H locs hP hD hS => ?_)
  have hP : va_P G.1 vwCl [oM h ad 0 sts hs len at_ num many, aI G (ad 1) 68 st, aI G (ad 2) 408 hi, aI G (ad 5) 64 pa, aI G (ad 6) 64 bk, aI G (ad 7) 8 li] _ := hP
  have hD : va_D A [oM h ad 0 sts hs len at_ num many, aI G (ad 1) 68 st, aI G (ad 2) 408 hi, aI G (ad 5) 64 pa, aI G (ad 6) 64 bk, aI G (ad 7) 8 li] := hD
  refine lv_iload_n hx hb dX9_dropCrumbs_5 rfl (lv_at hl 1 rfl) ?_
  refine fin_i (ws' := (fun (_ : Unit) => [oM h ad 0 sts hs len at_ num many, aI G (ad 1) 68 st, aI G (ad 2) 408 hi, aI G (ad 5) 64 pa, aI G (ad 6) 64 bk, aI G (ad 7) 8 li])) hA hS hP hD [] rfl [(false, 0), (false, 1), (false, 2), (false, 3), (false, 4), (false, 5)] (fun _ => rfl) (by decide) (run_S (As := [.int t]) (rest := []) (n9 := 1) hx hb hml hown hts hE hAb hl.1 hS hP hD [] rfl (by decide) (t_X9_isShade l G b0 _ t ) (lw_S q1767 q1768 q129 q1769) ⟨by decide, by decide, by decide +kernel⟩ ⟨Nat.le_of_ble_eq_true rfl, Nat.le_of_ble_eq_true rfl⟩ ⟨by first | exact Nat.le_of_ble_eq_true rfl | (simp only [rm_X9_dropCrumbs_1, rm_X9_isShade]; omega), by first | exact Nat.le_of_ble_eq_true rfl | (simp only [rm_X9_dropCrumbs_1, rm_X9_isShade]; omega)⟩ dX9_dropCrumbs_6 (Nat.le_of_ble_eq_true rfl) rfl rfl) (fun r_1 u_1 H locs h_1 hP hD hS => ?_)
  have hP : va_P G.1 vwCl [oM h ad 0 sts hs len at_ num many, aI G (ad 1) 68 st, aI G (ad 2) 408 hi, aI G (ad 5) 64 pa, aI G (ad 6) 64 bk, aI G (ad 7) 8 li] _ := hP
  have hD : va_D A [oM h ad 0 sts hs len at_ num many, aI G (ad 1) 68 st, aI G (ad 2) 408 hi, aI G (ad 5) 64 pa, aI G (ad 6) 64 bk, aI G (ad 7) 8 li] := hD
  have h_1 : r_1 = (bI (isSh t)) := h_1
  rw [h_1]
  refine B_if_ne (tgt := 18) hx hb dX9_dropCrumbs_9 (by decide) (fun c_9 => ?_) (fun c_9 => ?_)
  · skip
    exfalso; exact absurd (htt.symm.trans c_9) (by decide)
  · skip
    refine lv_aload_n hx hb dX9_dropCrumbs_12 rfl (lv_at hl 0 rfl) ?_
    refine lv_iconst (v := nI 1) hx hb dX9_dropCrumbs_13 (by decide) ?_
    refine fin_i (ws' := (fun (_ : Unit) => [oM h ad 1 sts hs len at_ num many, aI G (ad 1) 68 st, aI G (ad 2) 408 hi, aI G (ad 5) 64 pa, aI G (ad 6) 64 bk, aI G (ad 7) 8 li])) hA hS hP hD [0] rfl [(true, 0), (false, 1), (false, 2), (false, 3), (false, 4), (false, 5)] (fun _ => rfl) (by decide) (run_V (As := [.int (nI 1)]) (rest := []) (n9 := 1) hx hb hml hown hts hE hAb hl.1 hS hP hD [0] rfl (by decide) (t_X9_fails l G b0 _ h ad 0 sts hs len at_ num many 1 ) (lw_V q1739 q1741 qs60 q129 q1742) 0 rfl rfl ⟨rfl, by decide, by decide, by decide +kernel⟩ ⟨Nat.le_of_ble_eq_true rfl, Nat.le_of_ble_eq_true rfl⟩ ⟨by first | exact Nat.le_of_ble_eq_true rfl | (simp only [rm_X9_dropCrumbs_1, rm_X9_fails]; omega), by first | exact Nat.le_of_ble_eq_true rfl | (simp only [rm_X9_dropCrumbs_1, rm_X9_fails]; omega)⟩ dX9_dropCrumbs_14 (Nat.le_of_ble_eq_true rfl) rfl rfl) (fun r_2 u_2 H locs h_2 hP hD hS => ?_)
    have hP : va_P G.1 vwCl [oM h ad 1 sts hs len at_ num many, aI G (ad 1) 68 st, aI G (ad 2) 408 hi, aI G (ad 5) 64 pa, aI G (ad 6) 64 bk, aI G (ad 7) 8 li] _ := hP
    have hD : va_D A [oM h ad 1 sts hs len at_ num many, aI G (ad 1) 68 st, aI G (ad 2) 408 hi, aI G (ad 5) 64 pa, aI G (ad 6) 64 bk, aI G (ad 7) 8 li] := hD
    have h_2 : r_2 = (nI 0) := h_2
    rw [h_2]
    rw [hQQ]
    exact rt_i hx hb hr hlk  (()) dX9_dropCrumbs_17 hP hD hS (by first | exact Nat.le_of_ble_eq_true rfl | (simp only [rm_X9_dropCrumbs_1]; omega)) (by first | exact Nat.le_of_ble_eq_true rfl | (simp only [rm_X9_dropCrumbs_1]; omega)) (by rfl)
def rm_X9_dropCrumbs_2 : Room := ({ frames := 6, cells := 0, slots := 0, locals := 150 } : Room)
set_option maxHeartbeats 400000 in
set_option maxRecDepth 100000 in
theorem t_X9_dropCrumbs_2 (l : Launch) (G : GG) (b0 sz : Nat) (h : Nat) (ad : Nat → Nat) (thr sts : Nat) (hs : Bool) (len at_ num many : Nat) (st hi pa bk li : Nat → Int32) (L : Nat) (t : Int32) (hL1 : 1 ≤ L) (hL : L ≤ 3) (hst : st 64 = nI L) (htt : isSh t = true) (hcn : l_sum (crmN L t (splitP st L)) 64 = 0) : CT l yX9_dropCrumbs cX9_dropCrumbs 4 (some FieldType.int) (rm_X9_dropCrumbs_2) G b0 [.ref h, .int t] [oM h ad thr sts hs len at_ num many, aI G (ad 1) 68 st, aI G (ad 2) 408 hi, aI G (ad 5) 64 pa, aI G (ad 6) 64 bk, aI G (ad 7) 8 li] sz (Ri G (fun (r_ : Int32) (u : (Nat → Int32) × (Nat → Int32) × (Nat → Int32)) => r_ = nI 0) (fun (u : (Nat → Int32) × (Nat → Int32) × (Nat → Int32)) => [oM h ad 2 sts hs len at_ num many, aI G (ad 1) 68 st, aI G (ad 2) 408 hi, aI G (ad 5) 64 u.1, aI G (ad 6) 64 u.2.1, aI G (ad 7) 8 u.2.2])) := by
  refine CT.go (by decide) (Nat.le_of_ble_eq_true rfl) (fun p e s m below meth c A ls AR QQ hx hb hr hlk hml hown hnm hts hE hA hAb hsz hP hD hS hl hQQ => ?_)
  have hK := hE.1
  have hown : s.vm.findClass RX9 = some m.cls := hown
  have hl : lv_has ls 4 [(0, .ref h), (1, .int t)] := hl
  clear hsz
  refine lv_aload_n hx hb dX9_dropCrumbs_0 rfl (lv_at hl 0 rfl) ?_
  refine lv_iconst (v := nI 0) hx hb dX9_dropCrumbs_1 (by decide) ?_
  refine va_put (D := G.1) (ci := 8) (v := .int (nI 0)) (ty := .int) (C := RX9) (T := TX9) (N := 21) hx hb hts in_X9 tyX9 tyX9_ok nmX9 hown hK hP hD hS 0 rfl rfl 0 (by decide) (hts _ q1667) (fun _ h9 => h9) rfl (by decide +kernel) rfl rfl (Nat.le_of_ble_eq_true rfl) dX9_dropCrumbs_2 (fun H locs hP hD hS => ?_)
  have hP : va_P G.1 vwCl [oM h ad 0 sts hs len at_ num many, aI G (ad 1) 68 st, aI G (ad 2) 408 hi, aI G (ad 5) 64 pa, aI G (ad 6) 64 bk, aI G (ad 7) 8 li] _ := hP
  have hD : va_D A [oM h ad 0 sts hs len at_ num many, aI G (ad 1) 68 st, aI G (ad 2) 408 hi, aI G (ad 5) 64 pa, aI G (ad 6) 64 bk, aI G (ad 7) 8 li] := hD
  refine lv_iload_n hx hb dX9_dropCrumbs_5 rfl (lv_at hl 1 rfl) ?_
  refine fin_i (ws' := (fun (_ : Unit) => [oM h ad 0 sts hs len at_ num many, aI G (ad 1) 68 st, aI G (ad 2) 408 hi, aI G (ad 5) 64 pa, aI G (ad 6) 64 bk, aI G (ad 7) 8 li])) hA hS hP hD [] rfl [(false, 0), (false, 1), (false, 2), (false, 3), (false, 4), (false, 5)] (fun _ => rfl) (by decide) (run_S (As := [.int t]) (rest := []) (n9 := 1) hx hb hml hown hts hE hAb hl.1 hS hP hD [] rfl (by decide) (t_X9_isShade l G b0 _ t ) (lw_S q1767 q1768 q129 q1769) ⟨by decide, by decide, by decide +kernel⟩ ⟨Nat.le_of_ble_eq_true rfl, Nat.le_of_ble_eq_true rfl⟩ ⟨by first | exact Nat.le_of_ble_eq_true rfl | (simp only [rm_X9_dropCrumbs_2, rm_X9_isShade]; omega), by first | exact Nat.le_of_ble_eq_true rfl | (simp only [rm_X9_dropCrumbs_2, rm_X9_isShade]; omega)⟩ dX9_dropCrumbs_6 (Nat.le_of_ble_eq_true rfl) rfl rfl) (fun r_1 u_1 H locs h_1 hP hD hS => ?_)
  have hP : va_P G.1 vwCl [oM h ad 0 sts hs len at_ num many, aI G (ad 1) 68 st, aI G (ad 2) 408 hi, aI G (ad 5) 64 pa, aI G (ad 6) 64 bk, aI G (ad 7) 8 li] _ := hP
  have hD : va_D A [oM h ad 0 sts hs len at_ num many, aI G (ad 1) 68 st, aI G (ad 2) 408 hi, aI G (ad 5) 64 pa, aI G (ad 6) 64 bk, aI G (ad 7) 8 li] := hD
  have h_1 : r_1 = (bI (isSh t)) := h_1
  rw [h_1]
  refine B_if_ne (tgt := 18) hx hb dX9_dropCrumbs_9 (by decide) (fun c_9 => ?_) (fun c_9 => ?_)
  · skip
    refine lv_aload_n hx hb dX9_dropCrumbs_18 rfl (lv_at hl 0 rfl) ?_
    refine lv_iload_n hx hb dX9_dropCrumbs_19 rfl (lv_at hl 1 rfl) ?_
    refine fin_i (ws' := (fun (u_2 : Nat → Int32) => [oM h ad 0 sts hs len at_ num many, aI G (ad 1) 68 st, aI G (ad 2) 408 hi, aI G (ad 5) 64 (drpA L t (splitP st L)), aI G (ad 6) 64 bk, aI G (ad 7) 8 u_2])) hA hS hP hD [0, 1, 3, 5] rfl [(true, 0), (true, 1), (false, 2), (true, 2), (false, 4), (true, 3)] (fun _ => rfl) (by decide) (run_V (As := [.int t]) (rest := []) (n9 := 1) hx hb hml hown hts hE hAb hl.1 hS hP hD [0, 1, 3, 5] rfl (by decide) (t_X9_dropFrom l G b0 _ h ad 0 sts hs len at_ num many st pa li L t (by omega) (by omega) (by omega)) (lw_V q1773 q1775 qs63 q129 q1776) 0 rfl rfl ⟨rfl, by decide, by decide, by decide +kernel⟩ ⟨Nat.le_of_ble_eq_true rfl, Nat.le_of_ble_eq_true rfl⟩ ⟨by first | exact Nat.le_of_ble_eq_true rfl | (simp only [rm_X9_dropCrumbs_2, rm_X9_dropFrom]; omega), by first | exact Nat.le_of_ble_eq_true rfl | (simp only [rm_X9_dropCrumbs_2, rm_X9_dropFrom]; omega)⟩ dX9_dropCrumbs_20 (Nat.le_of_ble_eq_true rfl) rfl rfl) (fun r_2 u_2 H locs h_2 hP hD hS => ?_)
    have hP : va_P G.1 vwCl [oM h ad 0 sts hs len at_ num many, aI G (ad 1) 68 st, aI G (ad 2) 408 hi, aI G (ad 5) 64 (drpA L t (splitP st L)), aI G (ad 6) 64 bk, aI G (ad 7) 8 u_2] _ := hP
    have hD : va_D A [oM h ad 0 sts hs len at_ num many, aI G (ad 1) 68 st, aI G (ad 2) 408 hi, aI G (ad 5) 64 (drpA L t (splitP st L)), aI G (ad 6) 64 bk, aI G (ad 7) 8 u_2] := hD
    have h_2 : r_2 = (l_sum (crmN L t (splitP st L)) 64) := h_2
    rw [h_2]
    refine lv_istore_n (lv' := [(2, .int (l_sum (crmN L t (splitP st L)) 64)), (0, .ref h), (1, .int t)]) hx hb dX9_dropCrumbs_23 rfl hl (by decide) rfl (fun ls hl => ?_)
    refine lv_iload_n hx hb dX9_dropCrumbs_24 rfl (lv_at hl 0 rfl) ?_
    refine lv_if_ne (tgt := 34) hx hb dX9_dropCrumbs_25 (by decide) (fun c_25 => ?_) (fun c_25 => ?_)
    · skip
      exfalso; exact c_25 hcn
    · skip
      refine lv_aload_n hx hb dX9_dropCrumbs_28 rfl (lv_at hl 1 rfl) ?_
      refine lv_iconst (v := nI 2) hx hb dX9_dropCrumbs_29 (by decide) ?_
      refine fin_i (ws' := (fun (_ : Unit) => [oM h ad 2 sts hs len at_ num many, aI G (ad 1) 68 st, aI G (ad 2) 408 hi, aI G (ad 5) 64 (drpA L t (splitP st L)), aI G (ad 6) 64 bk, aI G (ad 7) 8 u_2])) hA hS hP hD [0] rfl [(true, 0), (false, 1), (false, 2), (false, 3), (false, 4), (false, 5)] (fun _ => rfl) (by decide) (run_V (As := [.int (nI 2)]) (rest := []) (n9 := 1) hx hb hml hown hts hE hAb hl.1 hS hP hD [0] rfl (by decide) (t_X9_fails l G b0 _ h ad 0 sts hs len at_ num many 2 ) (lw_V q1739 q1741 qs60 q129 q1742) 0 rfl rfl ⟨rfl, by decide, by decide, by decide +kernel⟩ ⟨Nat.le_of_ble_eq_true rfl, Nat.le_of_ble_eq_true rfl⟩ ⟨by first | exact Nat.le_of_ble_eq_true rfl | (simp only [rm_X9_dropCrumbs_2, rm_X9_fails]; omega), by first | exact Nat.le_of_ble_eq_true rfl | (simp only [rm_X9_dropCrumbs_2, rm_X9_fails]; omega)⟩ dX9_dropCrumbs_30 (Nat.le_of_ble_eq_true rfl) rfl rfl) (fun r_3 u_3 H locs h_3 hP hD hS => ?_)
      have hP : va_P G.1 vwCl [oM h ad 2 sts hs len at_ num many, aI G (ad 1) 68 st, aI G (ad 2) 408 hi, aI G (ad 5) 64 (drpA L t (splitP st L)), aI G (ad 6) 64 bk, aI G (ad 7) 8 u_2] _ := hP
      have hD : va_D A [oM h ad 2 sts hs len at_ num many, aI G (ad 1) 68 st, aI G (ad 2) 408 hi, aI G (ad 5) 64 (drpA L t (splitP st L)), aI G (ad 6) 64 bk, aI G (ad 7) 8 u_2] := hD
      have h_3 : r_3 = (nI 0) := h_3
      rw [h_3]
      have hP : va_P G.1 vwCl [oM h ad 2 sts hs len at_ num many, aI G (ad 1) 68 st, aI G (ad 2) 408 hi, aI G (ad 5) 64 (((drpA L t (splitP st L), bk, u_2)).1), aI G (ad 6) 64 (((drpA L t (splitP st L), bk, u_2)).2.1), aI G (ad 7) 8 (((drpA L t (splitP st L), bk, u_2)).2.2)] _ := hP
      have hD : va_D A [oM h ad 2 sts hs len at_ num many, aI G (ad 1) 68 st, aI G (ad 2) 408 hi, aI G (ad 5) 64 (((drpA L t (splitP st L), bk, u_2)).1), aI G (ad 6) 64 (((drpA L t (splitP st L), bk, u_2)).2.1), aI G (ad 7) 8 (((drpA L t (splitP st L), bk, u_2)).2.2)] := hD
      rw [hQQ]
      exact rt_i hx hb hr hlk  ((drpA L t (splitP st L), bk, u_2)) dX9_dropCrumbs_33 hP hD hS (by first | exact Nat.le_of_ble_eq_true rfl | (simp only [rm_X9_dropCrumbs_2]; omega)) (by first | exact Nat.le_of_ble_eq_true rfl | (simp only [rm_X9_dropCrumbs_2]; omega)) (by rfl)
  · skip
    exfalso; exact absurd (htt.symm.trans c_9) (by decide)
def rm_X9_setLevels_0 : Room := ({ frames := 6, cells := 0, slots := 0, locals := 150 } : Room)
set_option maxHeartbeats 400000 in
set_option maxRecDepth 100000 in
theorem t_X9_setLevels_0 (l : Launch) (G : GG) (b0 sz : Nat) (h : Nat) (ad : Nat → Nat) (thr sts : Nat) (hs : Bool) (len at_ num many : Nat) (st hi : Nat → Int32) (k9 : Nat) (hs6 : sts ≤ 6) (h91 : 1 ≤ k9) (h93 : k9 ≤ 3) : CT l yX9_setLevels cX9_setLevels 3 (some FieldType.int) (rm_X9_setLevels_0) G b0 [.ref h, .int (nI k9)] [oM h ad thr sts hs len at_ num many, aI G (ad 1) 68 st, aI G (ad 2) 408 hi] sz (Ri G (fun (r_ : Int32) (_ : Unit) => r_ = st 64) (fun (_ : Unit) => [oM h ad 0 (recN sts) hs len at_ num many, aI G (ad 1) 68 (upd st 64 (nI k9)), aI G (ad 2) 408 (recH st hi sts)])) := by
  refine CT.go (by decide) (Nat.le_of_ble_eq_true rfl) (fun p e s m below meth c A ls AR QQ hx hb hr hlk hml hown hnm hts hE hA hAb hsz hP hD hS hl hQQ => ?_)
  have hK := hE.1
  have hown : s.vm.findClass RX9 = some m.cls := hown
  have hl : lv_has ls 3 [(0, .ref h), (1, .int (nI k9))] := hl
  clear hsz
  refine lv_aload_n hx hb dX9_setLevels_0 rfl (lv_at hl 0 rfl) ?_
  refine lv_iconst (v := nI 0) hx hb dX9_setLevels_1 (by decide) ?_
  refine va_put (D := G.1) (ci := 8) (v := .int (nI 0)) (ty := .int) (C := RX9) (T := TX9) (N := 21) hx hb hts in_X9 tyX9 tyX9_ok nmX9 hown hK hP hD hS 0 rfl rfl 0 (by decide) (hts _ q1667) (fun _ h9 => h9) rfl (by decide +kernel) rfl rfl (Nat.le_of_ble_eq_true rfl) dX9_setLevels_2 (fun H locs hP hD hS => ?_)
  have hP : va_P G.1 vwCl [oM h ad 0 sts hs len at_ num many, aI G (ad 1) 68 st, aI G (ad 2) 408 hi] _ := hP
  have hD : va_D A [oM h ad 0 sts hs len at_ num many, aI G (ad 1) 68 st, aI G (ad 2) 408 hi] := hD
  refine lv_iload_n hx hb dX9_setLevels_5 rfl (lv_at hl 1 rfl) ?_
  refine lv_iconst (v := nI 1) hx hb dX9_setLevels_6 (by decide) ?_
  refine lv_iconst (v := nI 3) hx hb dX9_setLevels_7 (by decide) ?_
  refine fin_i (ws' := (fun (_ : Unit) => [oM h ad 0 sts hs len at_ num many, aI G (ad 1) 68 st, aI G (ad 2) 408 hi])) hA hS hP hD [] rfl [(false, 0), (false, 1), (false, 2)] (fun _ => rfl) (by decide) (run_S (As := [.int (nI k9), .int (nI 1), .int (nI 3)]) (rest := []) (n9 := 3) hx hb hml hown hts hE hAb hl.1 hS hP hD [] rfl (by decide) (t_X9_within l G b0 _ (nI k9) (nI 1) (nI 3) ) (lw_S q1770 q1771 q129 q1772) ⟨by decide, by decide, by decide +kernel⟩ ⟨Nat.le_of_ble_eq_true rfl, Nat.le_of_ble_eq_true rfl⟩ ⟨by first | exact Nat.le_of_ble_eq_true rfl | (simp only [rm_X9_setLevels_0, rm_X9_within]; omega), by first | exact Nat.le_of_ble_eq_true rfl | (simp only [rm_X9_setLevels_0, rm_X9_within]; omega)⟩ dX9_setLevels_8 (Nat.le_of_ble_eq_true rfl) rfl rfl) (fun r_1 u_1 H locs h_1 hP hD hS => ?_)
  have hP : va_P G.1 vwCl [oM h ad 0 sts hs len at_ num many, aI G (ad 1) 68 st, aI G (ad 2) 408 hi] _ := hP
  have hD : va_D A [oM h ad 0 sts hs len at_ num many, aI G (ad 1) 68 st, aI G (ad 2) 408 hi] := hD
  have h_1 : r_1 = (bI (inB (nI k9) (nI 1) (nI 3))) := h_1
  rw [h_1]
  refine B_if_ne (tgt := 20) hx hb dX9_setLevels_11 (by decide) (fun c_11 => ?_) (fun c_11 => ?_)
  · skip
    refine lv_aload_n hx hb dX9_setLevels_20 rfl (lv_at hl 0 rfl) ?_
    refine fin_v (ws' := (fun (_ : Unit) => [oM h ad 0 (recN sts) hs len at_ num many, aI G (ad 1) 68 st, aI G (ad 2) 408 (recH st hi sts)])) hA hS hP hD [0, 1, 2] rfl [(true, 0), (true, 1), (true, 2)] (fun _ => rfl) (by decide) (run_V (As := []) (rest := []) (n9 := 0) hx hb hml hown hts hE hAb hl.1 hS hP hD [0, 1, 2] rfl (by decide) (t_X9_record l G b0 _ h ad 0 sts hs len at_ num many st hi (by omega)) (lw_V q1755 q1757 qs62 q129 q1758) 0 rfl rfl ⟨rfl, by decide, by decide, by decide +kernel⟩ ⟨Nat.le_of_ble_eq_true rfl, Nat.le_of_ble_eq_true rfl⟩ ⟨by first | exact Nat.le_of_ble_eq_true rfl | (simp only [rm_X9_setLevels_0, rm_X9_record]; omega), by first | exact Nat.le_of_ble_eq_true rfl | (simp only [rm_X9_setLevels_0, rm_X9_record]; omega)⟩ dX9_setLevels_21 (Nat.le_of_ble_eq_true rfl) rfl rfl) (fun u_2 H locs h_2 hP hD hS => ?_)
    have hP : va_P G.1 vwCl [oM h ad 0 (recN sts) hs len at_ num many, aI G (ad 1) 68 st, aI G (ad 2) 408 (recH st hi sts)] _ := hP
    have hD : va_D A [oM h ad 0 (recN sts) hs len at_ num many, aI G (ad 1) 68 st, aI G (ad 2) 408 (recH st hi sts)] := hD
    refine lv_aload_n hx hb dX9_setLevels_24 rfl (lv_at hl 0 rfl) ?_
    refine va_get (D := G.1) (ci := 8) (v := .ref (ad 1)) (C := RX9) (T := TX9) (N := 21) hx hb hts in_X9 hown hK hP 0 rfl rfl 1 (by decide) (hts _ q1668) (fun _ h9 => h9) rfl dX9_setLevels_25 ?_
    refine lv_bipush (v := nI 64) hx hb dX9_setLevels_28 (by decide) ?_
    refine N_iald hx hb dX9_setLevels_30 hK hP 1 0 rfl rfl (by omega) (by omega) ?_
    refine lv_istore_n (lv' := [(2, .int (st 64)), (0, .ref h), (1, .int (nI k9))]) hx hb dX9_setLevels_31 rfl hl (by decide) rfl (fun ls hl => ?_)
    refine lv_aload_n hx hb dX9_setLevels_32 rfl (lv_at hl 1 rfl) ?_
    refine va_get (D := G.1) (ci := 8) (v := .ref (ad 1)) (C := RX9) (T := TX9) (N := 21) hx hb hts in_X9 hown hK hP 0 rfl rfl 1 (by decide) (hts _ q1668) (fun _ h9 => h9) rfl dX9_setLevels_33 ?_
    refine lv_bipush (v := nI 64) hx hb dX9_setLevels_36 (by decide) ?_
    refine lv_iload_n hx hb dX9_setLevels_38 rfl (lv_at hl 2 rfl) ?_
    refine N_iast (ws' := [oM h ad 0 (recN sts) hs len at_ num many, aI G (ad 1) 68 (upd st 64 (nI k9)), aI G (ad 2) 408 (recH st hi sts)]) hx hb dX9_setLevels_39 hK hP hD hS 1 0 rfl rfl (by omega) (by omega) rfl (fun H locs hP hD hS => ?_)
    refine lv_iload_n hx hb dX9_setLevels_40 rfl (lv_at hl 0 rfl) ?_
    rw [hQQ]
    exact rt_i hx hb hr hlk  (()) dX9_setLevels_41 hP hD hS (by first | exact Nat.le_of_ble_eq_true rfl | (simp only [rm_X9_setLevels_0]; omega)) (by first | exact Nat.le_of_ble_eq_true rfl | (simp only [rm_X9_setLevels_0]; omega)) (by rfl)
  · skip
    exfalso; exact absurd ((show inB (nI k9) (nI 1) (nI 3) = true by rw [inB_nat (by omega) (by decide) (by decide)]; exact decide_eq_true (by omega)).symm.trans c_11) (by decide)
def rm_X9_setLevels_1 : Room := ({ frames := 6, cells := 0, slots := 0, locals := 150 } : Room)
set_option maxHeartbeats 400000 in
set_option maxRecDepth 100000 in
theorem t_X9_setLevels_1 (l : Launch) (G : GG) (b0 sz : Nat) (h : Nat) (ad : Nat → Nat) (thr sts : Nat) (hs : Bool) (len at_ num many : Nat) (st hi : Nat → Int32) (t : Int32) (htt : inB t (nI 1) (nI 3) = false) : CT l yX9_setLevels cX9_setLevels 3 (some FieldType.int) (rm_X9_setLevels_1) G b0 [.ref h, .int t] [oM h ad thr sts hs len at_ num many, aI G (ad 1) 68 st, aI G (ad 2) 408 hi] sz (Ri G (fun (r_ : Int32) (_ : Unit) => r_ = nI 0) (fun (_ : Unit) => [oM h ad 1 sts hs len at_ num many, aI G (ad 1) 68 st, aI G (ad 2) 408 hi])) := by
  refine CT.go (by decide) (Nat.le_of_ble_eq_true rfl) (fun p e s m below meth c A ls AR QQ hx hb hr hlk hml hown hnm hts hE hA hAb hsz hP hD hS hl hQQ => ?_)
  have hK := hE.1
  have hown : s.vm.findClass RX9 = some m.cls := hown
  have hl : lv_has ls 3 [(0, .ref h), (1, .int t)] := hl
  clear hsz
  refine lv_aload_n hx hb dX9_setLevels_0 rfl (lv_at hl 0 rfl) ?_
  refine lv_iconst (v := nI 0) hx hb dX9_setLevels_1 (by decide) ?_
  refine va_put (D := G.1) (ci := 8) (v := .int (nI 0)) (ty := .int) (C := RX9) (T := TX9) (N := 21) hx hb hts in_X9 tyX9 tyX9_ok nmX9 hown hK hP hD hS 0 rfl rfl 0 (by decide) (hts _ q1667) (fun _ h9 => h9) rfl (by decide +kernel) rfl rfl (Nat.le_of_ble_eq_true rfl) dX9_setLevels_2 (fun H locs hP hD hS => ?_)
  have hP : va_P G.1 vwCl [oM h ad 0 sts hs len at_ num many, aI G (ad 1) 68 st, aI G (ad 2) 408 hi] _ := hP
  have hD : va_D A [oM h ad 0 sts hs len at_ num many, aI G (ad 1) 68 st, aI G (ad 2) 408 hi] := hD
  refine lv_iload_n hx hb dX9_setLevels_5 rfl (lv_at hl 1 rfl) ?_
  refine lv_iconst (v := nI 1) hx hb dX9_setLevels_6 (by decide) ?_
  refine lv_iconst (v := nI 3) hx hb dX9_setLevels_7 (by decide) ?_
  refine fin_i (ws' := (fun (_ : Unit) => [oM h ad 0 sts hs len at_ num many, aI G (ad 1) 68 st, aI G (ad 2) 408 hi])) hA hS hP hD [] rfl [(false, 0), (false, 1), (false, 2)] (fun _ => rfl) (by decide) (run_S (As := [.int t, .int (nI 1), .int (nI 3)]) (rest := []) (n9 := 3) hx hb hml hown hts hE hAb hl.1 hS hP hD [] rfl (by decide) (t_X9_within l G b0 _ t (nI 1) (nI 3) ) (lw_S q1770 q1771 q129 q1772) ⟨by decide, by decide, by decide +kernel⟩ ⟨Nat.le_of_ble_eq_true rfl, Nat.le_of_ble_eq_true rfl⟩ ⟨by first | exact Nat.le_of_ble_eq_true rfl | (simp only [rm_X9_setLevels_1, rm_X9_within]; omega), by first | exact Nat.le_of_ble_eq_true rfl | (simp only [rm_X9_setLevels_1, rm_X9_within]; omega)⟩ dX9_setLevels_8 (Nat.le_of_ble_eq_true rfl) rfl rfl) (fun r_1 u_1 H locs h_1 hP hD hS => ?_)
  have hP : va_P G.1 vwCl [oM h ad 0 sts hs len at_ num many, aI G (ad 1) 68 st, aI G (ad 2) 408 hi] _ := hP
  have hD : va_D A [oM h ad 0 sts hs len at_ num many, aI G (ad 1) 68 st, aI G (ad 2) 408 hi] := hD
  have h_1 : r_1 = (bI (inB t (nI 1) (nI 3))) := h_1
  rw [h_1]
  refine B_if_ne (tgt := 20) hx hb dX9_setLevels_11 (by decide) (fun c_11 => ?_) (fun c_11 => ?_)
  · skip
    exfalso; exact absurd (htt.symm.trans c_11) (by decide)
  · skip
    refine lv_aload_n hx hb dX9_setLevels_14 rfl (lv_at hl 0 rfl) ?_
    refine lv_iconst (v := nI 1) hx hb dX9_setLevels_15 (by decide) ?_
    refine fin_i (ws' := (fun (_ : Unit) => [oM h ad 1 sts hs len at_ num many, aI G (ad 1) 68 st, aI G (ad 2) 408 hi])) hA hS hP hD [0] rfl [(true, 0), (false, 1), (false, 2)] (fun _ => rfl) (by decide) (run_V (As := [.int (nI 1)]) (rest := []) (n9 := 1) hx hb hml hown hts hE hAb hl.1 hS hP hD [0] rfl (by decide) (t_X9_fails l G b0 _ h ad 0 sts hs len at_ num many 1 ) (lw_V q1739 q1741 qs60 q129 q1742) 0 rfl rfl ⟨rfl, by decide, by decide, by decide +kernel⟩ ⟨Nat.le_of_ble_eq_true rfl, Nat.le_of_ble_eq_true rfl⟩ ⟨by first | exact Nat.le_of_ble_eq_true rfl | (simp only [rm_X9_setLevels_1, rm_X9_fails]; omega), by first | exact Nat.le_of_ble_eq_true rfl | (simp only [rm_X9_setLevels_1, rm_X9_fails]; omega)⟩ dX9_setLevels_16 (Nat.le_of_ble_eq_true rfl) rfl rfl) (fun r_2 u_2 H locs h_2 hP hD hS => ?_)
    have hP : va_P G.1 vwCl [oM h ad 1 sts hs len at_ num many, aI G (ad 1) 68 st, aI G (ad 2) 408 hi] _ := hP
    have hD : va_D A [oM h ad 1 sts hs len at_ num many, aI G (ad 1) 68 st, aI G (ad 2) 408 hi] := hD
    have h_2 : r_2 = (nI 0) := h_2
    rw [h_2]
    rw [hQQ]
    exact rt_i hx hb hr hlk  (()) dX9_setLevels_19 hP hD hS (by first | exact Nat.le_of_ble_eq_true rfl | (simp only [rm_X9_setLevels_1]; omega)) (by first | exact Nat.le_of_ble_eq_true rfl | (simp only [rm_X9_setLevels_1]; omega)) (by rfl)
def rm_X9_turnRight : Room := ({ frames := 6, cells := 0, slots := 0, locals := 150 } : Room)
set_option maxHeartbeats 400000 in
set_option maxRecDepth 100000 in
theorem t_X9_turnRight (l : Launch) (G : GG) (b0 sz : Nat) (h : Nat) (ad : Nat → Nat) (thr sts : Nat) (hs : Bool) (len at_ num many : Nat) (st hi bk : Nat → Int32) (hs6 : sts ≤ 6) : CT l yX9_turnRight cX9_turnRight 1 (some FieldType.int) (rm_X9_turnRight) G b0 [.ref h] [oM h ad thr sts hs len at_ num many, aI G (ad 1) 68 st, aI G (ad 2) 408 hi, aI G (ad 6) 64 bk] sz (Ri G (fun (r_ : Int32) (u : Nat → Int32) => r_ = l_sum (cneI (turnF false st) st) 64) (fun (u : Nat → Int32) => [oM h ad 0 (recN sts) hs len at_ num many, aI G (ad 1) 68 (fillTo 64 (turnF false st) st), aI G (ad 2) 408 (recH st hi sts), aI G (ad 6) 64 u])) := by
  refine CT.go (by decide) (Nat.le_of_ble_eq_true rfl) (fun p e s m below meth c A ls AR QQ hx hb hr hlk hml hown hnm hts hE hA hAb hsz hP hD hS hl hQQ => ?_)
  have hK := hE.1
  have hown : s.vm.findClass RX9 = some m.cls := hown
  have hl : lv_has ls 1 [(0, .ref h)] := hl
  clear hsz
  refine lv_aload_n hx hb dX9_turnRight_0 rfl (lv_at hl 0 rfl) ?_
  refine lv_iconst (v := nI 0) hx hb dX9_turnRight_1 (by decide) ?_
  refine va_put (D := G.1) (ci := 8) (v := .int (nI 0)) (ty := .int) (C := RX9) (T := TX9) (N := 21) hx hb hts in_X9 tyX9 tyX9_ok nmX9 hown hK hP hD hS 0 rfl rfl 0 (by decide) (hts _ q1667) (fun _ h9 => h9) rfl (by decide +kernel) rfl rfl (Nat.le_of_ble_eq_true rfl) dX9_turnRight_2 (fun H locs hP hD hS => ?_)
  have hP : va_P G.1 vwCl [oM h ad 0 sts hs len at_ num many, aI G (ad 1) 68 st, aI G (ad 2) 408 hi, aI G (ad 6) 64 bk] _ := hP
  have hD : va_D A [oM h ad 0 sts hs len at_ num many, aI G (ad 1) 68 st, aI G (ad 2) 408 hi, aI G (ad 6) 64 bk] := hD
  refine lv_aload_n hx hb dX9_turnRight_5 rfl (lv_at hl 0 rfl) ?_
  refine fin_v (ws' := (fun (_ : Unit) => [oM h ad 0 (recN sts) hs len at_ num many, aI G (ad 1) 68 st, aI G (ad 2) 408 (recH st hi sts), aI G (ad 6) 64 bk])) hA hS hP hD [0, 1, 2] rfl [(true, 0), (true, 1), (true, 2), (false, 3)] (fun _ => rfl) (by decide) (run_V (As := []) (rest := []) (n9 := 0) hx hb hml hown hts hE hAb hl.1 hS hP hD [0, 1, 2] rfl (by decide) (t_X9_record l G b0 _ h ad 0 sts hs len at_ num many st hi (by omega)) (lw_V q1755 q1757 qs62 q129 q1758) 0 rfl rfl ⟨rfl, by decide, by decide, by decide +kernel⟩ ⟨Nat.le_of_ble_eq_true rfl, Nat.le_of_ble_eq_true rfl⟩ ⟨by first | exact Nat.le_of_ble_eq_true rfl | (simp only [rm_X9_turnRight, rm_X9_record]; omega), by first | exact Nat.le_of_ble_eq_true rfl | (simp only [rm_X9_turnRight, rm_X9_record]; omega)⟩ dX9_turnRight_6 (Nat.le_of_ble_eq_true rfl) rfl rfl) (fun u_1 H locs h_1 hP hD hS => ?_)
  have hP : va_P G.1 vwCl [oM h ad 0 (recN sts) hs len at_ num many, aI G (ad 1) 68 st, aI G (ad 2) 408 (recH st hi sts), aI G (ad 6) 64 bk] _ := hP
  have hD : va_D A [oM h ad 0 (recN sts) hs len at_ num many, aI G (ad 1) 68 st, aI G (ad 2) 408 (recH st hi sts), aI G (ad 6) 64 bk] := hD
  refine lv_aload_n hx hb dX9_turnRight_9 rfl (lv_at hl 0 rfl) ?_
  refine fin_i (ws' := (fun (_ : Unit) => [oM h ad 0 (recN sts) hs len at_ num many, aI G (ad 1) 68 (fillTo 64 (turnF false st) st), aI G (ad 2) 408 (recH st hi sts), aI G (ad 6) 64 (turnF false st)])) hA hS hP hD [0, 1, 3] rfl [(true, 0), (true, 1), (false, 2), (true, 2)] (fun _ => rfl) (by decide) (run_V (As := []) (rest := []) (n9 := 0) hx hb hml hown hts hE hAb hl.1 hS hP hD [0, 1, 3] rfl (by decide) (t_X9_doTurn l G b0 _ h ad 0 (recN sts) hs len at_ num many st bk ) (lw_V q1982 q1984 qs89 q129 q1985) 0 rfl rfl ⟨rfl, by decide, by decide, by decide +kernel⟩ ⟨Nat.le_of_ble_eq_true rfl, Nat.le_of_ble_eq_true rfl⟩ ⟨by first | exact Nat.le_of_ble_eq_true rfl | (simp only [rm_X9_turnRight, rm_X9_doTurn]; omega), by first | exact Nat.le_of_ble_eq_true rfl | (simp only [rm_X9_turnRight, rm_X9_doTurn]; omega)⟩ dX9_turnRight_10 (Nat.le_of_ble_eq_true rfl) rfl rfl) (fun r_2 u_2 H locs h_2 hP hD hS => ?_)
  have hP : va_P G.1 vwCl [oM h ad 0 (recN sts) hs len at_ num many, aI G (ad 1) 68 (fillTo 64 (turnF false st) st), aI G (ad 2) 408 (recH st hi sts), aI G (ad 6) 64 (turnF false st)] _ := hP
  have hD : va_D A [oM h ad 0 (recN sts) hs len at_ num many, aI G (ad 1) 68 (fillTo 64 (turnF false st) st), aI G (ad 2) 408 (recH st hi sts), aI G (ad 6) 64 (turnF false st)] := hD
  have h_2 : r_2 = (l_sum (cneI (turnF false st) st) 64) := h_2
  rw [h_2]
  rw [hQQ]
  exact rt_i hx hb hr hlk  (turnF false st) dX9_turnRight_13 hP hD hS (by first | exact Nat.le_of_ble_eq_true rfl | (simp only [rm_X9_turnRight]; omega)) (by first | exact Nat.le_of_ble_eq_true rfl | (simp only [rm_X9_turnRight]; omega)) (by rfl)
def rm_X9_mirror : Room := ({ frames := 6, cells := 0, slots := 0, locals := 150 } : Room)
set_option maxHeartbeats 400000 in
set_option maxRecDepth 100000 in
theorem t_X9_mirror (l : Launch) (G : GG) (b0 sz : Nat) (h : Nat) (ad : Nat → Nat) (thr sts : Nat) (hs : Bool) (len at_ num many : Nat) (st hi bk : Nat → Int32) (hs6 : sts ≤ 6) : CT l yX9_mirror cX9_mirror 1 (some FieldType.int) (rm_X9_mirror) G b0 [.ref h] [oM h ad thr sts hs len at_ num many, aI G (ad 1) 68 st, aI G (ad 2) 408 hi, aI G (ad 6) 64 bk] sz (Ri G (fun (r_ : Int32) (u : Nat → Int32) => r_ = l_sum (cneI (turnF true st) st) 64) (fun (u : Nat → Int32) => [oM h ad 0 (recN sts) hs len at_ num many, aI G (ad 1) 68 (fillTo 64 (turnF true st) st), aI G (ad 2) 408 (recH st hi sts), aI G (ad 6) 64 u])) := by
  refine CT.go (by decide) (Nat.le_of_ble_eq_true rfl) (fun p e s m below meth c A ls AR QQ hx hb hr hlk hml hown hnm hts hE hA hAb hsz hP hD hS hl hQQ => ?_)
  have hK := hE.1
  have hown : s.vm.findClass RX9 = some m.cls := hown
  have hl : lv_has ls 1 [(0, .ref h)] := hl
  clear hsz
  refine lv_aload_n hx hb dX9_mirror_0 rfl (lv_at hl 0 rfl) ?_
  refine lv_iconst (v := nI 0) hx hb dX9_mirror_1 (by decide) ?_
  refine va_put (D := G.1) (ci := 8) (v := .int (nI 0)) (ty := .int) (C := RX9) (T := TX9) (N := 21) hx hb hts in_X9 tyX9 tyX9_ok nmX9 hown hK hP hD hS 0 rfl rfl 0 (by decide) (hts _ q1667) (fun _ h9 => h9) rfl (by decide +kernel) rfl rfl (Nat.le_of_ble_eq_true rfl) dX9_mirror_2 (fun H locs hP hD hS => ?_)
  have hP : va_P G.1 vwCl [oM h ad 0 sts hs len at_ num many, aI G (ad 1) 68 st, aI G (ad 2) 408 hi, aI G (ad 6) 64 bk] _ := hP
  have hD : va_D A [oM h ad 0 sts hs len at_ num many, aI G (ad 1) 68 st, aI G (ad 2) 408 hi, aI G (ad 6) 64 bk] := hD
  refine lv_aload_n hx hb dX9_mirror_5 rfl (lv_at hl 0 rfl) ?_
  refine fin_v (ws' := (fun (_ : Unit) => [oM h ad 0 (recN sts) hs len at_ num many, aI G (ad 1) 68 st, aI G (ad 2) 408 (recH st hi sts), aI G (ad 6) 64 bk])) hA hS hP hD [0, 1, 2] rfl [(true, 0), (true, 1), (true, 2), (false, 3)] (fun _ => rfl) (by decide) (run_V (As := []) (rest := []) (n9 := 0) hx hb hml hown hts hE hAb hl.1 hS hP hD [0, 1, 2] rfl (by decide) (t_X9_record l G b0 _ h ad 0 sts hs len at_ num many st hi (by omega)) (lw_V q1755 q1757 qs62 q129 q1758) 0 rfl rfl ⟨rfl, by decide, by decide, by decide +kernel⟩ ⟨Nat.le_of_ble_eq_true rfl, Nat.le_of_ble_eq_true rfl⟩ ⟨by first | exact Nat.le_of_ble_eq_true rfl | (simp only [rm_X9_mirror, rm_X9_record]; omega), by first | exact Nat.le_of_ble_eq_true rfl | (simp only [rm_X9_mirror, rm_X9_record]; omega)⟩ dX9_mirror_6 (Nat.le_of_ble_eq_true rfl) rfl rfl) (fun u_1 H locs h_1 hP hD hS => ?_)
  have hP : va_P G.1 vwCl [oM h ad 0 (recN sts) hs len at_ num many, aI G (ad 1) 68 st, aI G (ad 2) 408 (recH st hi sts), aI G (ad 6) 64 bk] _ := hP
  have hD : va_D A [oM h ad 0 (recN sts) hs len at_ num many, aI G (ad 1) 68 st, aI G (ad 2) 408 (recH st hi sts), aI G (ad 6) 64 bk] := hD
  refine lv_aload_n hx hb dX9_mirror_9 rfl (lv_at hl 0 rfl) ?_
  refine fin_i (ws' := (fun (_ : Unit) => [oM h ad 0 (recN sts) hs len at_ num many, aI G (ad 1) 68 (fillTo 64 (turnF true st) st), aI G (ad 2) 408 (recH st hi sts), aI G (ad 6) 64 (turnF true st)])) hA hS hP hD [0, 1, 3] rfl [(true, 0), (true, 1), (false, 2), (true, 2)] (fun _ => rfl) (by decide) (run_V (As := []) (rest := []) (n9 := 0) hx hb hml hown hts hE hAb hl.1 hS hP hD [0, 1, 3] rfl (by decide) (t_X9_doMirror l G b0 _ h ad 0 (recN sts) hs len at_ num many st bk ) (lw_V q1990 q1992 qs90 q129 q1993) 0 rfl rfl ⟨rfl, by decide, by decide, by decide +kernel⟩ ⟨Nat.le_of_ble_eq_true rfl, Nat.le_of_ble_eq_true rfl⟩ ⟨by first | exact Nat.le_of_ble_eq_true rfl | (simp only [rm_X9_mirror, rm_X9_doMirror]; omega), by first | exact Nat.le_of_ble_eq_true rfl | (simp only [rm_X9_mirror, rm_X9_doMirror]; omega)⟩ dX9_mirror_10 (Nat.le_of_ble_eq_true rfl) rfl rfl) (fun r_2 u_2 H locs h_2 hP hD hS => ?_)
  have hP : va_P G.1 vwCl [oM h ad 0 (recN sts) hs len at_ num many, aI G (ad 1) 68 (fillTo 64 (turnF true st) st), aI G (ad 2) 408 (recH st hi sts), aI G (ad 6) 64 (turnF true st)] _ := hP
  have hD : va_D A [oM h ad 0 (recN sts) hs len at_ num many, aI G (ad 1) 68 (fillTo 64 (turnF true st) st), aI G (ad 2) 408 (recH st hi sts), aI G (ad 6) 64 (turnF true st)] := hD
  have h_2 : r_2 = (l_sum (cneI (turnF true st) st) 64) := h_2
  rw [h_2]
  rw [hQQ]
  exact rt_i hx hb hr hlk  (turnF true st) dX9_mirror_13 hP hD hS (by first | exact Nat.le_of_ble_eq_true rfl | (simp only [rm_X9_mirror]; omega)) (by first | exact Nat.le_of_ble_eq_true rfl | (simp only [rm_X9_mirror]; omega)) (by rfl)
def rm_X9_invert : Room := ({ frames := 6, cells := 0, slots := 0, locals := 150 } : Room)
set_option maxHeartbeats 400000 in
set_option maxRecDepth 100000 in
theorem t_X9_invert (l : Launch) (G : GG) (b0 sz : Nat) (h : Nat) (ad : Nat → Nat) (thr sts : Nat) (hs : Bool) (len at_ num many : Nat) (st hi : Nat → Int32) (hs6 : sts ≤ 6) : CT l yX9_invert cX9_invert 1 (some FieldType.int) (rm_X9_invert) G b0 [.ref h] [oM h ad thr sts hs len at_ num many, aI G (ad 1) 68 st, aI G (ad 2) 408 hi] sz (Ri G (fun (r_ : Int32) (_ : Unit) => r_ = l_sum (invF st) 64) (fun (_ : Unit) => [oM h ad 0 (recN sts) hs len at_ num many, aI G (ad 1) 68 (fillTo 64 (invF st) st), aI G (ad 2) 408 (recH st hi sts)])) := by
  refine CT.go (by decide) (Nat.le_of_ble_eq_true rfl) (fun p e s m below meth c A ls AR QQ hx hb hr hlk hml hown hnm hts hE hA hAb hsz hP hD hS hl hQQ => ?_)
  have hK := hE.1
  have hown : s.vm.findClass RX9 = some m.cls := hown
  have hl : lv_has ls 1 [(0, .ref h)] := hl
  clear hsz
  refine lv_aload_n hx hb dX9_invert_0 rfl (lv_at hl 0 rfl) ?_
  refine lv_iconst (v := nI 0) hx hb dX9_invert_1 (by decide) ?_
  refine va_put (D := G.1) (ci := 8) (v := .int (nI 0)) (ty := .int) (C := RX9) (T := TX9) (N := 21) hx hb hts in_X9 tyX9 tyX9_ok nmX9 hown hK hP hD hS 0 rfl rfl 0 (by decide) (hts _ q1667) (fun _ h9 => h9) rfl (by decide +kernel) rfl rfl (Nat.le_of_ble_eq_true rfl) dX9_invert_2 (fun H locs hP hD hS => ?_)
  have hP : va_P G.1 vwCl [oM h ad 0 sts hs len at_ num many, aI G (ad 1) 68 st, aI G (ad 2) 408 hi] _ := hP
  have hD : va_D A [oM h ad 0 sts hs len at_ num many, aI G (ad 1) 68 st, aI G (ad 2) 408 hi] := hD
  refine lv_aload_n hx hb dX9_invert_5 rfl (lv_at hl 0 rfl) ?_
  refine fin_v (ws' := (fun (_ : Unit) => [oM h ad 0 (recN sts) hs len at_ num many, aI G (ad 1) 68 st, aI G (ad 2) 408 (recH st hi sts)])) hA hS hP hD [0, 1, 2] rfl [(true, 0), (true, 1), (true, 2)] (fun _ => rfl) (by decide) (run_V (As := []) (rest := []) (n9 := 0) hx hb hml hown hts hE hAb hl.1 hS hP hD [0, 1, 2] rfl (by decide) (t_X9_record l G b0 _ h ad 0 sts hs len at_ num many st hi (by omega)) (lw_V q1755 q1757 qs62 q129 q1758) 0 rfl rfl ⟨rfl, by decide, by decide, by decide +kernel⟩ ⟨Nat.le_of_ble_eq_true rfl, Nat.le_of_ble_eq_true rfl⟩ ⟨by first | exact Nat.le_of_ble_eq_true rfl | (simp only [rm_X9_invert, rm_X9_record]; omega), by first | exact Nat.le_of_ble_eq_true rfl | (simp only [rm_X9_invert, rm_X9_record]; omega)⟩ dX9_invert_6 (Nat.le_of_ble_eq_true rfl) rfl rfl) (fun u_1 H locs h_1 hP hD hS => ?_)
  have hP : va_P G.1 vwCl [oM h ad 0 (recN sts) hs len at_ num many, aI G (ad 1) 68 st, aI G (ad 2) 408 (recH st hi sts)] _ := hP
  have hD : va_D A [oM h ad 0 (recN sts) hs len at_ num many, aI G (ad 1) 68 st, aI G (ad 2) 408 (recH st hi sts)] := hD
  refine lv_aload_n hx hb dX9_invert_9 rfl (lv_at hl 0 rfl) ?_
  refine fin_v (ws' := (fun (_ : Unit) => [oM h ad 0 (recN sts) hs len at_ num many, aI G (ad 1) 68 (fillTo 64 (invF st) st), aI G (ad 2) 408 (recH st hi sts)])) hA hS hP hD [0, 1] rfl [(true, 0), (true, 1), (false, 2)] (fun _ => rfl) (by decide) (run_V (As := []) (rest := []) (n9 := 0) hx hb hml hown hts hE hAb hl.1 hS hP hD [0, 1] rfl (by decide) (t_X9_doInvert l G b0 _ h ad 0 (recN sts) hs len at_ num many st ) (lw_V q1998 q2000 qs91 q129 q2001) 0 rfl rfl ⟨rfl, by decide, by decide, by decide +kernel⟩ ⟨Nat.le_of_ble_eq_true rfl, Nat.le_of_ble_eq_true rfl⟩ ⟨by first | exact Nat.le_of_ble_eq_true rfl | (simp only [rm_X9_invert, rm_X9_doInvert]; omega), by first | exact Nat.le_of_ble_eq_true rfl | (simp only [rm_X9_invert, rm_X9_doInvert]; omega)⟩ dX9_invert_10 (Nat.le_of_ble_eq_true rfl) rfl rfl) (fun u_2 H locs h_2 hP hD hS => ?_)
  have hP : va_P G.1 vwCl [oM h ad 0 (recN sts) hs len at_ num many, aI G (ad 1) 68 (fillTo 64 (invF st) st), aI G (ad 2) 408 (recH st hi sts)] _ := hP
  have hD : va_D A [oM h ad 0 (recN sts) hs len at_ num many, aI G (ad 1) 68 (fillTo 64 (invF st) st), aI G (ad 2) 408 (recH st hi sts)] := hD
  refine lv_aload_n hx hb dX9_invert_13 rfl (lv_at hl 0 rfl) ?_
  refine fin_i (ws' := (fun (_ : Unit) => [oM h ad 0 (recN sts) hs len at_ num many, aI G (ad 1) 68 (fillTo 64 (invF st) st), aI G (ad 2) 408 (recH st hi sts)])) hA hS hP hD [0, 1] rfl [(true, 0), (true, 1), (false, 2)] (fun _ => rfl) (by decide) (run_V (As := []) (rest := []) (n9 := 0) hx hb hml hown hts hE hAb hl.1 hS hP hD [0, 1] rfl (by decide) (t_X9_sumOfShades l G b0 _ h ad 0 (recN sts) hs len at_ num many (fillTo 64 (invF st) st) ) (lw_V q1747 q1749 qs61 q129 q1750) 0 rfl rfl ⟨rfl, by decide, by decide, by decide +kernel⟩ ⟨Nat.le_of_ble_eq_true rfl, Nat.le_of_ble_eq_true rfl⟩ ⟨by first | exact Nat.le_of_ble_eq_true rfl | (simp only [rm_X9_invert, rm_X9_sumOfShades]; omega), by first | exact Nat.le_of_ble_eq_true rfl | (simp only [rm_X9_invert, rm_X9_sumOfShades]; omega)⟩ dX9_invert_14 (Nat.le_of_ble_eq_true rfl) rfl rfl) (fun r_3 u_3 H locs h_3 hP hD hS => ?_)
  have hP : va_P G.1 vwCl [oM h ad 0 (recN sts) hs len at_ num many, aI G (ad 1) 68 (fillTo 64 (invF st) st), aI G (ad 2) 408 (recH st hi sts)] _ := hP
  have hD : va_D A [oM h ad 0 (recN sts) hs len at_ num many, aI G (ad 1) 68 (fillTo 64 (invF st) st), aI G (ad 2) 408 (recH st hi sts)] := hD
  have h_3 : r_3 = (l_sum (fillTo 64 (invF st) st) 64) := h_3
  rw [h_3]
  rw [hQQ]
  exact rt_i hx hb hr hlk  (()) dX9_invert_17 hP hD hS (by first | exact Nat.le_of_ble_eq_true rfl | (simp only [rm_X9_invert]; omega)) (by first | exact Nat.le_of_ble_eq_true rfl | (simp only [rm_X9_invert]; omega)) (by exact l_sum_cong fill_pt)
def rm_X9_hasStopped : Room := ({ frames := 0, cells := 0, slots := 0, locals := 0 } : Room)
set_option maxHeartbeats 400000 in
set_option maxRecDepth 100000 in
theorem t_X9_hasStopped (l : Launch) (G : GG) (b0 sz : Nat) (h : Nat) (ad : Nat → Nat) (thr sts : Nat) (hs : Bool) (len at_ num many : Nat) (st : Nat → Int32) : CT l yX9_hasStopped cX9_hasStopped 1 (some FieldType.boolean) (rm_X9_hasStopped) G b0 [.ref h] [oM h ad thr sts hs len at_ num many, aI G (ad 1) 68 st] sz (Ri G (fun (r_ : Int32) (_ : Unit) => r_ = bI (if st 65 = nI 1 then true else false)) (fun (_ : Unit) => [oM h ad 0 sts hs len at_ num many, aI G (ad 1) 68 st])) := by
  refine CT.go (by decide) (Nat.le_of_ble_eq_true rfl) (fun p e s m below meth c A ls AR QQ hx hb hr hlk hml hown hnm hts hE hA hAb hsz hP hD hS hl hQQ => ?_)
  have hK := hE.1
  have hown : s.vm.findClass RX9 = some m.cls := hown
  have hl : lv_has ls 1 [(0, .ref h)] := hl
  clear hsz
  refine lv_aload_n hx hb dX9_hasStopped_0 rfl (lv_at hl 0 rfl) ?_
  refine lv_iconst (v := nI 0) hx hb dX9_hasStopped_1 (by decide) ?_
  refine va_put (D := G.1) (ci := 8) (v := .int (nI 0)) (ty := .int) (C := RX9) (T := TX9) (N := 21) hx hb hts in_X9 tyX9 tyX9_ok nmX9 hown hK hP hD hS 0 rfl rfl 0 (by decide) (hts _ q1667) (fun _ h9 => h9) rfl (by decide +kernel) rfl rfl (Nat.le_of_ble_eq_true rfl) dX9_hasStopped_2 (fun H locs hP hD hS => ?_)
  have hP : va_P G.1 vwCl [oM h ad 0 sts hs len at_ num many, aI G (ad 1) 68 st] _ := hP
  have hD : va_D A [oM h ad 0 sts hs len at_ num many, aI G (ad 1) 68 st] := hD
  refine lv_aload_n hx hb dX9_hasStopped_5 rfl (lv_at hl 0 rfl) ?_
  refine va_get (D := G.1) (ci := 8) (v := .ref (ad 1)) (C := RX9) (T := TX9) (N := 21) hx hb hts in_X9 hown hK hP 0 rfl rfl 1 (by decide) (hts _ q1668) (fun _ h9 => h9) rfl dX9_hasStopped_6 ?_
  refine lv_bipush (v := nI 65) hx hb dX9_hasStopped_9 (by decide) ?_
  refine N_iald hx hb dX9_hasStopped_11 hK hP 1 0 rfl rfl (by omega) (by omega) ?_
  refine lv_iconst (v := nI 1) hx hb dX9_hasStopped_12 (by decide) ?_
  refine lv_icmp_ne (tgt := 20) hx hb dX9_hasStopped_13 (by decide) (fun c_13 => ?_) (fun c_13 => ?_)
  · skip
    refine lv_iconst (v := nI 0) hx hb dX9_hasStopped_20 (by decide) ?_
    rw [hQQ]
    exact rt_z hx hb hr hlk (by first | exact bI_nar _ | rfl) (()) dX9_hasStopped_21 hP hD hS (by first | exact Nat.le_of_ble_eq_true rfl | (simp only [rm_X9_hasStopped]; omega)) (by first | exact Nat.le_of_ble_eq_true rfl | (simp only [rm_X9_hasStopped]; omega)) (by first | exact bI_of1 (by rw [if_pos c_13]) | exact bI_of0 (by rw [if_neg c_13]))
  · skip
    refine lv_iconst (v := nI 1) hx hb dX9_hasStopped_16 (by decide) ?_
    refine lv_goto (tgt := 21) hx hb dX9_hasStopped_17 (by decide) ?_
    rw [hQQ]
    exact rt_z hx hb hr hlk (by first | exact bI_nar _ | rfl) (()) dX9_hasStopped_21 hP hD hS (by first | exact Nat.le_of_ble_eq_true rfl | (simp only [rm_X9_hasStopped]; omega)) (by first | exact Nat.le_of_ble_eq_true rfl | (simp only [rm_X9_hasStopped]; omega)) (by first | exact bI_of1 (by rw [if_pos c_13]) | exact bI_of0 (by rw [if_neg c_13]))
def rm_X9_stoppedPart_0 : Room := ({ frames := 6, cells := 0, slots := 0, locals := 150 } : Room)
set_option maxHeartbeats 400000 in
set_option maxRecDepth 100000 in
theorem t_X9_stoppedPart_0 (l : Launch) (G : GG) (b0 sz : Nat) (h : Nat) (ad : Nat → Nat) (thr sts : Nat) (hs : Bool) (len at_ num many : Nat) (st : Nat → Int32) (h65 : st 65 = nI 1) : CT l yX9_stoppedPart cX9_stoppedPart 1 (some FieldType.int) (rm_X9_stoppedPart_0) G b0 [.ref h] [oM h ad thr sts hs len at_ num many, aI G (ad 1) 68 st] sz (Ri G (fun (r_ : Int32) (_ : Unit) => r_ = st 66) (fun (_ : Unit) => [oM h ad 0 sts hs len at_ num many, aI G (ad 1) 68 st])) := by
  refine CT.go (by decide) (Nat.le_of_ble_eq_true rfl) (fun p e s m below meth c A ls AR QQ hx hb hr hlk hml hown hnm hts hE hA hAb hsz hP hD hS hl hQQ => ?_)
  have hK := hE.1
  have hown : s.vm.findClass RX9 = some m.cls := hown
  have hl : lv_has ls 1 [(0, .ref h)] := hl
  clear hsz
  refine lv_aload_n hx hb dX9_stoppedPart_0 rfl (lv_at hl 0 rfl) ?_
  refine lv_iconst (v := nI 0) hx hb dX9_stoppedPart_1 (by decide) ?_
  refine va_put (D := G.1) (ci := 8) (v := .int (nI 0)) (ty := .int) (C := RX9) (T := TX9) (N := 21) hx hb hts in_X9 tyX9 tyX9_ok nmX9 hown hK hP hD hS 0 rfl rfl 0 (by decide) (hts _ q1667) (fun _ h9 => h9) rfl (by decide +kernel) rfl rfl (Nat.le_of_ble_eq_true rfl) dX9_stoppedPart_2 (fun H locs hP hD hS => ?_)
  have hP : va_P G.1 vwCl [oM h ad 0 sts hs len at_ num many, aI G (ad 1) 68 st] _ := hP
  have hD : va_D A [oM h ad 0 sts hs len at_ num many, aI G (ad 1) 68 st] := hD
  refine lv_aload_n hx hb dX9_stoppedPart_5 rfl (lv_at hl 0 rfl) ?_
  refine va_get (D := G.1) (ci := 8) (v := .ref (ad 1)) (C := RX9) (T := TX9) (N := 21) hx hb hts in_X9 hown hK hP 0 rfl rfl 1 (by decide) (hts _ q1668) (fun _ h9 => h9) rfl dX9_stoppedPart_6 ?_
  refine lv_bipush (v := nI 65) hx hb dX9_stoppedPart_9 (by decide) ?_
  refine N_iald hx hb dX9_stoppedPart_11 hK hP 1 0 rfl rfl (by omega) (by omega) ?_
  refine lv_iconst (v := nI 1) hx hb dX9_stoppedPart_12 (by decide) ?_
  refine lv_icmp_ne (tgt := 26) hx hb dX9_stoppedPart_13 (by decide) (fun c_13 => ?_) (fun c_13 => ?_)
  · skip
    exfalso; exact c_13 h65
  · skip
    refine lv_aload_n hx hb dX9_stoppedPart_16 rfl (lv_at hl 0 rfl) ?_
    refine va_get (D := G.1) (ci := 8) (v := .ref (ad 1)) (C := RX9) (T := TX9) (N := 21) hx hb hts in_X9 hown hK hP 0 rfl rfl 1 (by decide) (hts _ q1668) (fun _ h9 => h9) rfl dX9_stoppedPart_17 ?_
    refine lv_bipush (v := nI 66) hx hb dX9_stoppedPart_20 (by decide) ?_
    refine N_iald hx hb dX9_stoppedPart_22 hK hP 1 0 rfl rfl (by omega) (by omega) ?_
    refine lv_goto (tgt := 31) hx hb dX9_stoppedPart_23 (by decide) ?_
    rw [hQQ]
    exact rt_i hx hb hr hlk  (()) dX9_stoppedPart_31 hP hD hS (by first | exact Nat.le_of_ble_eq_true rfl | (simp only [rm_X9_stoppedPart_0]; omega)) (by first | exact Nat.le_of_ble_eq_true rfl | (simp only [rm_X9_stoppedPart_0]; omega)) (by rfl)
def rm_X9_stoppedPart_1 : Room := ({ frames := 6, cells := 0, slots := 0, locals := 150 } : Room)
set_option maxHeartbeats 400000 in
set_option maxRecDepth 100000 in
theorem t_X9_stoppedPart_1 (l : Launch) (G : GG) (b0 sz : Nat) (h : Nat) (ad : Nat → Nat) (thr sts : Nat) (hs : Bool) (len at_ num many : Nat) (st : Nat → Int32) (h65 : ¬ st 65 = nI 1) : CT l yX9_stoppedPart cX9_stoppedPart 1 (some FieldType.int) (rm_X9_stoppedPart_1) G b0 [.ref h] [oM h ad thr sts hs len at_ num many, aI G (ad 1) 68 st] sz (Ri G (fun (r_ : Int32) (_ : Unit) => r_ = nI 0) (fun (_ : Unit) => [oM h ad 1 sts hs len at_ num many, aI G (ad 1) 68 st])) := by
  refine CT.go (by decide) (Nat.le_of_ble_eq_true rfl) (fun p e s m below meth c A ls AR QQ hx hb hr hlk hml hown hnm hts hE hA hAb hsz hP hD hS hl hQQ => ?_)
  have hK := hE.1
  have hown : s.vm.findClass RX9 = some m.cls := hown
  have hl : lv_has ls 1 [(0, .ref h)] := hl
  clear hsz
  refine lv_aload_n hx hb dX9_stoppedPart_0 rfl (lv_at hl 0 rfl) ?_
  refine lv_iconst (v := nI 0) hx hb dX9_stoppedPart_1 (by decide) ?_
  refine va_put (D := G.1) (ci := 8) (v := .int (nI 0)) (ty := .int) (C := RX9) (T := TX9) (N := 21) hx hb hts in_X9 tyX9 tyX9_ok nmX9 hown hK hP hD hS 0 rfl rfl 0 (by decide) (hts _ q1667) (fun _ h9 => h9) rfl (by decide +kernel) rfl rfl (Nat.le_of_ble_eq_true rfl) dX9_stoppedPart_2 (fun H locs hP hD hS => ?_)
  have hP : va_P G.1 vwCl [oM h ad 0 sts hs len at_ num many, aI G (ad 1) 68 st] _ := hP
  have hD : va_D A [oM h ad 0 sts hs len at_ num many, aI G (ad 1) 68 st] := hD
  refine lv_aload_n hx hb dX9_stoppedPart_5 rfl (lv_at hl 0 rfl) ?_
  refine va_get (D := G.1) (ci := 8) (v := .ref (ad 1)) (C := RX9) (T := TX9) (N := 21) hx hb hts in_X9 hown hK hP 0 rfl rfl 1 (by decide) (hts _ q1668) (fun _ h9 => h9) rfl dX9_stoppedPart_6 ?_
  refine lv_bipush (v := nI 65) hx hb dX9_stoppedPart_9 (by decide) ?_
  refine N_iald hx hb dX9_stoppedPart_11 hK hP 1 0 rfl rfl (by omega) (by omega) ?_
  refine lv_iconst (v := nI 1) hx hb dX9_stoppedPart_12 (by decide) ?_
  refine lv_icmp_ne (tgt := 26) hx hb dX9_stoppedPart_13 (by decide) (fun c_13 => ?_) (fun c_13 => ?_)
  · skip
    refine lv_aload_n hx hb dX9_stoppedPart_26 rfl (lv_at hl 0 rfl) ?_
    refine lv_iconst (v := nI 1) hx hb dX9_stoppedPart_27 (by decide) ?_
    refine fin_i (ws' := (fun (_ : Unit) => [oM h ad 1 sts hs len at_ num many, aI G (ad 1) 68 st])) hA hS hP hD [0] rfl [(true, 0), (false, 1)] (fun _ => rfl) (by decide) (run_V (As := [.int (nI 1)]) (rest := []) (n9 := 1) hx hb hml hown hts hE hAb hl.1 hS hP hD [0] rfl (by decide) (t_X9_fails l G b0 _ h ad 0 sts hs len at_ num many 1 ) (lw_V q1739 q1741 qs60 q129 q1742) 0 rfl rfl ⟨rfl, by decide, by decide, by decide +kernel⟩ ⟨Nat.le_of_ble_eq_true rfl, Nat.le_of_ble_eq_true rfl⟩ ⟨by first | exact Nat.le_of_ble_eq_true rfl | (simp only [rm_X9_stoppedPart_1, rm_X9_fails]; omega), by first | exact Nat.le_of_ble_eq_true rfl | (simp only [rm_X9_stoppedPart_1, rm_X9_fails]; omega)⟩ dX9_stoppedPart_28 (Nat.le_of_ble_eq_true rfl) rfl rfl) (fun r_1 u_1 H locs h_1 hP hD hS => ?_)
    have hP : va_P G.1 vwCl [oM h ad 1 sts hs len at_ num many, aI G (ad 1) 68 st] _ := hP
    have hD : va_D A [oM h ad 1 sts hs len at_ num many, aI G (ad 1) 68 st] := hD
    have h_1 : r_1 = (nI 0) := h_1
    rw [h_1]
    rw [hQQ]
    exact rt_i hx hb hr hlk  (()) dX9_stoppedPart_31 hP hD hS (by first | exact Nat.le_of_ble_eq_true rfl | (simp only [rm_X9_stoppedPart_1]; omega)) (by first | exact Nat.le_of_ble_eq_true rfl | (simp only [rm_X9_stoppedPart_1]; omega)) (by rfl)
  · skip
    exfalso; exact h65 c_13
def rm_X9_whyStopped_0 : Room := ({ frames := 6, cells := 0, slots := 0, locals := 150 } : Room)
set_option maxHeartbeats 400000 in
set_option maxRecDepth 100000 in
theorem t_X9_whyStopped_0 (l : Launch) (G : GG) (b0 sz : Nat) (h : Nat) (ad : Nat → Nat) (thr sts : Nat) (hs : Bool) (len at_ num many : Nat) (st : Nat → Int32) (h65 : st 65 = nI 1) : CT l yX9_whyStopped cX9_whyStopped 1 (some FieldType.int) (rm_X9_whyStopped_0) G b0 [.ref h] [oM h ad thr sts hs len at_ num many, aI G (ad 1) 68 st] sz (Ri G (fun (r_ : Int32) (_ : Unit) => r_ = st 67) (fun (_ : Unit) => [oM h ad 0 sts hs len at_ num many, aI G (ad 1) 68 st])) := by
  refine CT.go (by decide) (Nat.le_of_ble_eq_true rfl) (fun p e s m below meth c A ls AR QQ hx hb hr hlk hml hown hnm hts hE hA hAb hsz hP hD hS hl hQQ => ?_)
  have hK := hE.1
  have hown : s.vm.findClass RX9 = some m.cls := hown
  have hl : lv_has ls 1 [(0, .ref h)] := hl
  clear hsz
  refine lv_aload_n hx hb dX9_whyStopped_0 rfl (lv_at hl 0 rfl) ?_
  refine lv_iconst (v := nI 0) hx hb dX9_whyStopped_1 (by decide) ?_
  refine va_put (D := G.1) (ci := 8) (v := .int (nI 0)) (ty := .int) (C := RX9) (T := TX9) (N := 21) hx hb hts in_X9 tyX9 tyX9_ok nmX9 hown hK hP hD hS 0 rfl rfl 0 (by decide) (hts _ q1667) (fun _ h9 => h9) rfl (by decide +kernel) rfl rfl (Nat.le_of_ble_eq_true rfl) dX9_whyStopped_2 (fun H locs hP hD hS => ?_)
  have hP : va_P G.1 vwCl [oM h ad 0 sts hs len at_ num many, aI G (ad 1) 68 st] _ := hP
  have hD : va_D A [oM h ad 0 sts hs len at_ num many, aI G (ad 1) 68 st] := hD
  refine lv_aload_n hx hb dX9_whyStopped_5 rfl (lv_at hl 0 rfl) ?_
  refine va_get (D := G.1) (ci := 8) (v := .ref (ad 1)) (C := RX9) (T := TX9) (N := 21) hx hb hts in_X9 hown hK hP 0 rfl rfl 1 (by decide) (hts _ q1668) (fun _ h9 => h9) rfl dX9_whyStopped_6 ?_
  refine lv_bipush (v := nI 65) hx hb dX9_whyStopped_9 (by decide) ?_
  refine N_iald hx hb dX9_whyStopped_11 hK hP 1 0 rfl rfl (by omega) (by omega) ?_
  refine lv_iconst (v := nI 1) hx hb dX9_whyStopped_12 (by decide) ?_
  refine lv_icmp_ne (tgt := 26) hx hb dX9_whyStopped_13 (by decide) (fun c_13 => ?_) (fun c_13 => ?_)
  · skip
    exfalso; exact c_13 h65
  · skip
    refine lv_aload_n hx hb dX9_whyStopped_16 rfl (lv_at hl 0 rfl) ?_
    refine va_get (D := G.1) (ci := 8) (v := .ref (ad 1)) (C := RX9) (T := TX9) (N := 21) hx hb hts in_X9 hown hK hP 0 rfl rfl 1 (by decide) (hts _ q1668) (fun _ h9 => h9) rfl dX9_whyStopped_17 ?_
    refine lv_bipush (v := nI 67) hx hb dX9_whyStopped_20 (by decide) ?_
    refine N_iald hx hb dX9_whyStopped_22 hK hP 1 0 rfl rfl (by omega) (by omega) ?_
    refine lv_goto (tgt := 31) hx hb dX9_whyStopped_23 (by decide) ?_
    rw [hQQ]
    exact rt_i hx hb hr hlk  (()) dX9_whyStopped_31 hP hD hS (by first | exact Nat.le_of_ble_eq_true rfl | (simp only [rm_X9_whyStopped_0]; omega)) (by first | exact Nat.le_of_ble_eq_true rfl | (simp only [rm_X9_whyStopped_0]; omega)) (by rfl)
def rm_X9_whyStopped_1 : Room := ({ frames := 6, cells := 0, slots := 0, locals := 150 } : Room)
set_option maxHeartbeats 400000 in
set_option maxRecDepth 100000 in
theorem t_X9_whyStopped_1 (l : Launch) (G : GG) (b0 sz : Nat) (h : Nat) (ad : Nat → Nat) (thr sts : Nat) (hs : Bool) (len at_ num many : Nat) (st : Nat → Int32) (h65 : ¬ st 65 = nI 1) : CT l yX9_whyStopped cX9_whyStopped 1 (some FieldType.int) (rm_X9_whyStopped_1) G b0 [.ref h] [oM h ad thr sts hs len at_ num many, aI G (ad 1) 68 st] sz (Ri G (fun (r_ : Int32) (_ : Unit) => r_ = nI 0) (fun (_ : Unit) => [oM h ad 1 sts hs len at_ num many, aI G (ad 1) 68 st])) := by
  refine CT.go (by decide) (Nat.le_of_ble_eq_true rfl) (fun p e s m below meth c A ls AR QQ hx hb hr hlk hml hown hnm hts hE hA hAb hsz hP hD hS hl hQQ => ?_)
  have hK := hE.1
  have hown : s.vm.findClass RX9 = some m.cls := hown
  have hl : lv_has ls 1 [(0, .ref h)] := hl
  clear hsz
  refine lv_aload_n hx hb dX9_whyStopped_0 rfl (lv_at hl 0 rfl) ?_
  refine lv_iconst (v := nI 0) hx hb dX9_whyStopped_1 (by decide) ?_
  refine va_put (D := G.1) (ci := 8) (v := .int (nI 0)) (ty := .int) (C := RX9) (T := TX9) (N := 21) hx hb hts in_X9 tyX9 tyX9_ok nmX9 hown hK hP hD hS 0 rfl rfl 0 (by decide) (hts _ q1667) (fun _ h9 => h9) rfl (by decide +kernel) rfl rfl (Nat.le_of_ble_eq_true rfl) dX9_whyStopped_2 (fun H locs hP hD hS => ?_)
  have hP : va_P G.1 vwCl [oM h ad 0 sts hs len at_ num many, aI G (ad 1) 68 st] _ := hP
  have hD : va_D A [oM h ad 0 sts hs len at_ num many, aI G (ad 1) 68 st] := hD
  refine lv_aload_n hx hb dX9_whyStopped_5 rfl (lv_at hl 0 rfl) ?_
  refine va_get (D := G.1) (ci := 8) (v := .ref (ad 1)) (C := RX9) (T := TX9) (N := 21) hx hb hts in_X9 hown hK hP 0 rfl rfl 1 (by decide) (hts _ q1668) (fun _ h9 => h9) rfl dX9_whyStopped_6 ?_
  refine lv_bipush (v := nI 65) hx hb dX9_whyStopped_9 (by decide) ?_
  refine N_iald hx hb dX9_whyStopped_11 hK hP 1 0 rfl rfl (by omega) (by omega) ?_
  refine lv_iconst (v := nI 1) hx hb dX9_whyStopped_12 (by decide) ?_
  refine lv_icmp_ne (tgt := 26) hx hb dX9_whyStopped_13 (by decide) (fun c_13 => ?_) (fun c_13 => ?_)
  · skip
    refine lv_aload_n hx hb dX9_whyStopped_26 rfl (lv_at hl 0 rfl) ?_
    refine lv_iconst (v := nI 1) hx hb dX9_whyStopped_27 (by decide) ?_
    refine fin_i (ws' := (fun (_ : Unit) => [oM h ad 1 sts hs len at_ num many, aI G (ad 1) 68 st])) hA hS hP hD [0] rfl [(true, 0), (false, 1)] (fun _ => rfl) (by decide) (run_V (As := [.int (nI 1)]) (rest := []) (n9 := 1) hx hb hml hown hts hE hAb hl.1 hS hP hD [0] rfl (by decide) (t_X9_fails l G b0 _ h ad 0 sts hs len at_ num many 1 ) (lw_V q1739 q1741 qs60 q129 q1742) 0 rfl rfl ⟨rfl, by decide, by decide, by decide +kernel⟩ ⟨Nat.le_of_ble_eq_true rfl, Nat.le_of_ble_eq_true rfl⟩ ⟨by first | exact Nat.le_of_ble_eq_true rfl | (simp only [rm_X9_whyStopped_1, rm_X9_fails]; omega), by first | exact Nat.le_of_ble_eq_true rfl | (simp only [rm_X9_whyStopped_1, rm_X9_fails]; omega)⟩ dX9_whyStopped_28 (Nat.le_of_ble_eq_true rfl) rfl rfl) (fun r_1 u_1 H locs h_1 hP hD hS => ?_)
    have hP : va_P G.1 vwCl [oM h ad 1 sts hs len at_ num many, aI G (ad 1) 68 st] _ := hP
    have hD : va_D A [oM h ad 1 sts hs len at_ num many, aI G (ad 1) 68 st] := hD
    have h_1 : r_1 = (nI 0) := h_1
    rw [h_1]
    rw [hQQ]
    exact rt_i hx hb hr hlk  (()) dX9_whyStopped_31 hP hD hS (by first | exact Nat.le_of_ble_eq_true rfl | (simp only [rm_X9_whyStopped_1]; omega)) (by first | exact Nat.le_of_ble_eq_true rfl | (simp only [rm_X9_whyStopped_1]; omega)) (by rfl)
  · skip
    exfalso; exact h65 c_13
def rm_X9_clearBuffer : Room := ({ frames := 0, cells := 0, slots := 0, locals := 0 } : Room)
set_option maxHeartbeats 400000 in
set_option maxRecDepth 100000 in
theorem t_X9_clearBuffer (l : Launch) (G : GG) (b0 sz : Nat) (h : Nat) (ad : Nat → Nat) (thr sts : Nat) (hs : Bool) (len at_ num many : Nat) : CT l yX9_clearBuffer cX9_clearBuffer 2 (some FieldType.int) (rm_X9_clearBuffer) G b0 [.ref h] [oM h ad thr sts hs len at_ num many] sz (Ri G (fun (r_ : Int32) (_ : Unit) => r_ = nI len) (fun (_ : Unit) => [oM h ad 0 sts hs 0 at_ num many])) := by
  refine CT.go (by decide) (Nat.le_of_ble_eq_true rfl) (fun p e s m below meth c A ls AR QQ hx hb hr hlk hml hown hnm hts hE hA hAb hsz hP hD hS hl hQQ => ?_)
  have hK := hE.1
  have hown : s.vm.findClass RX9 = some m.cls := hown
  have hl : lv_has ls 2 [(0, .ref h)] := hl
  clear hsz
  refine lv_aload_n hx hb dX9_clearBuffer_0 rfl (lv_at hl 0 rfl) ?_
  refine lv_iconst (v := nI 0) hx hb dX9_clearBuffer_1 (by decide) ?_
  refine va_put (D := G.1) (ci := 8) (v := .int (nI 0)) (ty := .int) (C := RX9) (T := TX9) (N := 21) hx hb hts in_X9 tyX9 tyX9_ok nmX9 hown hK hP hD hS 0 rfl rfl 0 (by decide) (hts _ q1667) (fun _ h9 => h9) rfl (by decide +kernel) rfl rfl (Nat.le_of_ble_eq_true rfl) dX9_clearBuffer_2 (fun H locs hP hD hS => ?_)
  have hP : va_P G.1 vwCl [oM h ad 0 sts hs len at_ num many] _ := hP
  have hD : va_D A [oM h ad 0 sts hs len at_ num many] := hD
  refine lv_aload_n hx hb dX9_clearBuffer_5 rfl (lv_at hl 0 rfl) ?_
  refine va_get (D := G.1) (ci := 8) (v := .int (nI len)) (C := RX9) (T := TX9) (N := 21) hx hb hts in_X9 hown hK hP 0 rfl rfl 7 (by decide) (hts _ q1674) (fun _ h9 => h9) rfl dX9_clearBuffer_6 ?_
  refine lv_istore_n (lv' := [(1, .int (nI len)), (0, .ref h)]) hx hb dX9_clearBuffer_9 rfl hl (by decide) rfl (fun ls hl => ?_)
  refine lv_aload_n hx hb dX9_clearBuffer_10 rfl (lv_at hl 1 rfl) ?_
  refine lv_iconst (v := nI 0) hx hb dX9_clearBuffer_11 (by decide) ?_
  refine va_put (D := G.1) (ci := 8) (v := .int (nI 0)) (ty := .int) (C := RX9) (T := TX9) (N := 21) hx hb hts in_X9 tyX9 tyX9_ok nmX9 hown hK hP hD hS 0 rfl rfl 7 (by decide) (hts _ q1674) (fun _ h9 => h9) rfl (by decide +kernel) rfl rfl (Nat.le_of_ble_eq_true rfl) dX9_clearBuffer_12 (fun H locs hP hD hS => ?_)
  have hP : va_P G.1 vwCl [oM h ad 0 sts hs 0 at_ num many] _ := hP
  have hD : va_D A [oM h ad 0 sts hs 0 at_ num many] := hD
  refine lv_iload_n hx hb dX9_clearBuffer_15 rfl (lv_at hl 0 rfl) ?_
  rw [hQQ]
  exact rt_i hx hb hr hlk  (()) dX9_clearBuffer_16 hP hD hS (by first | exact Nat.le_of_ble_eq_true rfl | (simp only [rm_X9_clearBuffer]; omega)) (by first | exact Nat.le_of_ble_eq_true rfl | (simp only [rm_X9_clearBuffer]; omega)) (by rfl)
def rm_X9_append_0 : Room := ({ frames := 6, cells := 0, slots := 0, locals := 150 } : Room)
set_option maxHeartbeats 400000 in
set_option maxRecDepth 100000 in
theorem t_X9_append_0 (l : Launch) (G : GG) (b0 sz : Nat) (h : Nat) (ad : Nat → Nat) (thr sts : Nat) (hs : Bool) (len at_ num many : Nat) (tx : Nat → Int32) (cd : Nat) (hcd : 33 ≤ cd ∧ cd ≤ 126) (hln : len < 60) : CT l yX9_append cX9_append 2 (some FieldType.int) (rm_X9_append_0) G b0 [.ref h, .int (nI cd)] [oM h ad thr sts hs len at_ num many, aI G (ad 4) 60 tx] sz (Ri G (fun (r_ : Int32) (_ : Unit) => r_ = nI (len + 1)) (fun (_ : Unit) => [oM h ad 0 sts hs (len + 1) at_ num many, aI G (ad 4) 60 (upd tx len (nI cd))])) := by
  refine CT.go (by decide) (Nat.le_of_ble_eq_true rfl) (fun p e s m below meth c A ls AR QQ hx hb hr hlk hml hown hnm hts hE hA hAb hsz hP hD hS hl hQQ => ?_)
  have hK := hE.1
  have hown : s.vm.findClass RX9 = some m.cls := hown
  have hl : lv_has ls 2 [(0, .ref h), (1, .int (nI cd))] := hl
  clear hsz
  refine lv_aload_n hx hb dX9_append_0 rfl (lv_at hl 0 rfl) ?_
  refine lv_iconst (v := nI 0) hx hb dX9_append_1 (by decide) ?_
  refine va_put (D := G.1) (ci := 8) (v := .int (nI 0)) (ty := .int) (C := RX9) (T := TX9) (N := 21) hx hb hts in_X9 tyX9 tyX9_ok nmX9 hown hK hP hD hS 0 rfl rfl 0 (by decide) (hts _ q1667) (fun _ h9 => h9) rfl (by decide +kernel) rfl rfl (Nat.le_of_ble_eq_true rfl) dX9_append_2 (fun H locs hP hD hS => ?_)
  have hP : va_P G.1 vwCl [oM h ad 0 sts hs len at_ num many, aI G (ad 4) 60 tx] _ := hP
  have hD : va_D A [oM h ad 0 sts hs len at_ num many, aI G (ad 4) 60 tx] := hD
  refine lv_iload_n hx hb dX9_append_5 rfl (lv_at hl 1 rfl) ?_
  refine lv_bipush (v := nI 33) hx hb dX9_append_6 (by decide) ?_
  refine lv_bipush (v := nI 126) hx hb dX9_append_8 (by decide) ?_
  refine fin_i (ws' := (fun (_ : Unit) => [oM h ad 0 sts hs len at_ num many, aI G (ad 4) 60 tx])) hA hS hP hD [] rfl [(false, 0), (false, 1)] (fun _ => rfl) (by decide) (run_S (As := [.int (nI cd), .int (nI 33), .int (nI 126)]) (rest := []) (n9 := 3) hx hb hml hown hts hE hAb hl.1 hS hP hD [] rfl (by decide) (t_X9_within l G b0 _ (nI cd) (nI 33) (nI 126) ) (lw_S q1770 q1771 q129 q1772) ⟨by decide, by decide, by decide +kernel⟩ ⟨Nat.le_of_ble_eq_true rfl, Nat.le_of_ble_eq_true rfl⟩ ⟨by first | exact Nat.le_of_ble_eq_true rfl | (simp only [rm_X9_append_0, rm_X9_within]; omega), by first | exact Nat.le_of_ble_eq_true rfl | (simp only [rm_X9_append_0, rm_X9_within]; omega)⟩ dX9_append_10 (Nat.le_of_ble_eq_true rfl) rfl rfl) (fun r_1 u_1 H locs h_1 hP hD hS => ?_)
  have hP : va_P G.1 vwCl [oM h ad 0 sts hs len at_ num many, aI G (ad 4) 60 tx] _ := hP
  have hD : va_D A [oM h ad 0 sts hs len at_ num many, aI G (ad 4) 60 tx] := hD
  have h_1 : r_1 = (bI (inB (nI cd) (nI 33) (nI 126))) := h_1
  rw [h_1]
  refine B_if_ne (tgt := 22) hx hb dX9_append_13 (by decide) (fun c_13 => ?_) (fun c_13 => ?_)
  · skip
    refine lv_aload_n hx hb dX9_append_22 rfl (lv_at hl 0 rfl) ?_
    refine va_get (D := G.1) (ci := 8) (v := .int (nI len)) (C := RX9) (T := TX9) (N := 21) hx hb hts in_X9 hown hK hP 0 rfl rfl 7 (by decide) (hts _ q1674) (fun _ h9 => h9) rfl dX9_append_23 ?_
    refine lv_bipush (v := nI 60) hx hb dX9_append_26 (by decide) ?_
    refine N_icmp_ne (tgt := 37) hx hb dX9_append_28 (by decide) (by omega) (by omega) (fun c_28 => ?_) (fun c_28 => ?_)
    · skip
      refine lv_aload_n hx hb dX9_append_37 rfl (lv_at hl 0 rfl) ?_
      refine va_get (D := G.1) (ci := 8) (v := .ref (ad 4)) (C := RX9) (T := TX9) (N := 21) hx hb hts in_X9 hown hK hP 0 rfl rfl 6 (by decide) (hts _ q1673) (fun _ h9 => h9) rfl dX9_append_38 ?_
      refine lv_aload_n hx hb dX9_append_41 rfl (lv_at hl 0 rfl) ?_
      refine va_get (D := G.1) (ci := 8) (v := .int (nI len)) (C := RX9) (T := TX9) (N := 21) hx hb hts in_X9 hown hK hP 0 rfl rfl 7 (by decide) (hts _ q1674) (fun _ h9 => h9) rfl dX9_append_42 ?_
      refine lv_iload_n hx hb dX9_append_45 rfl (lv_at hl 1 rfl) ?_
      refine N_iast (ws' := [oM h ad 0 sts hs len at_ num many, aI G (ad 4) 60 (upd tx len (nI cd))]) hx hb dX9_append_46 hK hP hD hS 1 0 rfl rfl (by omega) (by omega) rfl (fun H locs hP hD hS => ?_)
      refine lv_aload_n hx hb dX9_append_47 rfl (lv_at hl 0 rfl) ?_
      refine lv_dup hx hb dX9_append_48 rfl ?_
      refine va_get (D := G.1) (ci := 8) (v := .int (nI len)) (C := RX9) (T := TX9) (N := 21) hx hb hts in_X9 hown hK hP 0 rfl rfl 7 (by decide) (hts _ q1674) (fun _ h9 => h9) rfl dX9_append_49 ?_
      refine lv_iconst (v := nI 1) hx hb dX9_append_52 (by decide) ?_
      refine N_iadd hx hb dX9_append_53 ?_
      refine va_put (D := G.1) (ci := 8) (v := .int (nI (len + 1))) (ty := .int) (C := RX9) (T := TX9) (N := 21) hx hb hts in_X9 tyX9 tyX9_ok nmX9 hown hK hP hD hS 0 rfl rfl 7 (by decide) (hts _ q1674) (fun _ h9 => h9) rfl (by decide +kernel) rfl rfl (Nat.le_of_ble_eq_true rfl) dX9_append_54 (fun H locs hP hD hS => ?_)
      have hP : va_P G.1 vwCl [oM h ad 0 sts hs (len + 1) at_ num many, aI G (ad 4) 60 (upd tx len (nI cd))] _ := hP
      have hD : va_D A [oM h ad 0 sts hs (len + 1) at_ num many, aI G (ad 4) 60 (upd tx len (nI cd))] := hD
      refine lv_aload_n hx hb dX9_append_57 rfl (lv_at hl 0 rfl) ?_
      refine va_get (D := G.1) (ci := 8) (v := .int (nI (len + 1))) (C := RX9) (T := TX9) (N := 21) hx hb hts in_X9 hown hK hP 0 rfl rfl 7 (by decide) (hts _ q1674) (fun _ h9 => h9) rfl dX9_append_58 ?_
      rw [hQQ]
      exact rt_i hx hb hr hlk  (()) dX9_append_61 hP hD hS (by first | exact Nat.le_of_ble_eq_true rfl | (simp only [rm_X9_append_0]; omega)) (by first | exact Nat.le_of_ble_eq_true rfl | (simp only [rm_X9_append_0]; omega)) (by rfl)
    · skip
      exfalso; omega
  · skip
    exfalso; exact absurd ((show inB (nI cd) (nI 33) (nI 126) = true by rw [inB_nat (by omega) (by decide) (by decide)]; exact decide_eq_true (by omega)).symm.trans c_13) (by decide)
def rm_X9_append_1 : Room := ({ frames := 6, cells := 0, slots := 0, locals := 150 } : Room)
set_option maxHeartbeats 400000 in
set_option maxRecDepth 100000 in
theorem t_X9_append_1 (l : Launch) (G : GG) (b0 sz : Nat) (h : Nat) (ad : Nat → Nat) (thr sts : Nat) (hs : Bool) (len at_ num many : Nat) (tx : Nat → Int32) (t : Int32) (htt : inB t (nI 33) (nI 126) = false) : CT l yX9_append cX9_append 2 (some FieldType.int) (rm_X9_append_1) G b0 [.ref h, .int t] [oM h ad thr sts hs len at_ num many, aI G (ad 4) 60 tx] sz (Ri G (fun (r_ : Int32) (_ : Unit) => r_ = nI 0) (fun (_ : Unit) => [oM h ad 1 sts hs len at_ num many, aI G (ad 4) 60 tx])) := by
  refine CT.go (by decide) (Nat.le_of_ble_eq_true rfl) (fun p e s m below meth c A ls AR QQ hx hb hr hlk hml hown hnm hts hE hA hAb hsz hP hD hS hl hQQ => ?_)
  have hK := hE.1
  have hown : s.vm.findClass RX9 = some m.cls := hown
  have hl : lv_has ls 2 [(0, .ref h), (1, .int t)] := hl
  clear hsz
  refine lv_aload_n hx hb dX9_append_0 rfl (lv_at hl 0 rfl) ?_
  refine lv_iconst (v := nI 0) hx hb dX9_append_1 (by decide) ?_
  refine va_put (D := G.1) (ci := 8) (v := .int (nI 0)) (ty := .int) (C := RX9) (T := TX9) (N := 21) hx hb hts in_X9 tyX9 tyX9_ok nmX9 hown hK hP hD hS 0 rfl rfl 0 (by decide) (hts _ q1667) (fun _ h9 => h9) rfl (by decide +kernel) rfl rfl (Nat.le_of_ble_eq_true rfl) dX9_append_2 (fun H locs hP hD hS => ?_)
  have hP : va_P G.1 vwCl [oM h ad 0 sts hs len at_ num many, aI G (ad 4) 60 tx] _ := hP
  have hD : va_D A [oM h ad 0 sts hs len at_ num many, aI G (ad 4) 60 tx] := hD
  refine lv_iload_n hx hb dX9_append_5 rfl (lv_at hl 1 rfl) ?_
  refine lv_bipush (v := nI 33) hx hb dX9_append_6 (by decide) ?_
  refine lv_bipush (v := nI 126) hx hb dX9_append_8 (by decide) ?_
  refine fin_i (ws' := (fun (_ : Unit) => [oM h ad 0 sts hs len at_ num many, aI G (ad 4) 60 tx])) hA hS hP hD [] rfl [(false, 0), (false, 1)] (fun _ => rfl) (by decide) (run_S (As := [.int t, .int (nI 33), .int (nI 126)]) (rest := []) (n9 := 3) hx hb hml hown hts hE hAb hl.1 hS hP hD [] rfl (by decide) (t_X9_within l G b0 _ t (nI 33) (nI 126) ) (lw_S q1770 q1771 q129 q1772) ⟨by decide, by decide, by decide +kernel⟩ ⟨Nat.le_of_ble_eq_true rfl, Nat.le_of_ble_eq_true rfl⟩ ⟨by first | exact Nat.le_of_ble_eq_true rfl | (simp only [rm_X9_append_1, rm_X9_within]; omega), by first | exact Nat.le_of_ble_eq_true rfl | (simp only [rm_X9_append_1, rm_X9_within]; omega)⟩ dX9_append_10 (Nat.le_of_ble_eq_true rfl) rfl rfl) (fun r_1 u_1 H locs h_1 hP hD hS => ?_)
  have hP : va_P G.1 vwCl [oM h ad 0 sts hs len at_ num many, aI G (ad 4) 60 tx] _ := hP
  have hD : va_D A [oM h ad 0 sts hs len at_ num many, aI G (ad 4) 60 tx] := hD
  have h_1 : r_1 = (bI (inB t (nI 33) (nI 126))) := h_1
  rw [h_1]
  refine B_if_ne (tgt := 22) hx hb dX9_append_13 (by decide) (fun c_13 => ?_) (fun c_13 => ?_)
  · skip
    exfalso; exact absurd (htt.symm.trans c_13) (by decide)
  · skip
    refine lv_aload_n hx hb dX9_append_16 rfl (lv_at hl 0 rfl) ?_
    refine lv_iconst (v := nI 1) hx hb dX9_append_17 (by decide) ?_
    refine fin_i (ws' := (fun (_ : Unit) => [oM h ad 1 sts hs len at_ num many, aI G (ad 4) 60 tx])) hA hS hP hD [0] rfl [(true, 0), (false, 1)] (fun _ => rfl) (by decide) (run_V (As := [.int (nI 1)]) (rest := []) (n9 := 1) hx hb hml hown hts hE hAb hl.1 hS hP hD [0] rfl (by decide) (t_X9_fails l G b0 _ h ad 0 sts hs len at_ num many 1 ) (lw_V q1739 q1741 qs60 q129 q1742) 0 rfl rfl ⟨rfl, by decide, by decide, by decide +kernel⟩ ⟨Nat.le_of_ble_eq_true rfl, Nat.le_of_ble_eq_true rfl⟩ ⟨by first | exact Nat.le_of_ble_eq_true rfl | (simp only [rm_X9_append_1, rm_X9_fails]; omega), by first | exact Nat.le_of_ble_eq_true rfl | (simp only [rm_X9_append_1, rm_X9_fails]; omega)⟩ dX9_append_18 (Nat.le_of_ble_eq_true rfl) rfl rfl) (fun r_2 u_2 H locs h_2 hP hD hS => ?_)
    have hP : va_P G.1 vwCl [oM h ad 1 sts hs len at_ num many, aI G (ad 4) 60 tx] _ := hP
    have hD : va_D A [oM h ad 1 sts hs len at_ num many, aI G (ad 4) 60 tx] := hD
    have h_2 : r_2 = (nI 0) := h_2
    rw [h_2]
    rw [hQQ]
    exact rt_i hx hb hr hlk  (()) dX9_append_21 hP hD hS (by first | exact Nat.le_of_ble_eq_true rfl | (simp only [rm_X9_append_1]; omega)) (by first | exact Nat.le_of_ble_eq_true rfl | (simp only [rm_X9_append_1]; omega)) (by rfl)
def rm_X9_append_2 : Room := ({ frames := 6, cells := 0, slots := 0, locals := 150 } : Room)
set_option maxHeartbeats 400000 in
set_option maxRecDepth 100000 in
theorem t_X9_append_2 (l : Launch) (G : GG) (b0 sz : Nat) (h : Nat) (ad : Nat → Nat) (thr sts : Nat) (hs : Bool) (len at_ num many : Nat) (tx : Nat → Int32) (cd : Nat) (hcd : 33 ≤ cd ∧ cd ≤ 126) (hln : len = 60) : CT l yX9_append cX9_append 2 (some FieldType.int) (rm_X9_append_2) G b0 [.ref h, .int (nI cd)] [oM h ad thr sts hs len at_ num many, aI G (ad 4) 60 tx] sz (Ri G (fun (r_ : Int32) (_ : Unit) => r_ = nI 0) (fun (_ : Unit) => [oM h ad 2 sts hs len at_ num many, aI G (ad 4) 60 tx])) := by
  refine CT.go (by decide) (Nat.le_of_ble_eq_true rfl) (fun p e s m below meth c A ls AR QQ hx hb hr hlk hml hown hnm hts hE hA hAb hsz hP hD hS hl hQQ => ?_)
  have hK := hE.1
  have hown : s.vm.findClass RX9 = some m.cls := hown
  have hl : lv_has ls 2 [(0, .ref h), (1, .int (nI cd))] := hl
  clear hsz
  refine lv_aload_n hx hb dX9_append_0 rfl (lv_at hl 0 rfl) ?_
  refine lv_iconst (v := nI 0) hx hb dX9_append_1 (by decide) ?_
  refine va_put (D := G.1) (ci := 8) (v := .int (nI 0)) (ty := .int) (C := RX9) (T := TX9) (N := 21) hx hb hts in_X9 tyX9 tyX9_ok nmX9 hown hK hP hD hS 0 rfl rfl 0 (by decide) (hts _ q1667) (fun _ h9 => h9) rfl (by decide +kernel) rfl rfl (Nat.le_of_ble_eq_true rfl) dX9_append_2 (fun H locs hP hD hS => ?_)
  have hP : va_P G.1 vwCl [oM h ad 0 sts hs len at_ num many, aI G (ad 4) 60 tx] _ := hP
  have hD : va_D A [oM h ad 0 sts hs len at_ num many, aI G (ad 4) 60 tx] := hD
  refine lv_iload_n hx hb dX9_append_5 rfl (lv_at hl 1 rfl) ?_
  refine lv_bipush (v := nI 33) hx hb dX9_append_6 (by decide) ?_
  refine lv_bipush (v := nI 126) hx hb dX9_append_8 (by decide) ?_
  refine fin_i (ws' := (fun (_ : Unit) => [oM h ad 0 sts hs len at_ num many, aI G (ad 4) 60 tx])) hA hS hP hD [] rfl [(false, 0), (false, 1)] (fun _ => rfl) (by decide) (run_S (As := [.int (nI cd), .int (nI 33), .int (nI 126)]) (rest := []) (n9 := 3) hx hb hml hown hts hE hAb hl.1 hS hP hD [] rfl (by decide) (t_X9_within l G b0 _ (nI cd) (nI 33) (nI 126) ) (lw_S q1770 q1771 q129 q1772) ⟨by decide, by decide, by decide +kernel⟩ ⟨Nat.le_of_ble_eq_true rfl, Nat.le_of_ble_eq_true rfl⟩ ⟨by first | exact Nat.le_of_ble_eq_true rfl | (simp only [rm_X9_append_2, rm_X9_within]; omega), by first | exact Nat.le_of_ble_eq_true rfl | (simp only [rm_X9_append_2, rm_X9_within]; omega)⟩ dX9_append_10 (Nat.le_of_ble_eq_true rfl) rfl rfl) (fun r_1 u_1 H locs h_1 hP hD hS => ?_)
  have hP : va_P G.1 vwCl [oM h ad 0 sts hs len at_ num many, aI G (ad 4) 60 tx] _ := hP
  have hD : va_D A [oM h ad 0 sts hs len at_ num many, aI G (ad 4) 60 tx] := hD
  have h_1 : r_1 = (bI (inB (nI cd) (nI 33) (nI 126))) := h_1
  rw [h_1]
  refine B_if_ne (tgt := 22) hx hb dX9_append_13 (by decide) (fun c_13 => ?_) (fun c_13 => ?_)
  · skip
    refine lv_aload_n hx hb dX9_append_22 rfl (lv_at hl 0 rfl) ?_
    refine va_get (D := G.1) (ci := 8) (v := .int (nI len)) (C := RX9) (T := TX9) (N := 21) hx hb hts in_X9 hown hK hP 0 rfl rfl 7 (by decide) (hts _ q1674) (fun _ h9 => h9) rfl dX9_append_23 ?_
    refine lv_bipush (v := nI 60) hx hb dX9_append_26 (by decide) ?_
    refine N_icmp_ne (tgt := 37) hx hb dX9_append_28 (by decide) (by omega) (by omega) (fun c_28 => ?_) (fun c_28 => ?_)
    · skip
      exfalso; omega
    · skip
      refine lv_aload_n hx hb dX9_append_31 rfl (lv_at hl 0 rfl) ?_
      refine lv_iconst (v := nI 2) hx hb dX9_append_32 (by decide) ?_
      refine fin_i (ws' := (fun (_ : Unit) => [oM h ad 2 sts hs len at_ num many, aI G (ad 4) 60 tx])) hA hS hP hD [0] rfl [(true, 0), (false, 1)] (fun _ => rfl) (by decide) (run_V (As := [.int (nI 2)]) (rest := []) (n9 := 1) hx hb hml hown hts hE hAb hl.1 hS hP hD [0] rfl (by decide) (t_X9_fails l G b0 _ h ad 0 sts hs len at_ num many 2 ) (lw_V q1739 q1741 qs60 q129 q1742) 0 rfl rfl ⟨rfl, by decide, by decide, by decide +kernel⟩ ⟨Nat.le_of_ble_eq_true rfl, Nat.le_of_ble_eq_true rfl⟩ ⟨by first | exact Nat.le_of_ble_eq_true rfl | (simp only [rm_X9_append_2, rm_X9_fails]; omega), by first | exact Nat.le_of_ble_eq_true rfl | (simp only [rm_X9_append_2, rm_X9_fails]; omega)⟩ dX9_append_33 (Nat.le_of_ble_eq_true rfl) rfl rfl) (fun r_2 u_2 H locs h_2 hP hD hS => ?_)
      have hP : va_P G.1 vwCl [oM h ad 2 sts hs len at_ num many, aI G (ad 4) 60 tx] _ := hP
      have hD : va_D A [oM h ad 2 sts hs len at_ num many, aI G (ad 4) 60 tx] := hD
      have h_2 : r_2 = (nI 0) := h_2
      rw [h_2]
      rw [hQQ]
      exact rt_i hx hb hr hlk  (()) dX9_append_36 hP hD hS (by first | exact Nat.le_of_ble_eq_true rfl | (simp only [rm_X9_append_2]; omega)) (by first | exact Nat.le_of_ble_eq_true rfl | (simp only [rm_X9_append_2]; omega)) (by rfl)
  · skip
    exfalso; exact absurd ((show inB (nI cd) (nI 33) (nI 126) = true by rw [inB_nat (by omega) (by decide) (by decide)]; exact decide_eq_true (by omega)).symm.trans c_13) (by decide)
