/-! ===== the reference: what is asked of it ===== -/
def rm_X9_crumbs_0 : Room := ({ frames := 6, cells := 0, slots := 0, locals := 150 } : Room)
set_option maxHeartbeats 400000 in
set_option maxRecDepth 100000 in
theorem t_X9_crumbs_0 (l : Launch) (G : GG) (b0 sz : Nat) (h : Nat) (ad : Nat → Nat) (thr sts : Nat) (hs : Bool) (len at_ num many : Nat) (st pa li : Nat → Int32) (L : Nat) (t : Int32) (hL1 : 1 ≤ L) (hL : L ≤ 3) (hst : st 64 = nI L) (htt : isSh t = true) : CT l yX9_crumbs cX9_crumbs 2 (some FieldType.int) (rm_X9_crumbs_0) G b0 [.ref h, .int t] [oM h ad thr sts hs len at_ num many, aI G (ad 1) 68 st, aI G (ad 5) 64 pa, aI G (ad 7) 8 li] sz (Ri G (fun (r_ : Int32) (u : (Nat → Int32) × (Nat → Int32)) => r_ = l_sum (crmN L t (splitP st L)) 64) (fun (u : (Nat → Int32) × (Nat → Int32)) => [oM h ad 0 sts hs len at_ num many, aI G (ad 1) 68 st, aI G (ad 5) 64 u.1, aI G (ad 7) 8 u.2])) := by
  refine CT.go (by decide) (Nat.le_of_ble_eq_true rfl) (fun p e s m below meth c A ls AR QQ hx hb hr hlk hml hown hnm hts hE hA hAb hsz hP hD hS hl hQQ => ?_)
  have hK := hE.1
  have hown : s.vm.findClass RX9 = some m.cls := hown
  have hl : lv_has ls 2 [(0, .ref h), (1, .int t)] := hl
  clear hsz
  refine lv_aload_n hx hb dX9_crumbs_0 rfl (lv_at hl 0 rfl) ?_
  refine lv_iconst (v := nI 0) hx hb dX9_crumbs_1 (by decide) ?_
  refine va_put (D := G.1) (ci := 8) (v := .int (nI 0)) (ty := .int) (C := RX9) (T := TX9) (N := 21) hx hb hts in_X9 tyX9 tyX9_ok nmX9 hown hK hP hD hS 0 rfl rfl 0 (by decide) (hts _ q1667) (fun _ h9 => h9) rfl (by decide +kernel) rfl rfl (Nat.le_of_ble_eq_true rfl) dX9_crumbs_2 (fun H locs hP hD hS => ?_)
  have hP : va_P G.1 vwCl [oM h ad 0 sts hs len at_ num many, aI G (ad 1) 68 st, aI G (ad 5) 64 pa, aI G (ad 7) 8 li] _ := hP
  have hD : va_D A [oM h ad 0 sts hs len at_ num many, aI G (ad 1) 68 st, aI G (ad 5) 64 pa, aI G (ad 7) 8 li] := hD
  refine lv_iload_n hx hb dX9_crumbs_5 rfl (lv_at hl 1 rfl) ?_
  refine fin_i (ws' := (fun (_ : Unit) => [oM h ad 0 sts hs len at_ num many, aI G (ad 1) 68 st, aI G (ad 5) 64 pa, aI G (ad 7) 8 li])) hA hS hP hD [] rfl [(false, 0), (false, 1), (false, 2), (false, 3)] (fun _ => rfl) (by decide) (run_S (As := [.int t]) (rest := []) (n9 := 1) hx hb hml hown hts hE hAb hl.1 hS hP hD [] rfl (by decide) (t_X9_isShade l G b0 _ t ) (lw_S q1767 q1768 q129 q1769) ⟨by decide, by decide, by decide +kernel⟩ ⟨Nat.le_of_ble_eq_true rfl, Nat.le_of_ble_eq_true rfl⟩ ⟨by first | exact Nat.le_of_ble_eq_true rfl | (simp only [rm_X9_crumbs_0, rm_X9_isShade]; omega), by first | exact Nat.le_of_ble_eq_true rfl | (simp only [rm_X9_crumbs_0, rm_X9_isShade]; omega)⟩ dX9_crumbs_6 (Nat.le_of_ble_eq_true rfl) rfl rfl) (fun r_1 u_1 H locs h_1 hP hD hS => ?_)
  have hP : va_P G.1 vwCl [oM h ad 0 sts hs len at_ num many, aI G (ad 1) 68 st, aI G (ad 5) 64 pa, aI G (ad 7) 8 li] _ := hP
  have hD : va_D A [oM h ad 0 sts hs len at_ num many, aI G (ad 1) 68 st, aI G (ad 5) 64 pa, aI G (ad 7) 8 li] := hD
  have h_1 : r_1 = (bI (isSh t)) := h_1
  rw [h_1]
  refine B_if_eq (tgt := 20) hx hb dX9_crumbs_9 (by decide) (fun c_9 => ?_) (fun c_9 => ?_)
  · skip
    exfalso; exact absurd (htt.symm.trans c_9) (by decide)
  · skip
    refine lv_aload_n hx hb dX9_crumbs_12 rfl (lv_at hl 0 rfl) ?_
    refine lv_iload_n hx hb dX9_crumbs_13 rfl (lv_at hl 1 rfl) ?_
    refine fin_i (ws' := (fun (u_2 : Nat → Int32) => [oM h ad 0 sts hs len at_ num many, aI G (ad 1) 68 st, aI G (ad 5) 64 (drpA L t (splitP st L)), aI G (ad 7) 8 u_2])) hA hS hP hD [0, 1, 2, 3] rfl [(true, 0), (true, 1), (true, 2), (true, 3)] (fun _ => rfl) (by decide) (run_V (As := [.int t]) (rest := []) (n9 := 1) hx hb hml hown hts hE hAb hl.1 hS hP hD [0, 1, 2, 3] rfl (by decide) (t_X9_dropFrom l G b0 _ h ad 0 sts hs len at_ num many st pa li L t (by omega) (by omega) (by omega)) (lw_V q1773 q1775 qs63 q129 q1776) 0 rfl rfl ⟨rfl, by decide, by decide, by decide +kernel⟩ ⟨Nat.le_of_ble_eq_true rfl, Nat.le_of_ble_eq_true rfl⟩ ⟨by first | exact Nat.le_of_ble_eq_true rfl | (simp only [rm_X9_crumbs_0, rm_X9_dropFrom]; omega), by first | exact Nat.le_of_ble_eq_true rfl | (simp only [rm_X9_crumbs_0, rm_X9_dropFrom]; omega)⟩ dX9_crumbs_14 (Nat.le_of_ble_eq_true rfl) rfl rfl) (fun r_2 u_2 H locs h_2 hP hD hS => ?_)
    have hP : va_P G.1 vwCl [oM h ad 0 sts hs len at_ num many, aI G (ad 1) 68 st, aI G (ad 5) 64 (drpA L t (splitP st L)), aI G (ad 7) 8 u_2] _ := hP
    have hD : va_D A [oM h ad 0 sts hs len at_ num many, aI G (ad 1) 68 st, aI G (ad 5) 64 (drpA L t (splitP st L)), aI G (ad 7) 8 u_2] := hD
    have h_2 : r_2 = (l_sum (crmN L t (splitP st L)) 64) := h_2
    rw [h_2]
    refine lv_goto (tgt := 25) hx hb dX9_crumbs_17 (by decide) ?_
    have hP : va_P G.1 vwCl [oM h ad 0 sts hs len at_ num many, aI G (ad 1) 68 st, aI G (ad 5) 64 (((drpA L t (splitP st L), u_2)).1), aI G (ad 7) 8 (((drpA L t (splitP st L), u_2)).2)] _ := hP
    have hD : va_D A [oM h ad 0 sts hs len at_ num many, aI G (ad 1) 68 st, aI G (ad 5) 64 (((drpA L t (splitP st L), u_2)).1), aI G (ad 7) 8 (((drpA L t (splitP st L), u_2)).2)] := hD
    rw [hQQ]
    exact rt_i hx hb hr hlk  ((drpA L t (splitP st L), u_2)) dX9_crumbs_25 hP hD hS (by first | exact Nat.le_of_ble_eq_true rfl | (simp only [rm_X9_crumbs_0]; omega)) (by first | exact Nat.le_of_ble_eq_true rfl | (simp only [rm_X9_crumbs_0]; omega)) (by rfl)
def rm_X9_crumbs_1 : Room := ({ frames := 6, cells := 0, slots := 0, locals := 150 } : Room)
set_option maxHeartbeats 400000 in
set_option maxRecDepth 100000 in
theorem t_X9_crumbs_1 (l : Launch) (G : GG) (b0 sz : Nat) (h : Nat) (ad : Nat → Nat) (thr sts : Nat) (hs : Bool) (len at_ num many : Nat) (st pa li : Nat → Int32) (L : Nat) (t : Int32) (hL1 : 1 ≤ L) (hL : L ≤ 3) (hst : st 64 = nI L) (htt : isSh t = false) : CT l yX9_crumbs cX9_crumbs 2 (some FieldType.int) (rm_X9_crumbs_1) G b0 [.ref h, .int t] [oM h ad thr sts hs len at_ num many, aI G (ad 1) 68 st, aI G (ad 5) 64 pa, aI G (ad 7) 8 li] sz (Ri G (fun (r_ : Int32) (_ : Unit) => r_ = nI 0) (fun (_ : Unit) => [oM h ad 1 sts hs len at_ num many, aI G (ad 1) 68 st, aI G (ad 5) 64 pa, aI G (ad 7) 8 li])) := by
  refine CT.go (by decide) (Nat.le_of_ble_eq_true rfl) (fun p e s m below meth c A ls AR QQ hx hb hr hlk hml hown hnm hts hE hA hAb hsz hP hD hS hl hQQ => ?_)
  have hK := hE.1
  have hown : s.vm.findClass RX9 = some m.cls := hown
  have hl : lv_has ls 2 [(0, .ref h), (1, .int t)] := hl
  clear hsz
  refine lv_aload_n hx hb dX9_crumbs_0 rfl (lv_at hl 0 rfl) ?_
  refine lv_iconst (v := nI 0) hx hb dX9_crumbs_1 (by decide) ?_
  refine va_put (D := G.1) (ci := 8) (v := .int (nI 0)) (ty := .int) (C := RX9) (T := TX9) (N := 21) hx hb hts in_X9 tyX9 tyX9_ok nmX9 hown hK hP hD hS 0 rfl rfl 0 (by decide) (hts _ q1667) (fun _ h9 => h9) rfl (by decide +kernel) rfl rfl (Nat.le_of_ble_eq_true rfl) dX9_crumbs_2 (fun H locs hP hD hS => ?_)
  have hP : va_P G.1 vwCl [oM h ad 0 sts hs len at_ num many, aI G (ad 1) 68 st, aI G (ad 5) 64 pa, aI G (ad 7) 8 li] _ := hP
  have hD : va_D A [oM h ad 0 sts hs len at_ num many, aI G (ad 1) 68 st, aI G (ad 5) 64 pa, aI G (ad 7) 8 li] := hD
  refine lv_iload_n hx hb dX9_crumbs_5 rfl (lv_at hl 1 rfl) ?_
  refine fin_i (ws' := (fun (_ : Unit) => [oM h ad 0 sts hs len at_ num many, aI G (ad 1) 68 st, aI G (ad 5) 64 pa, aI G (ad 7) 8 li])) hA hS hP hD [] rfl [(false, 0), (false, 1), (false, 2), (false, 3)] (fun _ => rfl) (by decide) (run_S (As := [.int t]) (rest := []) (n9 := 1) hx hb hml hown hts hE hAb hl.1 hS hP hD [] rfl (by decide) (t_X9_isShade l G b0 _ t ) (lw_S q1767 q1768 q129 q1769) ⟨by decide, by decide, by decide +kernel⟩ ⟨Nat.le_of_ble_eq_true rfl, Nat.le_of_ble_eq_true rfl⟩ ⟨by first | exact Nat.le_of_ble_eq_true rfl | (simp only [rm_X9_crumbs_1, rm_X9_isShade]; omega), by first | exact Nat.le_of_ble_eq_true rfl | (simp only [rm_X9_crumbs_1, rm_X9_isShade]; omega)⟩ dX9_crumbs_6 (Nat.le_of_ble_eq_true rfl) rfl rfl) (fun r_1 u_1 H locs h_1 hP hD hS => ?_)
  have hP : va_P G.1 vwCl [oM h ad 0 sts hs len at_ num many, aI G (ad 1) 68 st, aI G (ad 5) 64 pa, aI G (ad 7) 8 li] _ := hP
  have hD : va_D A [oM h ad 0 sts hs len at_ num many, aI G (ad 1) 68 st, aI G (ad 5) 64 pa, aI G (ad 7) 8 li] := hD
  have h_1 : r_1 = (bI (isSh t)) := h_1
  rw [h_1]
  refine B_if_eq (tgt := 20) hx hb dX9_crumbs_9 (by decide) (fun c_9 => ?_) (fun c_9 => ?_)
  · skip
    refine lv_aload_n hx hb dX9_crumbs_20 rfl (lv_at hl 0 rfl) ?_
    refine lv_iconst (v := nI 1) hx hb dX9_crumbs_21 (by decide) ?_
    refine fin_i (ws' := (fun (_ : Unit) => [oM h ad 1 sts hs len at_ num many, aI G (ad 1) 68 st, aI G (ad 5) 64 pa, aI G (ad 7) 8 li])) hA hS hP hD [0] rfl [(true, 0), (false, 1), (false, 2), (false, 3)] (fun _ => rfl) (by decide) (run_V (As := [.int (nI 1)]) (rest := []) (n9 := 1) hx hb hml hown hts hE hAb hl.1 hS hP hD [0] rfl (by decide) (t_X9_fails l G b0 _ h ad 0 sts hs len at_ num many 1 ) (lw_V q1739 q1741 qs60 q129 q1742) 0 rfl rfl ⟨rfl, by decide, by decide, by decide +kernel⟩ ⟨Nat.le_of_ble_eq_true rfl, Nat.le_of_ble_eq_true rfl⟩ ⟨by first | exact Nat.le_of_ble_eq_true rfl | (simp only [rm_X9_crumbs_1, rm_X9_fails]; omega), by first | exact Nat.le_of_ble_eq_true rfl | (simp only [rm_X9_crumbs_1, rm_X9_fails]; omega)⟩ dX9_crumbs_22 (Nat.le_of_ble_eq_true rfl) rfl rfl) (fun r_2 u_2 H locs h_2 hP hD hS => ?_)
    have hP : va_P G.1 vwCl [oM h ad 1 sts hs len at_ num many, aI G (ad 1) 68 st, aI G (ad 5) 64 pa, aI G (ad 7) 8 li] _ := hP
    have hD : va_D A [oM h ad 1 sts hs len at_ num many, aI G (ad 1) 68 st, aI G (ad 5) 64 pa, aI G (ad 7) 8 li] := hD
    have h_2 : r_2 = (nI 0) := h_2
    rw [h_2]
    rw [hQQ]
    exact rt_i hx hb hr hlk  (()) dX9_crumbs_25 hP hD hS (by first | exact Nat.le_of_ble_eq_true rfl | (simp only [rm_X9_crumbs_1]; omega)) (by first | exact Nat.le_of_ble_eq_true rfl | (simp only [rm_X9_crumbs_1]; omega)) (by rfl)
  · skip
    exfalso; exact absurd (htt.symm.trans c_9) (by decide)
def rm_X9_cost_0 : Room := ({ frames := 6, cells := 0, slots := 0, locals := 150 } : Room)
set_option maxHeartbeats 400000 in
set_option maxRecDepth 100000 in
theorem t_X9_cost_0 (l : Launch) (G : GG) (b0 sz : Nat) (h : Nat) (ad : Nat → Nat) (thr sts : Nat) (hs : Bool) (len at_ num many : Nat) (st pa bk li : Nat → Int32) (L : Nat) (t : Int32) (hL1 : 1 ≤ L) (hL : L ≤ 3) (hst : st 64 = nI L) (htt : isSh t = true) : CT l yX9_cost cX9_cost 2 (some FieldType.int) (rm_X9_cost_0) G b0 [.ref h, .int t] [oM h ad thr sts hs len at_ num many, aI G (ad 1) 68 st, aI G (ad 5) 64 pa, aI G (ad 6) 64 bk, aI G (ad 7) 8 li] sz (Ri G (fun (r_ : Int32) (u : (Nat → Int32) × (Nat → Int32) × (Nat → Int32)) => r_ = costI L t st) (fun (u : (Nat → Int32) × (Nat → Int32) × (Nat → Int32)) => [oM h ad 0 sts hs len at_ num many, aI G (ad 1) 68 st, aI G (ad 5) 64 u.1, aI G (ad 6) 64 u.2.1, aI G (ad 7) 8 u.2.2])) := by
  refine CT.go (by decide) (Nat.le_of_ble_eq_true rfl) (fun p e s m below meth c A ls AR QQ hx hb hr hlk hml hown hnm hts hE hA hAb hsz hP hD hS hl hQQ => ?_)
  have hK := hE.1
  have hown : s.vm.findClass RX9 = some m.cls := hown
  have hl : lv_has ls 2 [(0, .ref h), (1, .int t)] := hl
  clear hsz
  refine lv_aload_n hx hb dX9_cost_0 rfl (lv_at hl 0 rfl) ?_
  refine lv_iconst (v := nI 0) hx hb dX9_cost_1 (by decide) ?_
  refine va_put (D := G.1) (ci := 8) (v := .int (nI 0)) (ty := .int) (C := RX9) (T := TX9) (N := 21) hx hb hts in_X9 tyX9 tyX9_ok nmX9 hown hK hP hD hS 0 rfl rfl 0 (by decide) (hts _ q1667) (fun _ h9 => h9) rfl (by decide +kernel) rfl rfl (Nat.le_of_ble_eq_true rfl) dX9_cost_2 (fun H locs hP hD hS => ?_)
  have hP : va_P G.1 vwCl [oM h ad 0 sts hs len at_ num many, aI G (ad 1) 68 st, aI G (ad 5) 64 pa, aI G (ad 6) 64 bk, aI G (ad 7) 8 li] _ := hP
  have hD : va_D A [oM h ad 0 sts hs len at_ num many, aI G (ad 1) 68 st, aI G (ad 5) 64 pa, aI G (ad 6) 64 bk, aI G (ad 7) 8 li] := hD
  refine lv_iload_n hx hb dX9_cost_5 rfl (lv_at hl 1 rfl) ?_
  refine fin_i (ws' := (fun (_ : Unit) => [oM h ad 0 sts hs len at_ num many, aI G (ad 1) 68 st, aI G (ad 5) 64 pa, aI G (ad 6) 64 bk, aI G (ad 7) 8 li])) hA hS hP hD [] rfl [(false, 0), (false, 1), (false, 2), (false, 3), (false, 4)] (fun _ => rfl) (by decide) (run_S (As := [.int t]) (rest := []) (n9 := 1) hx hb hml hown hts hE hAb hl.1 hS hP hD [] rfl (by decide) (t_X9_isShade l G b0 _ t ) (lw_S q1767 q1768 q129 q1769) ⟨by decide, by decide, by decide +kernel⟩ ⟨Nat.le_of_ble_eq_true rfl, Nat.le_of_ble_eq_true rfl⟩ ⟨by first | exact Nat.le_of_ble_eq_true rfl | (simp only [rm_X9_cost_0, rm_X9_isShade]; omega), by first | exact Nat.le_of_ble_eq_true rfl | (simp only [rm_X9_cost_0, rm_X9_isShade]; omega)⟩ dX9_cost_6 (Nat.le_of_ble_eq_true rfl) rfl rfl) (fun r_1 u_1 H locs h_1 hP hD hS => ?_)
  have hP : va_P G.1 vwCl [oM h ad 0 sts hs len at_ num many, aI G (ad 1) 68 st, aI G (ad 5) 64 pa, aI G (ad 6) 64 bk, aI G (ad 7) 8 li] _ := hP
  have hD : va_D A [oM h ad 0 sts hs len at_ num many, aI G (ad 1) 68 st, aI G (ad 5) 64 pa, aI G (ad 6) 64 bk, aI G (ad 7) 8 li] := hD
  have h_1 : r_1 = (bI (isSh t)) := h_1
  rw [h_1]
  refine B_if_eq (tgt := 20) hx hb dX9_cost_9 (by decide) (fun c_9 => ?_) (fun c_9 => ?_)
  · skip
    exfalso; exact absurd (htt.symm.trans c_9) (by decide)
  · skip
    refine lv_aload_n hx hb dX9_cost_12 rfl (lv_at hl 0 rfl) ?_
    refine lv_iload_n hx hb dX9_cost_13 rfl (lv_at hl 1 rfl) ?_
    refine fin_i (ws' := (fun (u_2 : Nat → Int32) => [oM h ad 0 sts hs len at_ num many, aI G (ad 1) 68 st, aI G (ad 5) 64 (drpA L t (splitP st L)), aI G (ad 6) 64 (bkD L t st), aI G (ad 7) 8 u_2])) hA hS hP hD [0, 1, 2, 3, 4] rfl [(true, 0), (true, 1), (true, 2), (true, 3), (true, 4)] (fun _ => rfl) (by decide) (run_V (As := [.int t]) (rest := []) (n9 := 1) hx hb hml hown hts hE hAb hl.1 hS hP hD [0, 1, 2, 3, 4] rfl (by decide) (t_X9_costBy l G b0 _ h ad 0 sts hs len at_ num many st pa bk li L t (by omega) (by omega) (by omega)) (lw_V q1806 q1808 qs68 q129 q1809) 0 rfl rfl ⟨rfl, by decide, by decide, by decide +kernel⟩ ⟨Nat.le_of_ble_eq_true rfl, Nat.le_of_ble_eq_true rfl⟩ ⟨by first | exact Nat.le_of_ble_eq_true rfl | (simp only [rm_X9_cost_0, rm_X9_costBy]; omega), by first | exact Nat.le_of_ble_eq_true rfl | (simp only [rm_X9_cost_0, rm_X9_costBy]; omega)⟩ dX9_cost_14 (Nat.le_of_ble_eq_true rfl) rfl rfl) (fun r_2 u_2 H locs h_2 hP hD hS => ?_)
    have hP : va_P G.1 vwCl [oM h ad 0 sts hs len at_ num many, aI G (ad 1) 68 st, aI G (ad 5) 64 (drpA L t (splitP st L)), aI G (ad 6) 64 (bkD L t st), aI G (ad 7) 8 u_2] _ := hP
    have hD : va_D A [oM h ad 0 sts hs len at_ num many, aI G (ad 1) 68 st, aI G (ad 5) 64 (drpA L t (splitP st L)), aI G (ad 6) 64 (bkD L t st), aI G (ad 7) 8 u_2] := hD
    have h_2 : r_2 = (costI L t st) := h_2
    rw [h_2]
    refine lv_goto (tgt := 25) hx hb dX9_cost_17 (by decide) ?_
    have hP : va_P G.1 vwCl [oM h ad 0 sts hs len at_ num many, aI G (ad 1) 68 st, aI G (ad 5) 64 (((drpA L t (splitP st L), bkD L t st, u_2)).1), aI G (ad 6) 64 (((drpA L t (splitP st L), bkD L t st, u_2)).2.1), aI G (ad 7) 8 (((drpA L t (splitP st L), bkD L t st, u_2)).2.2)] _ := hP
    have hD : va_D A [oM h ad 0 sts hs len at_ num many, aI G (ad 1) 68 st, aI G (ad 5) 64 (((drpA L t (splitP st L), bkD L t st, u_2)).1), aI G (ad 6) 64 (((drpA L t (splitP st L), bkD L t st, u_2)).2.1), aI G (ad 7) 8 (((drpA L t (splitP st L), bkD L t st, u_2)).2.2)] := hD
    rw [hQQ]
    exact rt_i hx hb hr hlk  ((drpA L t (splitP st L), bkD L t st, u_2)) dX9_cost_25 hP hD hS (by first | exact Nat.le_of_ble_eq_true rfl | (simp only [rm_X9_cost_0]; omega)) (by first | exact Nat.le_of_ble_eq_true rfl | (simp only [rm_X9_cost_0]; omega)) (by rfl)
def rm_X9_cost_1 : Room := ({ frames := 6, cells := 0, slots := 0, locals := 150 } : Room)
set_option maxHeartbeats 400000 in
set_option maxRecDepth 100000 in
theorem t_X9_cost_1 (l : Launch) (G : GG) (b0 sz : Nat) (h : Nat) (ad : Nat → Nat) (thr sts : Nat) (hs : Bool) (len at_ num many : Nat) (st pa bk li : Nat → Int32) (L : Nat) (t : Int32) (hL1 : 1 ≤ L) (hL : L ≤ 3) (hst : st 64 = nI L) (htt : isSh t = false) : CT l yX9_cost cX9_cost 2 (some FieldType.int) (rm_X9_cost_1) G b0 [.ref h, .int t] [oM h ad thr sts hs len at_ num many, aI G (ad 1) 68 st, aI G (ad 5) 64 pa, aI G (ad 6) 64 bk, aI G (ad 7) 8 li] sz (Ri G (fun (r_ : Int32) (_ : Unit) => r_ = nI 0) (fun (_ : Unit) => [oM h ad 1 sts hs len at_ num many, aI G (ad 1) 68 st, aI G (ad 5) 64 pa, aI G (ad 6) 64 bk, aI G (ad 7) 8 li])) := by
  refine CT.go (by decide) (Nat.le_of_ble_eq_true rfl) (fun p e s m below meth c A ls AR QQ hx hb hr hlk hml hown hnm hts hE hA hAb hsz hP hD hS hl hQQ => ?_)
  have hK := hE.1
  have hown : s.vm.findClass RX9 = some m.cls := hown
  have hl : lv_has ls 2 [(0, .ref h), (1, .int t)] := hl
  clear hsz
  refine lv_aload_n hx hb dX9_cost_0 rfl (lv_at hl 0 rfl) ?_
  refine lv_iconst (v := nI 0) hx hb dX9_cost_1 (by decide) ?_
  refine va_put (D := G.1) (ci := 8) (v := .int (nI 0)) (ty := .int) (C := RX9) (T := TX9) (N := 21) hx hb hts in_X9 tyX9 tyX9_ok nmX9 hown hK hP hD hS 0 rfl rfl 0 (by decide) (hts _ q1667) (fun _ h9 => h9) rfl (by decide +kernel) rfl rfl (Nat.le_of_ble_eq_true rfl) dX9_cost_2 (fun H locs hP hD hS => ?_)
  have hP : va_P G.1 vwCl [oM h ad 0 sts hs len at_ num many, aI G (ad 1) 68 st, aI G (ad 5) 64 pa, aI G (ad 6) 64 bk, aI G (ad 7) 8 li] _ := hP
  have hD : va_D A [oM h ad 0 sts hs len at_ num many, aI G (ad 1) 68 st, aI G (ad 5) 64 pa, aI G (ad 6) 64 bk, aI G (ad 7) 8 li] := hD
  refine lv_iload_n hx hb dX9_cost_5 rfl (lv_at hl 1 rfl) ?_
  refine fin_i (ws' := (fun (_ : Unit) => [oM h ad 0 sts hs len at_ num many, aI G (ad 1) 68 st, aI G (ad 5) 64 pa, aI G (ad 6) 64 bk, aI G (ad 7) 8 li])) hA hS hP hD [] rfl [(false, 0), (false, 1), (false, 2), (false, 3), (false, 4)] (fun _ => rfl) (by decide) (run_S (As := [.int t]) (rest := []) (n9 := 1) hx hb hml hown hts hE hAb hl.1 hS hP hD [] rfl (by decide) (t_X9_isShade l G b0 _ t ) (lw_S q1767 q1768 q129 q1769) ⟨by decide, by decide, by decide +kernel⟩ ⟨Nat.le_of_ble_eq_true rfl, Nat.le_of_ble_eq_true rfl⟩ ⟨by first | exact Nat.le_of_ble_eq_true rfl | (simp only [rm_X9_cost_1, rm_X9_isShade]; omega), by first | exact Nat.le_of_ble_eq_true rfl | (simp only [rm_X9_cost_1, rm_X9_isShade]; omega)⟩ dX9_cost_6 (Nat.le_of_ble_eq_true rfl) rfl rfl) (fun r_1 u_1 H locs h_1 hP hD hS => ?_)
  have hP : va_P G.1 vwCl [oM h ad 0 sts hs len at_ num many, aI G (ad 1) 68 st, aI G (ad 5) 64 pa, aI G (ad 6) 64 bk, aI G (ad 7) 8 li] _ := hP
  have hD : va_D A [oM h ad 0 sts hs len at_ num many, aI G (ad 1) 68 st, aI G (ad 5) 64 pa, aI G (ad 6) 64 bk, aI G (ad 7) 8 li] := hD
  have h_1 : r_1 = (bI (isSh t)) := h_1
  rw [h_1]
  refine B_if_eq (tgt := 20) hx hb dX9_cost_9 (by decide) (fun c_9 => ?_) (fun c_9 => ?_)
  · skip
    refine lv_aload_n hx hb dX9_cost_20 rfl (lv_at hl 0 rfl) ?_
    refine lv_iconst (v := nI 1) hx hb dX9_cost_21 (by decide) ?_
    refine fin_i (ws' := (fun (_ : Unit) => [oM h ad 1 sts hs len at_ num many, aI G (ad 1) 68 st, aI G (ad 5) 64 pa, aI G (ad 6) 64 bk, aI G (ad 7) 8 li])) hA hS hP hD [0] rfl [(true, 0), (false, 1), (false, 2), (false, 3), (false, 4)] (fun _ => rfl) (by decide) (run_V (As := [.int (nI 1)]) (rest := []) (n9 := 1) hx hb hml hown hts hE hAb hl.1 hS hP hD [0] rfl (by decide) (t_X9_fails l G b0 _ h ad 0 sts hs len at_ num many 1 ) (lw_V q1739 q1741 qs60 q129 q1742) 0 rfl rfl ⟨rfl, by decide, by decide, by decide +kernel⟩ ⟨Nat.le_of_ble_eq_true rfl, Nat.le_of_ble_eq_true rfl⟩ ⟨by first | exact Nat.le_of_ble_eq_true rfl | (simp only [rm_X9_cost_1, rm_X9_fails]; omega), by first | exact Nat.le_of_ble_eq_true rfl | (simp only [rm_X9_cost_1, rm_X9_fails]; omega)⟩ dX9_cost_22 (Nat.le_of_ble_eq_true rfl) rfl rfl) (fun r_2 u_2 H locs h_2 hP hD hS => ?_)
    have hP : va_P G.1 vwCl [oM h ad 1 sts hs len at_ num many, aI G (ad 1) 68 st, aI G (ad 5) 64 pa, aI G (ad 6) 64 bk, aI G (ad 7) 8 li] _ := hP
    have hD : va_D A [oM h ad 1 sts hs len at_ num many, aI G (ad 1) 68 st, aI G (ad 5) 64 pa, aI G (ad 6) 64 bk, aI G (ad 7) 8 li] := hD
    have h_2 : r_2 = (nI 0) := h_2
    rw [h_2]
    rw [hQQ]
    exact rt_i hx hb hr hlk  (()) dX9_cost_25 hP hD hS (by first | exact Nat.le_of_ble_eq_true rfl | (simp only [rm_X9_cost_1]; omega)) (by first | exact Nat.le_of_ble_eq_true rfl | (simp only [rm_X9_cost_1]; omega)) (by rfl)
  · skip
    exfalso; exact absurd (htt.symm.trans c_9) (by decide)
def rm_X9_worst_0 : Room := ({ frames := 6, cells := 0, slots := 0, locals := 150 } : Room)
set_option maxHeartbeats 400000 in
set_option maxRecDepth 100000 in
theorem t_X9_worst_0 (l : Launch) (G : GG) (b0 sz : Nat) (h : Nat) (ad : Nat → Nat) (thr sts : Nat) (hs : Bool) (len at_ num many : Nat) (st pa bk li : Nat → Int32) (L : Nat) (t : Int32) (hL1 : 1 ≤ L) (hL : L ≤ 3) (hst : st 64 = nI L) (htt : isSh t = true) : CT l yX9_worst cX9_worst 2 (some FieldType.int) (rm_X9_worst_0) G b0 [.ref h, .int t] [oM h ad thr sts hs len at_ num many, aI G (ad 1) 68 st, aI G (ad 5) 64 pa, aI G (ad 6) 64 bk, aI G (ad 7) 8 li] sz (Ri G (fun (r_ : Int32) (u : (Nat → Int32) × (Nat → Int32) × (Nat → Int32)) => r_ = wrsI (cosF (bkD L t st) st) 64) (fun (u : (Nat → Int32) × (Nat → Int32) × (Nat → Int32)) => [oM h ad 0 sts hs len at_ num many, aI G (ad 1) 68 st, aI G (ad 5) 64 u.1, aI G (ad 6) 64 u.2.1, aI G (ad 7) 8 u.2.2])) := by
  refine CT.go (by decide) (Nat.le_of_ble_eq_true rfl) (fun p e s m below meth c A ls AR QQ hx hb hr hlk hml hown hnm hts hE hA hAb hsz hP hD hS hl hQQ => ?_)
  have hK := hE.1
  have hown : s.vm.findClass RX9 = some m.cls := hown
  have hl : lv_has ls 2 [(0, .ref h), (1, .int t)] := hl
  clear hsz
  refine lv_aload_n hx hb dX9_worst_0 rfl (lv_at hl 0 rfl) ?_
  refine lv_iconst (v := nI 0) hx hb dX9_worst_1 (by decide) ?_
  refine va_put (D := G.1) (ci := 8) (v := .int (nI 0)) (ty := .int) (C := RX9) (T := TX9) (N := 21) hx hb hts in_X9 tyX9 tyX9_ok nmX9 hown hK hP hD hS 0 rfl rfl 0 (by decide) (hts _ q1667) (fun _ h9 => h9) rfl (by decide +kernel) rfl rfl (Nat.le_of_ble_eq_true rfl) dX9_worst_2 (fun H locs hP hD hS => ?_)
  have hP : va_P G.1 vwCl [oM h ad 0 sts hs len at_ num many, aI G (ad 1) 68 st, aI G (ad 5) 64 pa, aI G (ad 6) 64 bk, aI G (ad 7) 8 li] _ := hP
  have hD : va_D A [oM h ad 0 sts hs len at_ num many, aI G (ad 1) 68 st, aI G (ad 5) 64 pa, aI G (ad 6) 64 bk, aI G (ad 7) 8 li] := hD
  refine lv_iload_n hx hb dX9_worst_5 rfl (lv_at hl 1 rfl) ?_
  refine fin_i (ws' := (fun (_ : Unit) => [oM h ad 0 sts hs len at_ num many, aI G (ad 1) 68 st, aI G (ad 5) 64 pa, aI G (ad 6) 64 bk, aI G (ad 7) 8 li])) hA hS hP hD [] rfl [(false, 0), (false, 1), (false, 2), (false, 3), (false, 4)] (fun _ => rfl) (by decide) (run_S (As := [.int t]) (rest := []) (n9 := 1) hx hb hml hown hts hE hAb hl.1 hS hP hD [] rfl (by decide) (t_X9_isShade l G b0 _ t ) (lw_S q1767 q1768 q129 q1769) ⟨by decide, by decide, by decide +kernel⟩ ⟨Nat.le_of_ble_eq_true rfl, Nat.le_of_ble_eq_true rfl⟩ ⟨by first | exact Nat.le_of_ble_eq_true rfl | (simp only [rm_X9_worst_0, rm_X9_isShade]; omega), by first | exact Nat.le_of_ble_eq_true rfl | (simp only [rm_X9_worst_0, rm_X9_isShade]; omega)⟩ dX9_worst_6 (Nat.le_of_ble_eq_true rfl) rfl rfl) (fun r_1 u_1 H locs h_1 hP hD hS => ?_)
  have hP : va_P G.1 vwCl [oM h ad 0 sts hs len at_ num many, aI G (ad 1) 68 st, aI G (ad 5) 64 pa, aI G (ad 6) 64 bk, aI G (ad 7) 8 li] _ := hP
  have hD : va_D A [oM h ad 0 sts hs len at_ num many, aI G (ad 1) 68 st, aI G (ad 5) 64 pa, aI G (ad 6) 64 bk, aI G (ad 7) 8 li] := hD
  have h_1 : r_1 = (bI (isSh t)) := h_1
  rw [h_1]
  refine B_if_eq (tgt := 20) hx hb dX9_worst_9 (by decide) (fun c_9 => ?_) (fun c_9 => ?_)
  · skip
    exfalso; exact absurd (htt.symm.trans c_9) (by decide)
  · skip
    refine lv_aload_n hx hb dX9_worst_12 rfl (lv_at hl 0 rfl) ?_
    refine lv_iload_n hx hb dX9_worst_13 rfl (lv_at hl 1 rfl) ?_
    refine fin_i (ws' := (fun (u_2 : Nat → Int32) => [oM h ad 0 sts hs len at_ num many, aI G (ad 1) 68 st, aI G (ad 5) 64 (drpA L t (splitP st L)), aI G (ad 6) 64 (bkD L t st), aI G (ad 7) 8 u_2])) hA hS hP hD [0, 1, 2, 3, 4] rfl [(true, 0), (true, 1), (true, 2), (true, 3), (true, 4)] (fun _ => rfl) (by decide) (run_V (As := [.int t]) (rest := []) (n9 := 1) hx hb hml hown hts hE hAb hl.1 hS hP hD [0, 1, 2, 3, 4] rfl (by decide) (t_X9_worstBy l G b0 _ h ad 0 sts hs len at_ num many st pa bk li L t (by omega) (by omega) (by omega)) (lw_V q1833 q1835 qs73 q129 q1836) 0 rfl rfl ⟨rfl, by decide, by decide, by decide +kernel⟩ ⟨Nat.le_of_ble_eq_true rfl, Nat.le_of_ble_eq_true rfl⟩ ⟨by first | exact Nat.le_of_ble_eq_true rfl | (simp only [rm_X9_worst_0, rm_X9_worstBy]; omega), by first | exact Nat.le_of_ble_eq_true rfl | (simp only [rm_X9_worst_0, rm_X9_worstBy]; omega)⟩ dX9_worst_14 (Nat.le_of_ble_eq_true rfl) rfl rfl) (fun r_2 u_2 H locs h_2 hP hD hS => ?_)
    have hP : va_P G.1 vwCl [oM h ad 0 sts hs len at_ num many, aI G (ad 1) 68 st, aI G (ad 5) 64 (drpA L t (splitP st L)), aI G (ad 6) 64 (bkD L t st), aI G (ad 7) 8 u_2] _ := hP
    have hD : va_D A [oM h ad 0 sts hs len at_ num many, aI G (ad 1) 68 st, aI G (ad 5) 64 (drpA L t (splitP st L)), aI G (ad 6) 64 (bkD L t st), aI G (ad 7) 8 u_2] := hD
    have h_2 : r_2 = (wrsI (cosF (bkD L t st) st) 64) := h_2
    rw [h_2]
    refine lv_goto (tgt := 25) hx hb dX9_worst_17 (by decide) ?_
    have hP : va_P G.1 vwCl [oM h ad 0 sts hs len at_ num many, aI G (ad 1) 68 st, aI G (ad 5) 64 (((drpA L t (splitP st L), bkD L t st, u_2)).1), aI G (ad 6) 64 (((drpA L t (splitP st L), bkD L t st, u_2)).2.1), aI G (ad 7) 8 (((drpA L t (splitP st L), bkD L t st, u_2)).2.2)] _ := hP
    have hD : va_D A [oM h ad 0 sts hs len at_ num many, aI G (ad 1) 68 st, aI G (ad 5) 64 (((drpA L t (splitP st L), bkD L t st, u_2)).1), aI G (ad 6) 64 (((drpA L t (splitP st L), bkD L t st, u_2)).2.1), aI G (ad 7) 8 (((drpA L t (splitP st L), bkD L t st, u_2)).2.2)] := hD
    rw [hQQ]
    exact rt_i hx hb hr hlk  ((drpA L t (splitP st L), bkD L t st, u_2)) dX9_worst_25 hP hD hS (by first | exact Nat.le_of_ble_eq_true rfl | (simp only [rm_X9_worst_0]; omega)) (by first | exact Nat.le_of_ble_eq_true rfl | (simp only [rm_X9_worst_0]; omega)) (by rfl)
def rm_X9_worst_1 : Room := ({ frames := 6, cells := 0, slots := 0, locals := 150 } : Room)
set_option maxHeartbeats 400000 in
set_option maxRecDepth 100000 in
theorem t_X9_worst_1 (l : Launch) (G : GG) (b0 sz : Nat) (h : Nat) (ad : Nat → Nat) (thr sts : Nat) (hs : Bool) (len at_ num many : Nat) (st pa bk li : Nat → Int32) (L : Nat) (t : Int32) (hL1 : 1 ≤ L) (hL : L ≤ 3) (hst : st 64 = nI L) (htt : isSh t = false) : CT l yX9_worst cX9_worst 2 (some FieldType.int) (rm_X9_worst_1) G b0 [.ref h, .int t] [oM h ad thr sts hs len at_ num many, aI G (ad 1) 68 st, aI G (ad 5) 64 pa, aI G (ad 6) 64 bk, aI G (ad 7) 8 li] sz (Ri G (fun (r_ : Int32) (_ : Unit) => r_ = nI 0) (fun (_ : Unit) => [oM h ad 1 sts hs len at_ num many, aI G (ad 1) 68 st, aI G (ad 5) 64 pa, aI G (ad 6) 64 bk, aI G (ad 7) 8 li])) := by
  refine CT.go (by decide) (Nat.le_of_ble_eq_true rfl) (fun p e s m below meth c A ls AR QQ hx hb hr hlk hml hown hnm hts hE hA hAb hsz hP hD hS hl hQQ => ?_)
  have hK := hE.1
  have hown : s.vm.findClass RX9 = some m.cls := hown
  have hl : lv_has ls 2 [(0, .ref h), (1, .int t)] := hl
  clear hsz
  refine lv_aload_n hx hb dX9_worst_0 rfl (lv_at hl 0 rfl) ?_
  refine lv_iconst (v := nI 0) hx hb dX9_worst_1 (by decide) ?_
  refine va_put (D := G.1) (ci := 8) (v := .int (nI 0)) (ty := .int) (C := RX9) (T := TX9) (N := 21) hx hb hts in_X9 tyX9 tyX9_ok nmX9 hown hK hP hD hS 0 rfl rfl 0 (by decide) (hts _ q1667) (fun _ h9 => h9) rfl (by decide +kernel) rfl rfl (Nat.le_of_ble_eq_true rfl) dX9_worst_2 (fun H locs hP hD hS => ?_)
  have hP : va_P G.1 vwCl [oM h ad 0 sts hs len at_ num many, aI G (ad 1) 68 st, aI G (ad 5) 64 pa, aI G (ad 6) 64 bk, aI G (ad 7) 8 li] _ := hP
  have hD : va_D A [oM h ad 0 sts hs len at_ num many, aI G (ad 1) 68 st, aI G (ad 5) 64 pa, aI G (ad 6) 64 bk, aI G (ad 7) 8 li] := hD
  refine lv_iload_n hx hb dX9_worst_5 rfl (lv_at hl 1 rfl) ?_
  refine fin_i (ws' := (fun (_ : Unit) => [oM h ad 0 sts hs len at_ num many, aI G (ad 1) 68 st, aI G (ad 5) 64 pa, aI G (ad 6) 64 bk, aI G (ad 7) 8 li])) hA hS hP hD [] rfl [(false, 0), (false, 1), (false, 2), (false, 3), (false, 4)] (fun _ => rfl) (by decide) (run_S (As := [.int t]) (rest := []) (n9 := 1) hx hb hml hown hts hE hAb hl.1 hS hP hD [] rfl (by decide) (t_X9_isShade l G b0 _ t ) (lw_S q1767 q1768 q129 q1769) ⟨by decide, by decide, by decide +kernel⟩ ⟨Nat.le_of_ble_eq_true rfl, Nat.le_of_ble_eq_true rfl⟩ ⟨by first | exact Nat.le_of_ble_eq_true rfl | (simp only [rm_X9_worst_1, rm_X9_isShade]; omega), by first | exact Nat.le_of_ble_eq_true rfl | (simp only [rm_X9_worst_1, rm_X9_isShade]; omega)⟩ dX9_worst_6 (Nat.le_of_ble_eq_true rfl) rfl rfl) (fun r_1 u_1 H locs h_1 hP hD hS => ?_)
  have hP : va_P G.1 vwCl [oM h ad 0 sts hs len at_ num many, aI G (ad 1) 68 st, aI G (ad 5) 64 pa, aI G (ad 6) 64 bk, aI G (ad 7) 8 li] _ := hP
  have hD : va_D A [oM h ad 0 sts hs len at_ num many, aI G (ad 1) 68 st, aI G (ad 5) 64 pa, aI G (ad 6) 64 bk, aI G (ad 7) 8 li] := hD
  have h_1 : r_1 = (bI (isSh t)) := h_1
  rw [h_1]
  refine B_if_eq (tgt := 20) hx hb dX9_worst_9 (by decide) (fun c_9 => ?_) (fun c_9 => ?_)
  · skip
    refine lv_aload_n hx hb dX9_worst_20 rfl (lv_at hl 0 rfl) ?_
    refine lv_iconst (v := nI 1) hx hb dX9_worst_21 (by decide) ?_
    refine fin_i (ws' := (fun (_ : Unit) => [oM h ad 1 sts hs len at_ num many, aI G (ad 1) 68 st, aI G (ad 5) 64 pa, aI G (ad 6) 64 bk, aI G (ad 7) 8 li])) hA hS hP hD [0] rfl [(true, 0), (false, 1), (false, 2), (false, 3), (false, 4)] (fun _ => rfl) (by decide) (run_V (As := [.int (nI 1)]) (rest := []) (n9 := 1) hx hb hml hown hts hE hAb hl.1 hS hP hD [0] rfl (by decide) (t_X9_fails l G b0 _ h ad 0 sts hs len at_ num many 1 ) (lw_V q1739 q1741 qs60 q129 q1742) 0 rfl rfl ⟨rfl, by decide, by decide, by decide +kernel⟩ ⟨Nat.le_of_ble_eq_true rfl, Nat.le_of_ble_eq_true rfl⟩ ⟨by first | exact Nat.le_of_ble_eq_true rfl | (simp only [rm_X9_worst_1, rm_X9_fails]; omega), by first | exact Nat.le_of_ble_eq_true rfl | (simp only [rm_X9_worst_1, rm_X9_fails]; omega)⟩ dX9_worst_22 (Nat.le_of_ble_eq_true rfl) rfl rfl) (fun r_2 u_2 H locs h_2 hP hD hS => ?_)
    have hP : va_P G.1 vwCl [oM h ad 1 sts hs len at_ num many, aI G (ad 1) 68 st, aI G (ad 5) 64 pa, aI G (ad 6) 64 bk, aI G (ad 7) 8 li] _ := hP
    have hD : va_D A [oM h ad 1 sts hs len at_ num many, aI G (ad 1) 68 st, aI G (ad 5) 64 pa, aI G (ad 6) 64 bk, aI G (ad 7) 8 li] := hD
    have h_2 : r_2 = (nI 0) := h_2
    rw [h_2]
    rw [hQQ]
    exact rt_i hx hb hr hlk  (()) dX9_worst_25 hP hD hS (by first | exact Nat.le_of_ble_eq_true rfl | (simp only [rm_X9_worst_1]; omega)) (by first | exact Nat.le_of_ble_eq_true rfl | (simp only [rm_X9_worst_1]; omega)) (by rfl)
  · skip
    exfalso; exact absurd (htt.symm.trans c_9) (by decide)
def rm_X9_trees_0 : Room := ({ frames := 6, cells := 0, slots := 0, locals := 150 } : Room)
set_option maxHeartbeats 400000 in
set_option maxRecDepth 100000 in
theorem t_X9_trees_0 (l : Launch) (G : GG) (b0 sz : Nat) (h : Nat) (ad : Nat → Nat) (thr sts : Nat) (hs : Bool) (len at_ num many : Nat) (st pa li : Nat → Int32) (L : Nat) (t : Int32) (hL1 : 1 ≤ L) (hL : L ≤ 3) (hst : st 64 = nI L) (htt : isSh t = true) : CT l yX9_trees cX9_trees 2 (some FieldType.int) (rm_X9_trees_0) G b0 [.ref h, .int t] [oM h ad thr sts hs len at_ num many, aI G (ad 1) 68 st, aI G (ad 5) 64 pa, aI G (ad 7) 8 li] sz (Ri G (fun (r_ : Int32) (u : (Nat → Int32) × (Nat → Int32)) => r_ = l_sum (trN L t (splitP st L)) 64) (fun (u : (Nat → Int32) × (Nat → Int32)) => [oM h ad 0 sts hs len at_ num many, aI G (ad 1) 68 st, aI G (ad 5) 64 u.1, aI G (ad 7) 8 u.2])) := by
  refine CT.go (by decide) (Nat.le_of_ble_eq_true rfl) (fun p e s m below meth c A ls AR QQ hx hb hr hlk hml hown hnm hts hE hA hAb hsz hP hD hS hl hQQ => ?_)
  have hK := hE.1
  have hown : s.vm.findClass RX9 = some m.cls := hown
  have hl : lv_has ls 2 [(0, .ref h), (1, .int t)] := hl
  clear hsz
  refine lv_aload_n hx hb dX9_trees_0 rfl (lv_at hl 0 rfl) ?_
  refine lv_iconst (v := nI 0) hx hb dX9_trees_1 (by decide) ?_
  refine va_put (D := G.1) (ci := 8) (v := .int (nI 0)) (ty := .int) (C := RX9) (T := TX9) (N := 21) hx hb hts in_X9 tyX9 tyX9_ok nmX9 hown hK hP hD hS 0 rfl rfl 0 (by decide) (hts _ q1667) (fun _ h9 => h9) rfl (by decide +kernel) rfl rfl (Nat.le_of_ble_eq_true rfl) dX9_trees_2 (fun H locs hP hD hS => ?_)
  have hP : va_P G.1 vwCl [oM h ad 0 sts hs len at_ num many, aI G (ad 1) 68 st, aI G (ad 5) 64 pa, aI G (ad 7) 8 li] _ := hP
  have hD : va_D A [oM h ad 0 sts hs len at_ num many, aI G (ad 1) 68 st, aI G (ad 5) 64 pa, aI G (ad 7) 8 li] := hD
  refine lv_iload_n hx hb dX9_trees_5 rfl (lv_at hl 1 rfl) ?_
  refine fin_i (ws' := (fun (_ : Unit) => [oM h ad 0 sts hs len at_ num many, aI G (ad 1) 68 st, aI G (ad 5) 64 pa, aI G (ad 7) 8 li])) hA hS hP hD [] rfl [(false, 0), (false, 1), (false, 2), (false, 3)] (fun _ => rfl) (by decide) (run_S (As := [.int t]) (rest := []) (n9 := 1) hx hb hml hown hts hE hAb hl.1 hS hP hD [] rfl (by decide) (t_X9_isShade l G b0 _ t ) (lw_S q1767 q1768 q129 q1769) ⟨by decide, by decide, by decide +kernel⟩ ⟨Nat.le_of_ble_eq_true rfl, Nat.le_of_ble_eq_true rfl⟩ ⟨by first | exact Nat.le_of_ble_eq_true rfl | (simp only [rm_X9_trees_0, rm_X9_isShade]; omega), by first | exact Nat.le_of_ble_eq_true rfl | (simp only [rm_X9_trees_0, rm_X9_isShade]; omega)⟩ dX9_trees_6 (Nat.le_of_ble_eq_true rfl) rfl rfl) (fun r_1 u_1 H locs h_1 hP hD hS => ?_)
  have hP : va_P G.1 vwCl [oM h ad 0 sts hs len at_ num many, aI G (ad 1) 68 st, aI G (ad 5) 64 pa, aI G (ad 7) 8 li] _ := hP
  have hD : va_D A [oM h ad 0 sts hs len at_ num many, aI G (ad 1) 68 st, aI G (ad 5) 64 pa, aI G (ad 7) 8 li] := hD
  have h_1 : r_1 = (bI (isSh t)) := h_1
  rw [h_1]
  refine B_if_eq (tgt := 20) hx hb dX9_trees_9 (by decide) (fun c_9 => ?_) (fun c_9 => ?_)
  · skip
    exfalso; exact absurd (htt.symm.trans c_9) (by decide)
  · skip
    refine lv_aload_n hx hb dX9_trees_12 rfl (lv_at hl 0 rfl) ?_
    refine lv_iload_n hx hb dX9_trees_13 rfl (lv_at hl 1 rfl) ?_
    refine fin_i (ws' := (fun (u_2 : Nat → Int32) => [oM h ad 0 sts hs len at_ num many, aI G (ad 1) 68 st, aI G (ad 5) 64 (splitP st L), aI G (ad 7) 8 u_2])) hA hS hP hD [0, 1, 2, 3] rfl [(true, 0), (true, 1), (true, 2), (true, 3)] (fun _ => rfl) (by decide) (run_V (As := [.int t]) (rest := []) (n9 := 1) hx hb hml hown hts hE hAb hl.1 hS hP hD [0, 1, 2, 3] rfl (by decide) (t_X9_treesBy l G b0 _ h ad 0 sts hs len at_ num many st pa li L t (by omega) (by omega) (by omega)) (lw_V q1857 q1859 qs76 q129 q1860) 0 rfl rfl ⟨rfl, by decide, by decide, by decide +kernel⟩ ⟨Nat.le_of_ble_eq_true rfl, Nat.le_of_ble_eq_true rfl⟩ ⟨by first | exact Nat.le_of_ble_eq_true rfl | (simp only [rm_X9_trees_0, rm_X9_treesBy]; omega), by first | exact Nat.le_of_ble_eq_true rfl | (simp only [rm_X9_trees_0, rm_X9_treesBy]; omega)⟩ dX9_trees_14 (Nat.le_of_ble_eq_true rfl) rfl rfl) (fun r_2 u_2 H locs h_2 hP hD hS => ?_)
    have hP : va_P G.1 vwCl [oM h ad 0 sts hs len at_ num many, aI G (ad 1) 68 st, aI G (ad 5) 64 (splitP st L), aI G (ad 7) 8 u_2] _ := hP
    have hD : va_D A [oM h ad 0 sts hs len at_ num many, aI G (ad 1) 68 st, aI G (ad 5) 64 (splitP st L), aI G (ad 7) 8 u_2] := hD
    have h_2 : r_2 = (l_sum (trN L t (splitP st L)) 64) := h_2
    rw [h_2]
    refine lv_goto (tgt := 25) hx hb dX9_trees_17 (by decide) ?_
    have hP : va_P G.1 vwCl [oM h ad 0 sts hs len at_ num many, aI G (ad 1) 68 st, aI G (ad 5) 64 (((splitP st L, u_2)).1), aI G (ad 7) 8 (((splitP st L, u_2)).2)] _ := hP
    have hD : va_D A [oM h ad 0 sts hs len at_ num many, aI G (ad 1) 68 st, aI G (ad 5) 64 (((splitP st L, u_2)).1), aI G (ad 7) 8 (((splitP st L, u_2)).2)] := hD
    rw [hQQ]
    exact rt_i hx hb hr hlk  ((splitP st L, u_2)) dX9_trees_25 hP hD hS (by first | exact Nat.le_of_ble_eq_true rfl | (simp only [rm_X9_trees_0]; omega)) (by first | exact Nat.le_of_ble_eq_true rfl | (simp only [rm_X9_trees_0]; omega)) (by rfl)
def rm_X9_trees_1 : Room := ({ frames := 6, cells := 0, slots := 0, locals := 150 } : Room)
set_option maxHeartbeats 400000 in
set_option maxRecDepth 100000 in
theorem t_X9_trees_1 (l : Launch) (G : GG) (b0 sz : Nat) (h : Nat) (ad : Nat → Nat) (thr sts : Nat) (hs : Bool) (len at_ num many : Nat) (st pa li : Nat → Int32) (L : Nat) (t : Int32) (hL1 : 1 ≤ L) (hL : L ≤ 3) (hst : st 64 = nI L) (htt : isSh t = false) : CT l yX9_trees cX9_trees 2 (some FieldType.int) (rm_X9_trees_1) G b0 [.ref h, .int t] [oM h ad thr sts hs len at_ num many, aI G (ad 1) 68 st, aI G (ad 5) 64 pa, aI G (ad 7) 8 li] sz (Ri G (fun (r_ : Int32) (_ : Unit) => r_ = nI 0) (fun (_ : Unit) => [oM h ad 1 sts hs len at_ num many, aI G (ad 1) 68 st, aI G (ad 5) 64 pa, aI G (ad 7) 8 li])) := by
  refine CT.go (by decide) (Nat.le_of_ble_eq_true rfl) (fun p e s m below meth c A ls AR QQ hx hb hr hlk hml hown hnm hts hE hA hAb hsz hP hD hS hl hQQ => ?_)
  have hK := hE.1
  have hown : s.vm.findClass RX9 = some m.cls := hown
  have hl : lv_has ls 2 [(0, .ref h), (1, .int t)] := hl
  clear hsz
  refine lv_aload_n hx hb dX9_trees_0 rfl (lv_at hl 0 rfl) ?_
  refine lv_iconst (v := nI 0) hx hb dX9_trees_1 (by decide) ?_
  refine va_put (D := G.1) (ci := 8) (v := .int (nI 0)) (ty := .int) (C := RX9) (T := TX9) (N := 21) hx hb hts in_X9 tyX9 tyX9_ok nmX9 hown hK hP hD hS 0 rfl rfl 0 (by decide) (hts _ q1667) (fun _ h9 => h9) rfl (by decide +kernel) rfl rfl (Nat.le_of_ble_eq_true rfl) dX9_trees_2 (fun H locs hP hD hS => ?_)
  have hP : va_P G.1 vwCl [oM h ad 0 sts hs len at_ num many, aI G (ad 1) 68 st, aI G (ad 5) 64 pa, aI G (ad 7) 8 li] _ := hP
  have hD : va_D A [oM h ad 0 sts hs len at_ num many, aI G (ad 1) 68 st, aI G (ad 5) 64 pa, aI G (ad 7) 8 li] := hD
  refine lv_iload_n hx hb dX9_trees_5 rfl (lv_at hl 1 rfl) ?_
  refine fin_i (ws' := (fun (_ : Unit) => [oM h ad 0 sts hs len at_ num many, aI G (ad 1) 68 st, aI G (ad 5) 64 pa, aI G (ad 7) 8 li])) hA hS hP hD [] rfl [(false, 0), (false, 1), (false, 2), (false, 3)] (fun _ => rfl) (by decide) (run_S (As := [.int t]) (rest := []) (n9 := 1) hx hb hml hown hts hE hAb hl.1 hS hP hD [] rfl (by decide) (t_X9_isShade l G b0 _ t ) (lw_S q1767 q1768 q129 q1769) ⟨by decide, by decide, by decide +kernel⟩ ⟨Nat.le_of_ble_eq_true rfl, Nat.le_of_ble_eq_true rfl⟩ ⟨by first | exact Nat.le_of_ble_eq_true rfl | (simp only [rm_X9_trees_1, rm_X9_isShade]; omega), by first | exact Nat.le_of_ble_eq_true rfl | (simp only [rm_X9_trees_1, rm_X9_isShade]; omega)⟩ dX9_trees_6 (Nat.le_of_ble_eq_true rfl) rfl rfl) (fun r_1 u_1 H locs h_1 hP hD hS => ?_)
  have hP : va_P G.1 vwCl [oM h ad 0 sts hs len at_ num many, aI G (ad 1) 68 st, aI G (ad 5) 64 pa, aI G (ad 7) 8 li] _ := hP
  have hD : va_D A [oM h ad 0 sts hs len at_ num many, aI G (ad 1) 68 st, aI G (ad 5) 64 pa, aI G (ad 7) 8 li] := hD
  have h_1 : r_1 = (bI (isSh t)) := h_1
  rw [h_1]
  refine B_if_eq (tgt := 20) hx hb dX9_trees_9 (by decide) (fun c_9 => ?_) (fun c_9 => ?_)
  · skip
    refine lv_aload_n hx hb dX9_trees_20 rfl (lv_at hl 0 rfl) ?_
    refine lv_iconst (v := nI 1) hx hb dX9_trees_21 (by decide) ?_
    refine fin_i (ws' := (fun (_ : Unit) => [oM h ad 1 sts hs len at_ num many, aI G (ad 1) 68 st, aI G (ad 5) 64 pa, aI G (ad 7) 8 li])) hA hS hP hD [0] rfl [(true, 0), (false, 1), (false, 2), (false, 3)] (fun _ => rfl) (by decide) (run_V (As := [.int (nI 1)]) (rest := []) (n9 := 1) hx hb hml hown hts hE hAb hl.1 hS hP hD [0] rfl (by decide) (t_X9_fails l G b0 _ h ad 0 sts hs len at_ num many 1 ) (lw_V q1739 q1741 qs60 q129 q1742) 0 rfl rfl ⟨rfl, by decide, by decide, by decide +kernel⟩ ⟨Nat.le_of_ble_eq_true rfl, Nat.le_of_ble_eq_true rfl⟩ ⟨by first | exact Nat.le_of_ble_eq_true rfl | (simp only [rm_X9_trees_1, rm_X9_fails]; omega), by first | exact Nat.le_of_ble_eq_true rfl | (simp only [rm_X9_trees_1, rm_X9_fails]; omega)⟩ dX9_trees_22 (Nat.le_of_ble_eq_true rfl) rfl rfl) (fun r_2 u_2 H locs h_2 hP hD hS => ?_)
    have hP : va_P G.1 vwCl [oM h ad 1 sts hs len at_ num many, aI G (ad 1) 68 st, aI G (ad 5) 64 pa, aI G (ad 7) 8 li] _ := hP
    have hD : va_D A [oM h ad 1 sts hs len at_ num many, aI G (ad 1) 68 st, aI G (ad 5) 64 pa, aI G (ad 7) 8 li] := hD
    have h_2 : r_2 = (nI 0) := h_2
    rw [h_2]
    rw [hQQ]
    exact rt_i hx hb hr hlk  (()) dX9_trees_25 hP hD hS (by first | exact Nat.le_of_ble_eq_true rfl | (simp only [rm_X9_trees_1]; omega)) (by first | exact Nat.le_of_ble_eq_true rfl | (simp only [rm_X9_trees_1]; omega)) (by rfl)
  · skip
    exfalso; exact absurd (htt.symm.trans c_9) (by decide)
def rm_X9_treesFromBelow_0 : Room := ({ frames := 6, cells := 0, slots := 0, locals := 150 } : Room)
set_option maxHeartbeats 400000 in
set_option maxRecDepth 100000 in
theorem t_X9_treesFromBelow_0 (l : Launch) (G : GG) (b0 sz : Nat) (h : Nat) (ad : Nat → Nat) (thr sts : Nat) (hs : Bool) (len at_ num many : Nat) (st pa li : Nat → Int32) (L : Nat) (t : Int32) (hL1 : 1 ≤ L) (hL : L ≤ 3) (hst : st 64 = nI L) (htt : isSh t = true) : CT l yX9_treesFromBelow cX9_treesFromBelow 2 (some FieldType.int) (rm_X9_treesFromBelow_0) G b0 [.ref h, .int t] [oM h ad thr sts hs len at_ num many, aI G (ad 1) 68 st, aI G (ad 5) 64 pa, aI G (ad 7) 8 li] sz (Ri G (fun (r_ : Int32) (u : (Nat → Int32) × (Nat → Int32)) => r_ = l_sum (trN L t (splitP st L)) 64) (fun (u : (Nat → Int32) × (Nat → Int32)) => [oM h ad 0 sts hs len at_ num many, aI G (ad 1) 68 st, aI G (ad 5) 64 u.1, aI G (ad 7) 8 u.2])) := by
  refine CT.go (by decide) (Nat.le_of_ble_eq_true rfl) (fun p e s m below meth c A ls AR QQ hx hb hr hlk hml hown hnm hts hE hA hAb hsz hP hD hS hl hQQ => ?_)
  have hK := hE.1
  have hown : s.vm.findClass RX9 = some m.cls := hown
  have hl : lv_has ls 2 [(0, .ref h), (1, .int t)] := hl
  clear hsz
  refine lv_aload_n hx hb dX9_treesFromBelow_0 rfl (lv_at hl 0 rfl) ?_
  refine lv_iconst (v := nI 0) hx hb dX9_treesFromBelow_1 (by decide) ?_
  refine va_put (D := G.1) (ci := 8) (v := .int (nI 0)) (ty := .int) (C := RX9) (T := TX9) (N := 21) hx hb hts in_X9 tyX9 tyX9_ok nmX9 hown hK hP hD hS 0 rfl rfl 0 (by decide) (hts _ q1667) (fun _ h9 => h9) rfl (by decide +kernel) rfl rfl (Nat.le_of_ble_eq_true rfl) dX9_treesFromBelow_2 (fun H locs hP hD hS => ?_)
  have hP : va_P G.1 vwCl [oM h ad 0 sts hs len at_ num many, aI G (ad 1) 68 st, aI G (ad 5) 64 pa, aI G (ad 7) 8 li] _ := hP
  have hD : va_D A [oM h ad 0 sts hs len at_ num many, aI G (ad 1) 68 st, aI G (ad 5) 64 pa, aI G (ad 7) 8 li] := hD
  refine lv_iload_n hx hb dX9_treesFromBelow_5 rfl (lv_at hl 1 rfl) ?_
  refine fin_i (ws' := (fun (_ : Unit) => [oM h ad 0 sts hs len at_ num many, aI G (ad 1) 68 st, aI G (ad 5) 64 pa, aI G (ad 7) 8 li])) hA hS hP hD [] rfl [(false, 0), (false, 1), (false, 2), (false, 3)] (fun _ => rfl) (by decide) (run_S (As := [.int t]) (rest := []) (n9 := 1) hx hb hml hown hts hE hAb hl.1 hS hP hD [] rfl (by decide) (t_X9_isShade l G b0 _ t ) (lw_S q1767 q1768 q129 q1769) ⟨by decide, by decide, by decide +kernel⟩ ⟨Nat.le_of_ble_eq_true rfl, Nat.le_of_ble_eq_true rfl⟩ ⟨by first | exact Nat.le_of_ble_eq_true rfl | (simp only [rm_X9_treesFromBelow_0, rm_X9_isShade]; omega), by first | exact Nat.le_of_ble_eq_true rfl | (simp only [rm_X9_treesFromBelow_0, rm_X9_isShade]; omega)⟩ dX9_treesFromBelow_6 (Nat.le_of_ble_eq_true rfl) rfl rfl) (fun r_1 u_1 H locs h_1 hP hD hS => ?_)
  have hP : va_P G.1 vwCl [oM h ad 0 sts hs len at_ num many, aI G (ad 1) 68 st, aI G (ad 5) 64 pa, aI G (ad 7) 8 li] _ := hP
  have hD : va_D A [oM h ad 0 sts hs len at_ num many, aI G (ad 1) 68 st, aI G (ad 5) 64 pa, aI G (ad 7) 8 li] := hD
  have h_1 : r_1 = (bI (isSh t)) := h_1
  rw [h_1]
  refine B_if_eq (tgt := 20) hx hb dX9_treesFromBelow_9 (by decide) (fun c_9 => ?_) (fun c_9 => ?_)
  · skip
    exfalso; exact absurd (htt.symm.trans c_9) (by decide)
  · skip
    refine lv_aload_n hx hb dX9_treesFromBelow_12 rfl (lv_at hl 0 rfl) ?_
    refine lv_iload_n hx hb dX9_treesFromBelow_13 rfl (lv_at hl 1 rfl) ?_
    refine fin_i (ws' := (fun (u_2 : Nat → Int32) => [oM h ad 0 sts hs len at_ num many, aI G (ad 1) 68 st, aI G (ad 5) 64 (splitP st L), aI G (ad 7) 8 u_2])) hA hS hP hD [0, 1, 2, 3] rfl [(true, 0), (true, 1), (true, 2), (true, 3)] (fun _ => rfl) (by decide) (run_V (As := [.int t]) (rest := []) (n9 := 1) hx hb hml hown hts hE hAb hl.1 hS hP hD [0, 1, 2, 3] rfl (by decide) (t_X9_treesBy l G b0 _ h ad 0 sts hs len at_ num many st pa li L t (by omega) (by omega) (by omega)) (lw_V q1857 q1859 qs76 q129 q1860) 0 rfl rfl ⟨rfl, by decide, by decide, by decide +kernel⟩ ⟨Nat.le_of_ble_eq_true rfl, Nat.le_of_ble_eq_true rfl⟩ ⟨by first | exact Nat.le_of_ble_eq_true rfl | (simp only [rm_X9_treesFromBelow_0, rm_X9_treesBy]; omega), by first | exact Nat.le_of_ble_eq_true rfl | (simp only [rm_X9_treesFromBelow_0, rm_X9_treesBy]; omega)⟩ dX9_treesFromBelow_14 (Nat.le_of_ble_eq_true rfl) rfl rfl) (fun r_2 u_2 H locs h_2 hP hD hS => ?_)
    have hP : va_P G.1 vwCl [oM h ad 0 sts hs len at_ num many, aI G (ad 1) 68 st, aI G (ad 5) 64 (splitP st L), aI G (ad 7) 8 u_2] _ := hP
    have hD : va_D A [oM h ad 0 sts hs len at_ num many, aI G (ad 1) 68 st, aI G (ad 5) 64 (splitP st L), aI G (ad 7) 8 u_2] := hD
    have h_2 : r_2 = (l_sum (trN L t (splitP st L)) 64) := h_2
    rw [h_2]
    refine lv_goto (tgt := 25) hx hb dX9_treesFromBelow_17 (by decide) ?_
    have hP : va_P G.1 vwCl [oM h ad 0 sts hs len at_ num many, aI G (ad 1) 68 st, aI G (ad 5) 64 (((splitP st L, u_2)).1), aI G (ad 7) 8 (((splitP st L, u_2)).2)] _ := hP
    have hD : va_D A [oM h ad 0 sts hs len at_ num many, aI G (ad 1) 68 st, aI G (ad 5) 64 (((splitP st L, u_2)).1), aI G (ad 7) 8 (((splitP st L, u_2)).2)] := hD
    rw [hQQ]
    exact rt_i hx hb hr hlk  ((splitP st L, u_2)) dX9_treesFromBelow_25 hP hD hS (by first | exact Nat.le_of_ble_eq_true rfl | (simp only [rm_X9_treesFromBelow_0]; omega)) (by first | exact Nat.le_of_ble_eq_true rfl | (simp only [rm_X9_treesFromBelow_0]; omega)) (by rfl)
def rm_X9_treesFromBelow_1 : Room := ({ frames := 6, cells := 0, slots := 0, locals := 150 } : Room)
set_option maxHeartbeats 400000 in
set_option maxRecDepth 100000 in
theorem t_X9_treesFromBelow_1 (l : Launch) (G : GG) (b0 sz : Nat) (h : Nat) (ad : Nat → Nat) (thr sts : Nat) (hs : Bool) (len at_ num many : Nat) (st pa li : Nat → Int32) (L : Nat) (t : Int32) (hL1 : 1 ≤ L) (hL : L ≤ 3) (hst : st 64 = nI L) (htt : isSh t = false) : CT l yX9_treesFromBelow cX9_treesFromBelow 2 (some FieldType.int) (rm_X9_treesFromBelow_1) G b0 [.ref h, .int t] [oM h ad thr sts hs len at_ num many, aI G (ad 1) 68 st, aI G (ad 5) 64 pa, aI G (ad 7) 8 li] sz (Ri G (fun (r_ : Int32) (_ : Unit) => r_ = nI 0) (fun (_ : Unit) => [oM h ad 1 sts hs len at_ num many, aI G (ad 1) 68 st, aI G (ad 5) 64 pa, aI G (ad 7) 8 li])) := by
  refine CT.go (by decide) (Nat.le_of_ble_eq_true rfl) (fun p e s m below meth c A ls AR QQ hx hb hr hlk hml hown hnm hts hE hA hAb hsz hP hD hS hl hQQ => ?_)
  have hK := hE.1
  have hown : s.vm.findClass RX9 = some m.cls := hown
  have hl : lv_has ls 2 [(0, .ref h), (1, .int t)] := hl
  clear hsz
  refine lv_aload_n hx hb dX9_treesFromBelow_0 rfl (lv_at hl 0 rfl) ?_
  refine lv_iconst (v := nI 0) hx hb dX9_treesFromBelow_1 (by decide) ?_
  refine va_put (D := G.1) (ci := 8) (v := .int (nI 0)) (ty := .int) (C := RX9) (T := TX9) (N := 21) hx hb hts in_X9 tyX9 tyX9_ok nmX9 hown hK hP hD hS 0 rfl rfl 0 (by decide) (hts _ q1667) (fun _ h9 => h9) rfl (by decide +kernel) rfl rfl (Nat.le_of_ble_eq_true rfl) dX9_treesFromBelow_2 (fun H locs hP hD hS => ?_)
  have hP : va_P G.1 vwCl [oM h ad 0 sts hs len at_ num many, aI G (ad 1) 68 st, aI G (ad 5) 64 pa, aI G (ad 7) 8 li] _ := hP
  have hD : va_D A [oM h ad 0 sts hs len at_ num many, aI G (ad 1) 68 st, aI G (ad 5) 64 pa, aI G (ad 7) 8 li] := hD
  refine lv_iload_n hx hb dX9_treesFromBelow_5 rfl (lv_at hl 1 rfl) ?_
  refine fin_i (ws' := (fun (_ : Unit) => [oM h ad 0 sts hs len at_ num many, aI G (ad 1) 68 st, aI G (ad 5) 64 pa, aI G (ad 7) 8 li])) hA hS hP hD [] rfl [(false, 0), (false, 1), (false, 2), (false, 3)] (fun _ => rfl) (by decide) (run_S (As := [.int t]) (rest := []) (n9 := 1) hx hb hml hown hts hE hAb hl.1 hS hP hD [] rfl (by decide) (t_X9_isShade l G b0 _ t ) (lw_S q1767 q1768 q129 q1769) ⟨by decide, by decide, by decide +kernel⟩ ⟨Nat.le_of_ble_eq_true rfl, Nat.le_of_ble_eq_true rfl⟩ ⟨by first | exact Nat.le_of_ble_eq_true rfl | (simp only [rm_X9_treesFromBelow_1, rm_X9_isShade]; omega), by first | exact Nat.le_of_ble_eq_true rfl | (simp only [rm_X9_treesFromBelow_1, rm_X9_isShade]; omega)⟩ dX9_treesFromBelow_6 (Nat.le_of_ble_eq_true rfl) rfl rfl) (fun r_1 u_1 H locs h_1 hP hD hS => ?_)
  have hP : va_P G.1 vwCl [oM h ad 0 sts hs len at_ num many, aI G (ad 1) 68 st, aI G (ad 5) 64 pa, aI G (ad 7) 8 li] _ := hP
  have hD : va_D A [oM h ad 0 sts hs len at_ num many, aI G (ad 1) 68 st, aI G (ad 5) 64 pa, aI G (ad 7) 8 li] := hD
  have h_1 : r_1 = (bI (isSh t)) := h_1
  rw [h_1]
  refine B_if_eq (tgt := 20) hx hb dX9_treesFromBelow_9 (by decide) (fun c_9 => ?_) (fun c_9 => ?_)
  · skip
    refine lv_aload_n hx hb dX9_treesFromBelow_20 rfl (lv_at hl 0 rfl) ?_
    refine lv_iconst (v := nI 1) hx hb dX9_treesFromBelow_21 (by decide) ?_
    refine fin_i (ws' := (fun (_ : Unit) => [oM h ad 1 sts hs len at_ num many, aI G (ad 1) 68 st, aI G (ad 5) 64 pa, aI G (ad 7) 8 li])) hA hS hP hD [0] rfl [(true, 0), (false, 1), (false, 2), (false, 3)] (fun _ => rfl) (by decide) (run_V (As := [.int (nI 1)]) (rest := []) (n9 := 1) hx hb hml hown hts hE hAb hl.1 hS hP hD [0] rfl (by decide) (t_X9_fails l G b0 _ h ad 0 sts hs len at_ num many 1 ) (lw_V q1739 q1741 qs60 q129 q1742) 0 rfl rfl ⟨rfl, by decide, by decide, by decide +kernel⟩ ⟨Nat.le_of_ble_eq_true rfl, Nat.le_of_ble_eq_true rfl⟩ ⟨by first | exact Nat.le_of_ble_eq_true rfl | (simp only [rm_X9_treesFromBelow_1, rm_X9_fails]; omega), by first | exact Nat.le_of_ble_eq_true rfl | (simp only [rm_X9_treesFromBelow_1, rm_X9_fails]; omega)⟩ dX9_treesFromBelow_22 (Nat.le_of_ble_eq_true rfl) rfl rfl) (fun r_2 u_2 H locs h_2 hP hD hS => ?_)
    have hP : va_P G.1 vwCl [oM h ad 1 sts hs len at_ num many, aI G (ad 1) 68 st, aI G (ad 5) 64 pa, aI G (ad 7) 8 li] _ := hP
    have hD : va_D A [oM h ad 1 sts hs len at_ num many, aI G (ad 1) 68 st, aI G (ad 5) 64 pa, aI G (ad 7) 8 li] := hD
    have h_2 : r_2 = (nI 0) := h_2
    rw [h_2]
    rw [hQQ]
    exact rt_i hx hb hr hlk  (()) dX9_treesFromBelow_25 hP hD hS (by first | exact Nat.le_of_ble_eq_true rfl | (simp only [rm_X9_treesFromBelow_1]; omega)) (by first | exact Nat.le_of_ble_eq_true rfl | (simp only [rm_X9_treesFromBelow_1]; omega)) (by rfl)
  · skip
    exfalso; exact absurd (htt.symm.trans c_9) (by decide)
def rm_X9_codeLengthWithout_0 : Room := ({ frames := 6, cells := 0, slots := 0, locals := 150 } : Room)
set_option maxHeartbeats 400000 in
set_option maxRecDepth 100000 in
theorem t_X9_codeLengthWithout_0 (l : Launch) (G : GG) (b0 sz : Nat) (h : Nat) (ad : Nat → Nat) (thr sts : Nat) (hs : Bool) (len at_ num many : Nat) (st pa li od ot : Nat → Int32) (L : Nat) (t : Int32) (hL1 : 1 ≤ L) (hL : L ≤ 3) (hst : st 64 = nI L) (htt : isSh t = true) : CT l yX9_codeLengthWithout cX9_codeLengthWithout 2 (some FieldType.int) (rm_X9_codeLengthWithout_0) G b0 [.ref h, .int t] [oM h ad thr sts hs len at_ num many, aI G (ad 1) 68 st, aI G (ad 5) 64 pa, aI G (ad 7) 8 li, aI G (ad 8) 64 od, aI G (ad 9) 64 ot] sz (Ri G (fun (r_ : Int32) (u : (Nat → Int32) × (Nat → Int32) × (Nat → Int32) × (Nat → Int32)) => r_ = nI (lenC (drpA L t (splitP st L)) L 0)) (fun (u : (Nat → Int32) × (Nat → Int32) × (Nat → Int32) × (Nat → Int32)) => [oM h ad 0 sts hs len at_ num many, aI G (ad 1) 68 st, aI G (ad 5) 64 u.1, aI G (ad 7) 8 u.2.1, aI G (ad 8) 64 u.2.2.1, aI G (ad 9) 64 u.2.2.2])) := by
  refine CT.go (by decide) (Nat.le_of_ble_eq_true rfl) (fun p e s m below meth c A ls AR QQ hx hb hr hlk hml hown hnm hts hE hA hAb hsz hP hD hS hl hQQ => ?_)
  have hK := hE.1
  have hown : s.vm.findClass RX9 = some m.cls := hown
  have hl : lv_has ls 2 [(0, .ref h), (1, .int t)] := hl
  clear hsz
  refine lv_aload_n hx hb dX9_codeLengthWithout_0 rfl (lv_at hl 0 rfl) ?_
  refine lv_iconst (v := nI 0) hx hb dX9_codeLengthWithout_1 (by decide) ?_
  refine va_put (D := G.1) (ci := 8) (v := .int (nI 0)) (ty := .int) (C := RX9) (T := TX9) (N := 21) hx hb hts in_X9 tyX9 tyX9_ok nmX9 hown hK hP hD hS 0 rfl rfl 0 (by decide) (hts _ q1667) (fun _ h9 => h9) rfl (by decide +kernel) rfl rfl (Nat.le_of_ble_eq_true rfl) dX9_codeLengthWithout_2 (fun H locs hP hD hS => ?_)
  have hP : va_P G.1 vwCl [oM h ad 0 sts hs len at_ num many, aI G (ad 1) 68 st, aI G (ad 5) 64 pa, aI G (ad 7) 8 li, aI G (ad 8) 64 od, aI G (ad 9) 64 ot] _ := hP
  have hD : va_D A [oM h ad 0 sts hs len at_ num many, aI G (ad 1) 68 st, aI G (ad 5) 64 pa, aI G (ad 7) 8 li, aI G (ad 8) 64 od, aI G (ad 9) 64 ot] := hD
  refine lv_iload_n hx hb dX9_codeLengthWithout_5 rfl (lv_at hl 1 rfl) ?_
  refine fin_i (ws' := (fun (_ : Unit) => [oM h ad 0 sts hs len at_ num many, aI G (ad 1) 68 st, aI G (ad 5) 64 pa, aI G (ad 7) 8 li, aI G (ad 8) 64 od, aI G (ad 9) 64 ot])) hA hS hP hD [] rfl [(false, 0), (false, 1), (false, 2), (false, 3), (false, 4), (false, 5)] (fun _ => rfl) (by decide) (run_S (As := [.int t]) (rest := []) (n9 := 1) hx hb hml hown hts hE hAb hl.1 hS hP hD [] rfl (by decide) (t_X9_isShade l G b0 _ t ) (lw_S q1767 q1768 q129 q1769) ⟨by decide, by decide, by decide +kernel⟩ ⟨Nat.le_of_ble_eq_true rfl, Nat.le_of_ble_eq_true rfl⟩ ⟨by first | exact Nat.le_of_ble_eq_true rfl | (simp only [rm_X9_codeLengthWithout_0, rm_X9_isShade]; omega), by first | exact Nat.le_of_ble_eq_true rfl | (simp only [rm_X9_codeLengthWithout_0, rm_X9_isShade]; omega)⟩ dX9_codeLengthWithout_6 (Nat.le_of_ble_eq_true rfl) rfl rfl) (fun r_1 u_1 H locs h_1 hP hD hS => ?_)
  have hP : va_P G.1 vwCl [oM h ad 0 sts hs len at_ num many, aI G (ad 1) 68 st, aI G (ad 5) 64 pa, aI G (ad 7) 8 li, aI G (ad 8) 64 od, aI G (ad 9) 64 ot] _ := hP
  have hD : va_D A [oM h ad 0 sts hs len at_ num many, aI G (ad 1) 68 st, aI G (ad 5) 64 pa, aI G (ad 7) 8 li, aI G (ad 8) 64 od, aI G (ad 9) 64 ot] := hD
  have h_1 : r_1 = (bI (isSh t)) := h_1
  rw [h_1]
  refine B_if_eq (tgt := 20) hx hb dX9_codeLengthWithout_9 (by decide) (fun c_9 => ?_) (fun c_9 => ?_)
  · skip
    exfalso; exact absurd (htt.symm.trans c_9) (by decide)
  · skip
    refine lv_aload_n hx hb dX9_codeLengthWithout_12 rfl (lv_at hl 0 rfl) ?_
    refine lv_iload_n hx hb dX9_codeLengthWithout_13 rfl (lv_at hl 1 rfl) ?_
    refine fin_i (ws' := (fun (u_2 : Nat → Int32) => [oM h ad 0 sts hs len at_ num many, aI G (ad 1) 68 st, aI G (ad 5) 64 (drpA L t (splitP st L)), aI G (ad 7) 8 u_2, aI G (ad 8) 64 (nF (orT L)), aI G (ad 9) 64 (nF (rnkM L))])) hA hS hP hD [0, 1, 2, 3, 4, 5] rfl [(true, 0), (true, 1), (true, 2), (true, 3), (true, 4), (true, 5)] (fun _ => rfl) (by decide) (run_V (As := [.int t]) (rest := []) (n9 := 1) hx hb hml hown hts hE hAb hl.1 hS hP hD [0, 1, 2, 3, 4, 5] rfl (by decide) (t_X9_lengthWithout l G b0 _ h ad 0 sts hs len at_ num many st pa li od ot L t (by omega) (by omega) (by omega)) (lw_V q1937 q1939 qs85 q129 q1940) 0 rfl rfl ⟨rfl, by decide, by decide, by decide +kernel⟩ ⟨Nat.le_of_ble_eq_true rfl, Nat.le_of_ble_eq_true rfl⟩ ⟨by first | exact Nat.le_of_ble_eq_true rfl | (simp only [rm_X9_codeLengthWithout_0, rm_X9_lengthWithout]; omega), by first | exact Nat.le_of_ble_eq_true rfl | (simp only [rm_X9_codeLengthWithout_0, rm_X9_lengthWithout]; omega)⟩ dX9_codeLengthWithout_14 (Nat.le_of_ble_eq_true rfl) rfl rfl) (fun r_2 u_2 H locs h_2 hP hD hS => ?_)
    have hP : va_P G.1 vwCl [oM h ad 0 sts hs len at_ num many, aI G (ad 1) 68 st, aI G (ad 5) 64 (drpA L t (splitP st L)), aI G (ad 7) 8 u_2, aI G (ad 8) 64 (nF (orT L)), aI G (ad 9) 64 (nF (rnkM L))] _ := hP
    have hD : va_D A [oM h ad 0 sts hs len at_ num many, aI G (ad 1) 68 st, aI G (ad 5) 64 (drpA L t (splitP st L)), aI G (ad 7) 8 u_2, aI G (ad 8) 64 (nF (orT L)), aI G (ad 9) 64 (nF (rnkM L))] := hD
    have h_2 : r_2 = (nI (lenC (drpA L t (splitP st L)) L 0)) := h_2
    rw [h_2]
    refine lv_goto (tgt := 25) hx hb dX9_codeLengthWithout_17 (by decide) ?_
    have hP : va_P G.1 vwCl [oM h ad 0 sts hs len at_ num many, aI G (ad 1) 68 st, aI G (ad 5) 64 (((drpA L t (splitP st L), u_2, nF (orT L), nF (rnkM L))).1), aI G (ad 7) 8 (((drpA L t (splitP st L), u_2, nF (orT L), nF (rnkM L))).2.1), aI G (ad 8) 64 (((drpA L t (splitP st L), u_2, nF (orT L), nF (rnkM L))).2.2.1), aI G (ad 9) 64 (((drpA L t (splitP st L), u_2, nF (orT L), nF (rnkM L))).2.2.2)] _ := hP
    have hD : va_D A [oM h ad 0 sts hs len at_ num many, aI G (ad 1) 68 st, aI G (ad 5) 64 (((drpA L t (splitP st L), u_2, nF (orT L), nF (rnkM L))).1), aI G (ad 7) 8 (((drpA L t (splitP st L), u_2, nF (orT L), nF (rnkM L))).2.1), aI G (ad 8) 64 (((drpA L t (splitP st L), u_2, nF (orT L), nF (rnkM L))).2.2.1), aI G (ad 9) 64 (((drpA L t (splitP st L), u_2, nF (orT L), nF (rnkM L))).2.2.2)] := hD
    rw [hQQ]
    exact rt_i hx hb hr hlk  ((drpA L t (splitP st L), u_2, nF (orT L), nF (rnkM L))) dX9_codeLengthWithout_25 hP hD hS (by first | exact Nat.le_of_ble_eq_true rfl | (simp only [rm_X9_codeLengthWithout_0]; omega)) (by first | exact Nat.le_of_ble_eq_true rfl | (simp only [rm_X9_codeLengthWithout_0]; omega)) (by rfl)
def rm_X9_codeLengthWithout_1 : Room := ({ frames := 6, cells := 0, slots := 0, locals := 150 } : Room)
set_option maxHeartbeats 400000 in
set_option maxRecDepth 100000 in
theorem t_X9_codeLengthWithout_1 (l : Launch) (G : GG) (b0 sz : Nat) (h : Nat) (ad : Nat → Nat) (thr sts : Nat) (hs : Bool) (len at_ num many : Nat) (st pa li od ot : Nat → Int32) (L : Nat) (t : Int32) (hL1 : 1 ≤ L) (hL : L ≤ 3) (hst : st 64 = nI L) (htt : isSh t = false) : CT l yX9_codeLengthWithout cX9_codeLengthWithout 2 (some FieldType.int) (rm_X9_codeLengthWithout_1) G b0 [.ref h, .int t] [oM h ad thr sts hs len at_ num many, aI G (ad 1) 68 st, aI G (ad 5) 64 pa, aI G (ad 7) 8 li, aI G (ad 8) 64 od, aI G (ad 9) 64 ot] sz (Ri G (fun (r_ : Int32) (_ : Unit) => r_ = nI 0) (fun (_ : Unit) => [oM h ad 1 sts hs len at_ num many, aI G (ad 1) 68 st, aI G (ad 5) 64 pa, aI G (ad 7) 8 li, aI G (ad 8) 64 od, aI G (ad 9) 64 ot])) := by
  refine CT.go (by decide) (Nat.le_of_ble_eq_true rfl) (fun p e s m below meth c A ls AR QQ hx hb hr hlk hml hown hnm hts hE hA hAb hsz hP hD hS hl hQQ => ?_)
  have hK := hE.1
  have hown : s.vm.findClass RX9 = some m.cls := hown
  have hl : lv_has ls 2 [(0, .ref h), (1, .int t)] := hl
  clear hsz
  refine lv_aload_n hx hb dX9_codeLengthWithout_0 rfl (lv_at hl 0 rfl) ?_
  refine lv_iconst (v := nI 0) hx hb dX9_codeLengthWithout_1 (by decide) ?_
  refine va_put (D := G.1) (ci := 8) (v := .int (nI 0)) (ty := .int) (C := RX9) (T := TX9) (N := 21) hx hb hts in_X9 tyX9 tyX9_ok nmX9 hown hK hP hD hS 0 rfl rfl 0 (by decide) (hts _ q1667) (fun _ h9 => h9) rfl (by decide +kernel) rfl rfl (Nat.le_of_ble_eq_true rfl) dX9_codeLengthWithout_2 (fun H locs hP hD hS => ?_)
  have hP : va_P G.1 vwCl [oM h ad 0 sts hs len at_ num many, aI G (ad 1) 68 st, aI G (ad 5) 64 pa, aI G (ad 7) 8 li, aI G (ad 8) 64 od, aI G (ad 9) 64 ot] _ := hP
  have hD : va_D A [oM h ad 0 sts hs len at_ num many, aI G (ad 1) 68 st, aI G (ad 5) 64 pa, aI G (ad 7) 8 li, aI G (ad 8) 64 od, aI G (ad 9) 64 ot] := hD
  refine lv_iload_n hx hb dX9_codeLengthWithout_5 rfl (lv_at hl 1 rfl) ?_
  refine fin_i (ws' := (fun (_ : Unit) => [oM h ad 0 sts hs len at_ num many, aI G (ad 1) 68 st, aI G (ad 5) 64 pa, aI G (ad 7) 8 li, aI G (ad 8) 64 od, aI G (ad 9) 64 ot])) hA hS hP hD [] rfl [(false, 0), (false, 1), (false, 2), (false, 3), (false, 4), (false, 5)] (fun _ => rfl) (by decide) (run_S (As := [.int t]) (rest := []) (n9 := 1) hx hb hml hown hts hE hAb hl.1 hS hP hD [] rfl (by decide) (t_X9_isShade l G b0 _ t ) (lw_S q1767 q1768 q129 q1769) ⟨by decide, by decide, by decide +kernel⟩ ⟨Nat.le_of_ble_eq_true rfl, Nat.le_of_ble_eq_true rfl⟩ ⟨by first | exact Nat.le_of_ble_eq_true rfl | (simp only [rm_X9_codeLengthWithout_1, rm_X9_isShade]; omega), by first | exact Nat.le_of_ble_eq_true rfl | (simp only [rm_X9_codeLengthWithout_1, rm_X9_isShade]; omega)⟩ dX9_codeLengthWithout_6 (Nat.le_of_ble_eq_true rfl) rfl rfl) (fun r_1 u_1 H locs h_1 hP hD hS => ?_)
  have hP : va_P G.1 vwCl [oM h ad 0 sts hs len at_ num many, aI G (ad 1) 68 st, aI G (ad 5) 64 pa, aI G (ad 7) 8 li, aI G (ad 8) 64 od, aI G (ad 9) 64 ot] _ := hP
  have hD : va_D A [oM h ad 0 sts hs len at_ num many, aI G (ad 1) 68 st, aI G (ad 5) 64 pa, aI G (ad 7) 8 li, aI G (ad 8) 64 od, aI G (ad 9) 64 ot] := hD
  have h_1 : r_1 = (bI (isSh t)) := h_1
  rw [h_1]
  refine B_if_eq (tgt := 20) hx hb dX9_codeLengthWithout_9 (by decide) (fun c_9 => ?_) (fun c_9 => ?_)
  · skip
    refine lv_aload_n hx hb dX9_codeLengthWithout_20 rfl (lv_at hl 0 rfl) ?_
    refine lv_iconst (v := nI 1) hx hb dX9_codeLengthWithout_21 (by decide) ?_
    refine fin_i (ws' := (fun (_ : Unit) => [oM h ad 1 sts hs len at_ num many, aI G (ad 1) 68 st, aI G (ad 5) 64 pa, aI G (ad 7) 8 li, aI G (ad 8) 64 od, aI G (ad 9) 64 ot])) hA hS hP hD [0] rfl [(true, 0), (false, 1), (false, 2), (false, 3), (false, 4), (false, 5)] (fun _ => rfl) (by decide) (run_V (As := [.int (nI 1)]) (rest := []) (n9 := 1) hx hb hml hown hts hE hAb hl.1 hS hP hD [0] rfl (by decide) (t_X9_fails l G b0 _ h ad 0 sts hs len at_ num many 1 ) (lw_V q1739 q1741 qs60 q129 q1742) 0 rfl rfl ⟨rfl, by decide, by decide, by decide +kernel⟩ ⟨Nat.le_of_ble_eq_true rfl, Nat.le_of_ble_eq_true rfl⟩ ⟨by first | exact Nat.le_of_ble_eq_true rfl | (simp only [rm_X9_codeLengthWithout_1, rm_X9_fails]; omega), by first | exact Nat.le_of_ble_eq_true rfl | (simp only [rm_X9_codeLengthWithout_1, rm_X9_fails]; omega)⟩ dX9_codeLengthWithout_22 (Nat.le_of_ble_eq_true rfl) rfl rfl) (fun r_2 u_2 H locs h_2 hP hD hS => ?_)
    have hP : va_P G.1 vwCl [oM h ad 1 sts hs len at_ num many, aI G (ad 1) 68 st, aI G (ad 5) 64 pa, aI G (ad 7) 8 li, aI G (ad 8) 64 od, aI G (ad 9) 64 ot] _ := hP
    have hD : va_D A [oM h ad 1 sts hs len at_ num many, aI G (ad 1) 68 st, aI G (ad 5) 64 pa, aI G (ad 7) 8 li, aI G (ad 8) 64 od, aI G (ad 9) 64 ot] := hD
    have h_2 : r_2 = (nI 0) := h_2
    rw [h_2]
    rw [hQQ]
    exact rt_i hx hb hr hlk  (()) dX9_codeLengthWithout_25 hP hD hS (by first | exact Nat.le_of_ble_eq_true rfl | (simp only [rm_X9_codeLengthWithout_1]; omega)) (by first | exact Nat.le_of_ble_eq_true rfl | (simp only [rm_X9_codeLengthWithout_1]; omega)) (by rfl)
  · skip
    exfalso; exact absurd (htt.symm.trans c_9) (by decide)
def rm_X9_thresholdFor_0 : Room := ({ frames := 6, cells := 0, slots := 0, locals := 150 } : Room)
set_option maxHeartbeats 400000 in
set_option maxRecDepth 100000 in
theorem t_X9_thresholdFor_0 (l : Launch) (G : GG) (b0 sz : Nat) (h : Nat) (ad : Nat → Nat) (thr sts : Nat) (hs : Bool) (len at_ num many : Nat) (st pa bk li : Nat → Int32) (L : Nat) (t : Int32) (hL1 : 1 ≤ L) (hL : L ≤ 3) (hst : st 64 = nI L) (htt : inB t (nI 0) (nI 16320) = true) : CT l yX9_thresholdFor cX9_thresholdFor 2 (some FieldType.int) (rm_X9_thresholdFor_0) G b0 [.ref h, .int t] [oM h ad thr sts hs len at_ num many, aI G (ad 1) 68 st, aI G (ad 5) 64 pa, aI G (ad 6) 64 bk, aI G (ad 7) 8 li] sz (Ri G (fun (r_ : Int32) (u : (Nat → Int32) × (Nat → Int32) × (Nat → Int32)) => r_ = nI (bstN L t st 256)) (fun (u : (Nat → Int32) × (Nat → Int32) × (Nat → Int32)) => [oM h ad 0 sts hs len at_ num many, aI G (ad 1) 68 st, aI G (ad 5) 64 u.1, aI G (ad 6) 64 u.2.1, aI G (ad 7) 8 u.2.2])) := by
  refine CT.go (by decide) (Nat.le_of_ble_eq_true rfl) (fun p e s m below meth c A ls AR QQ hx hb hr hlk hml hown hnm hts hE hA hAb hsz hP hD hS hl hQQ => ?_)
  have hK := hE.1
  have hown : s.vm.findClass RX9 = some m.cls := hown
  have hl : lv_has ls 2 [(0, .ref h), (1, .int t)] := hl
  clear hsz
  refine lv_aload_n hx hb dX9_thresholdFor_0 rfl (lv_at hl 0 rfl) ?_
  refine lv_iconst (v := nI 0) hx hb dX9_thresholdFor_1 (by decide) ?_
  refine va_put (D := G.1) (ci := 8) (v := .int (nI 0)) (ty := .int) (C := RX9) (T := TX9) (N := 21) hx hb hts in_X9 tyX9 tyX9_ok nmX9 hown hK hP hD hS 0 rfl rfl 0 (by decide) (hts _ q1667) (fun _ h9 => h9) rfl (by decide +kernel) rfl rfl (Nat.le_of_ble_eq_true rfl) dX9_thresholdFor_2 (fun H locs hP hD hS => ?_)
  have hP : va_P G.1 vwCl [oM h ad 0 sts hs len at_ num many, aI G (ad 1) 68 st, aI G (ad 5) 64 pa, aI G (ad 6) 64 bk, aI G (ad 7) 8 li] _ := hP
  have hD : va_D A [oM h ad 0 sts hs len at_ num many, aI G (ad 1) 68 st, aI G (ad 5) 64 pa, aI G (ad 6) 64 bk, aI G (ad 7) 8 li] := hD
  refine lv_iload_n hx hb dX9_thresholdFor_5 rfl (lv_at hl 1 rfl) ?_
  refine lv_iconst (v := nI 0) hx hb dX9_thresholdFor_6 (by decide) ?_
  refine lv_sipush (v := nI 16320) hx hb dX9_thresholdFor_7 (by decide) ?_
  refine fin_i (ws' := (fun (_ : Unit) => [oM h ad 0 sts hs len at_ num many, aI G (ad 1) 68 st, aI G (ad 5) 64 pa, aI G (ad 6) 64 bk, aI G (ad 7) 8 li])) hA hS hP hD [] rfl [(false, 0), (false, 1), (false, 2), (false, 3), (false, 4)] (fun _ => rfl) (by decide) (run_S (As := [.int t, .int (nI 0), .int (nI 16320)]) (rest := []) (n9 := 3) hx hb hml hown hts hE hAb hl.1 hS hP hD [] rfl (by decide) (t_X9_within l G b0 _ t (nI 0) (nI 16320) ) (lw_S q1770 q1771 q129 q1772) ⟨by decide, by decide, by decide +kernel⟩ ⟨Nat.le_of_ble_eq_true rfl, Nat.le_of_ble_eq_true rfl⟩ ⟨by first | exact Nat.le_of_ble_eq_true rfl | (simp only [rm_X9_thresholdFor_0, rm_X9_within]; omega), by first | exact Nat.le_of_ble_eq_true rfl | (simp only [rm_X9_thresholdFor_0, rm_X9_within]; omega)⟩ dX9_thresholdFor_10 (Nat.le_of_ble_eq_true rfl) rfl rfl) (fun r_1 u_1 H locs h_1 hP hD hS => ?_)
  have hP : va_P G.1 vwCl [oM h ad 0 sts hs len at_ num many, aI G (ad 1) 68 st, aI G (ad 5) 64 pa, aI G (ad 6) 64 bk, aI G (ad 7) 8 li] _ := hP
  have hD : va_D A [oM h ad 0 sts hs len at_ num many, aI G (ad 1) 68 st, aI G (ad 5) 64 pa, aI G (ad 6) 64 bk, aI G (ad 7) 8 li] := hD
  have h_1 : r_1 = (bI (inB t (nI 0) (nI 16320))) := h_1
  rw [h_1]
  refine B_if_eq (tgt := 24) hx hb dX9_thresholdFor_13 (by decide) (fun c_13 => ?_) (fun c_13 => ?_)
  · skip
    exfalso; exact absurd (htt.symm.trans c_13) (by decide)
  · skip
    refine lv_aload_n hx hb dX9_thresholdFor_16 rfl (lv_at hl 0 rfl) ?_
    refine lv_iload_n hx hb dX9_thresholdFor_17 rfl (lv_at hl 1 rfl) ?_
    refine fin_i (ws' := (fun (u_2 : (Nat → Int32) × (Nat → Int32) × (Nat → Int32)) => [oM h ad 0 sts hs len at_ num many, aI G (ad 1) 68 st, aI G (ad 5) 64 u_2.1, aI G (ad 6) 64 u_2.2.1, aI G (ad 7) 8 u_2.2.2])) hA hS hP hD [0, 1, 2, 3, 4] rfl [(true, 0), (true, 1), (true, 2), (true, 3), (true, 4)] (fun _ => rfl) (by decide) (run_V (As := [.int t]) (rest := []) (n9 := 1) hx hb hml hown hts hE hAb hl.1 hS hP hD [0, 1, 2, 3, 4] rfl (by decide) (t_X9_greatestFor l G b0 _ h ad 0 sts hs len at_ num many st pa bk li L t (by omega) (by omega) (by omega)) (lw_V q1841 q1843 qs74 q129 q1844) 0 rfl rfl ⟨rfl, by decide, by decide, by decide +kernel⟩ ⟨Nat.le_of_ble_eq_true rfl, Nat.le_of_ble_eq_true rfl⟩ ⟨by first | exact Nat.le_of_ble_eq_true rfl | (simp only [rm_X9_thresholdFor_0, rm_X9_greatestFor]; omega), by first | exact Nat.le_of_ble_eq_true rfl | (simp only [rm_X9_thresholdFor_0, rm_X9_greatestFor]; omega)⟩ dX9_thresholdFor_18 (Nat.le_of_ble_eq_true rfl) rfl rfl) (fun r_2 u_2 H locs h_2 hP hD hS => ?_)
    have hP : va_P G.1 vwCl [oM h ad 0 sts hs len at_ num many, aI G (ad 1) 68 st, aI G (ad 5) 64 u_2.1, aI G (ad 6) 64 u_2.2.1, aI G (ad 7) 8 u_2.2.2] _ := hP
    have hD : va_D A [oM h ad 0 sts hs len at_ num many, aI G (ad 1) 68 st, aI G (ad 5) 64 u_2.1, aI G (ad 6) 64 u_2.2.1, aI G (ad 7) 8 u_2.2.2] := hD
    have h_2 : r_2 = (nI (bstN L t st 256)) := h_2
    rw [h_2]
    refine lv_goto (tgt := 29) hx hb dX9_thresholdFor_21 (by decide) ?_
    have hP : va_P G.1 vwCl [oM h ad 0 sts hs len at_ num many, aI G (ad 1) 68 st, aI G (ad 5) 64 (((u_2.1, u_2.2.1, u_2.2.2)).1), aI G (ad 6) 64 (((u_2.1, u_2.2.1, u_2.2.2)).2.1), aI G (ad 7) 8 (((u_2.1, u_2.2.1, u_2.2.2)).2.2)] _ := hP
    have hD : va_D A [oM h ad 0 sts hs len at_ num many, aI G (ad 1) 68 st, aI G (ad 5) 64 (((u_2.1, u_2.2.1, u_2.2.2)).1), aI G (ad 6) 64 (((u_2.1, u_2.2.1, u_2.2.2)).2.1), aI G (ad 7) 8 (((u_2.1, u_2.2.1, u_2.2.2)).2.2)] := hD
    rw [hQQ]
    exact rt_i hx hb hr hlk  ((u_2.1, u_2.2.1, u_2.2.2)) dX9_thresholdFor_29 hP hD hS (by first | exact Nat.le_of_ble_eq_true rfl | (simp only [rm_X9_thresholdFor_0]; omega)) (by first | exact Nat.le_of_ble_eq_true rfl | (simp only [rm_X9_thresholdFor_0]; omega)) (by rfl)
def rm_X9_thresholdFor_1 : Room := ({ frames := 6, cells := 0, slots := 0, locals := 150 } : Room)
set_option maxHeartbeats 400000 in
set_option maxRecDepth 100000 in
theorem t_X9_thresholdFor_1 (l : Launch) (G : GG) (b0 sz : Nat) (h : Nat) (ad : Nat → Nat) (thr sts : Nat) (hs : Bool) (len at_ num many : Nat) (st pa bk li : Nat → Int32) (L : Nat) (t : Int32) (hL1 : 1 ≤ L) (hL : L ≤ 3) (hst : st 64 = nI L) (htt : inB t (nI 0) (nI 16320) = false) : CT l yX9_thresholdFor cX9_thresholdFor 2 (some FieldType.int) (rm_X9_thresholdFor_1) G b0 [.ref h, .int t] [oM h ad thr sts hs len at_ num many, aI G (ad 1) 68 st, aI G (ad 5) 64 pa, aI G (ad 6) 64 bk, aI G (ad 7) 8 li] sz (Ri G (fun (r_ : Int32) (_ : Unit) => r_ = nI 0) (fun (_ : Unit) => [oM h ad 1 sts hs len at_ num many, aI G (ad 1) 68 st, aI G (ad 5) 64 pa, aI G (ad 6) 64 bk, aI G (ad 7) 8 li])) := by
  refine CT.go (by decide) (Nat.le_of_ble_eq_true rfl) (fun p e s m below meth c A ls AR QQ hx hb hr hlk hml hown hnm hts hE hA hAb hsz hP hD hS hl hQQ => ?_)
  have hK := hE.1
  have hown : s.vm.findClass RX9 = some m.cls := hown
  have hl : lv_has ls 2 [(0, .ref h), (1, .int t)] := hl
  clear hsz
  refine lv_aload_n hx hb dX9_thresholdFor_0 rfl (lv_at hl 0 rfl) ?_
  refine lv_iconst (v := nI 0) hx hb dX9_thresholdFor_1 (by decide) ?_
  refine va_put (D := G.1) (ci := 8) (v := .int (nI 0)) (ty := .int) (C := RX9) (T := TX9) (N := 21) hx hb hts in_X9 tyX9 tyX9_ok nmX9 hown hK hP hD hS 0 rfl rfl 0 (by decide) (hts _ q1667) (fun _ h9 => h9) rfl (by decide +kernel) rfl rfl (Nat.le_of_ble_eq_true rfl) dX9_thresholdFor_2 (fun H locs hP hD hS => ?_)
  have hP : va_P G.1 vwCl [oM h ad 0 sts hs len at_ num many, aI G (ad 1) 68 st, aI G (ad 5) 64 pa, aI G (ad 6) 64 bk, aI G (ad 7) 8 li] _ := hP
  have hD : va_D A [oM h ad 0 sts hs len at_ num many, aI G (ad 1) 68 st, aI G (ad 5) 64 pa, aI G (ad 6) 64 bk, aI G (ad 7) 8 li] := hD
  refine lv_iload_n hx hb dX9_thresholdFor_5 rfl (lv_at hl 1 rfl) ?_
  refine lv_iconst (v := nI 0) hx hb dX9_thresholdFor_6 (by decide) ?_
  refine lv_sipush (v := nI 16320) hx hb dX9_thresholdFor_7 (by decide) ?_
  refine fin_i (ws' := (fun (_ : Unit) => [oM h ad 0 sts hs len at_ num many, aI G (ad 1) 68 st, aI G (ad 5) 64 pa, aI G (ad 6) 64 bk, aI G (ad 7) 8 li])) hA hS hP hD [] rfl [(false, 0), (false, 1), (false, 2), (false, 3), (false, 4)] (fun _ => rfl) (by decide) (run_S (As := [.int t, .int (nI 0), .int (nI 16320)]) (rest := []) (n9 := 3) hx hb hml hown hts hE hAb hl.1 hS hP hD [] rfl (by decide) (t_X9_within l G b0 _ t (nI 0) (nI 16320) ) (lw_S q1770 q1771 q129 q1772) ⟨by decide, by decide, by decide +kernel⟩ ⟨Nat.le_of_ble_eq_true rfl, Nat.le_of_ble_eq_true rfl⟩ ⟨by first | exact Nat.le_of_ble_eq_true rfl | (simp only [rm_X9_thresholdFor_1, rm_X9_within]; omega), by first | exact Nat.le_of_ble_eq_true rfl | (simp only [rm_X9_thresholdFor_1, rm_X9_within]; omega)⟩ dX9_thresholdFor_10 (Nat.le_of_ble_eq_true rfl) rfl rfl) (fun r_1 u_1 H locs h_1 hP hD hS => ?_)
  have hP : va_P G.1 vwCl [oM h ad 0 sts hs len at_ num many, aI G (ad 1) 68 st, aI G (ad 5) 64 pa, aI G (ad 6) 64 bk, aI G (ad 7) 8 li] _ := hP
  have hD : va_D A [oM h ad 0 sts hs len at_ num many, aI G (ad 1) 68 st, aI G (ad 5) 64 pa, aI G (ad 6) 64 bk, aI G (ad 7) 8 li] := hD
  have h_1 : r_1 = (bI (inB t (nI 0) (nI 16320))) := h_1
  rw [h_1]
  refine B_if_eq (tgt := 24) hx hb dX9_thresholdFor_13 (by decide) (fun c_13 => ?_) (fun c_13 => ?_)
  · skip
    refine lv_aload_n hx hb dX9_thresholdFor_24 rfl (lv_at hl 0 rfl) ?_
    refine lv_iconst (v := nI 1) hx hb dX9_thresholdFor_25 (by decide) ?_
    refine fin_i (ws' := (fun (_ : Unit) => [oM h ad 1 sts hs len at_ num many, aI G (ad 1) 68 st, aI G (ad 5) 64 pa, aI G (ad 6) 64 bk, aI G (ad 7) 8 li])) hA hS hP hD [0] rfl [(true, 0), (false, 1), (false, 2), (false, 3), (false, 4)] (fun _ => rfl) (by decide) (run_V (As := [.int (nI 1)]) (rest := []) (n9 := 1) hx hb hml hown hts hE hAb hl.1 hS hP hD [0] rfl (by decide) (t_X9_fails l G b0 _ h ad 0 sts hs len at_ num many 1 ) (lw_V q1739 q1741 qs60 q129 q1742) 0 rfl rfl ⟨rfl, by decide, by decide, by decide +kernel⟩ ⟨Nat.le_of_ble_eq_true rfl, Nat.le_of_ble_eq_true rfl⟩ ⟨by first | exact Nat.le_of_ble_eq_true rfl | (simp only [rm_X9_thresholdFor_1, rm_X9_fails]; omega), by first | exact Nat.le_of_ble_eq_true rfl | (simp only [rm_X9_thresholdFor_1, rm_X9_fails]; omega)⟩ dX9_thresholdFor_26 (Nat.le_of_ble_eq_true rfl) rfl rfl) (fun r_2 u_2 H locs h_2 hP hD hS => ?_)
    have hP : va_P G.1 vwCl [oM h ad 1 sts hs len at_ num many, aI G (ad 1) 68 st, aI G (ad 5) 64 pa, aI G (ad 6) 64 bk, aI G (ad 7) 8 li] _ := hP
    have hD : va_D A [oM h ad 1 sts hs len at_ num many, aI G (ad 1) 68 st, aI G (ad 5) 64 pa, aI G (ad 6) 64 bk, aI G (ad 7) 8 li] := hD
    have h_2 : r_2 = (nI 0) := h_2
    rw [h_2]
    rw [hQQ]
    exact rt_i hx hb hr hlk  (()) dX9_thresholdFor_29 hP hD hS (by first | exact Nat.le_of_ble_eq_true rfl | (simp only [rm_X9_thresholdFor_1]; omega)) (by first | exact Nat.le_of_ble_eq_true rfl | (simp only [rm_X9_thresholdFor_1]; omega)) (by rfl)
  · skip
    exfalso; exact absurd (htt.symm.trans c_13) (by decide)
def rm_X9_costOfPlanes_0 : Room := ({ frames := 6, cells := 0, slots := 0, locals := 150 } : Room)
set_option maxHeartbeats 400000 in
set_option maxRecDepth 100000 in
theorem t_X9_costOfPlanes_0 (l : Launch) (G : GG) (b0 sz : Nat) (h : Nat) (ad : Nat → Nat) (thr sts : Nat) (hs : Bool) (len at_ num many : Nat) (st pa bk li : Nat → Int32) (L pl : Nat) (hL1 : 1 ≤ L) (hL : L ≤ 3) (hst : st 64 = nI L) (hpl : pl ≤ 7) : CT l yX9_costOfPlanes cX9_costOfPlanes 2 (some FieldType.int) (rm_X9_costOfPlanes_0) G b0 [.ref h, .int (nI pl)] [oM h ad thr sts hs len at_ num many, aI G (ad 1) 68 st, aI G (ad 5) 64 pa, aI G (ad 6) 64 bk, aI G (ad 7) 8 li] sz (Ri G (fun (r_ : Int32) (u : (Nat → Int32) × (Nat → Int32) × (Nat → Int32)) => r_ = l_sum (cosF (bkP L pl st) st) 64) (fun (u : (Nat → Int32) × (Nat → Int32) × (Nat → Int32)) => [oM h ad 0 sts hs len at_ num many, aI G (ad 1) 68 st, aI G (ad 5) 64 u.1, aI G (ad 6) 64 u.2.1, aI G (ad 7) 8 u.2.2])) := by
  refine CT.go (by decide) (Nat.le_of_ble_eq_true rfl) (fun p e s m below meth c A ls AR QQ hx hb hr hlk hml hown hnm hts hE hA hAb hsz hP hD hS hl hQQ => ?_)
  have hK := hE.1
  have hown : s.vm.findClass RX9 = some m.cls := hown
  have hl : lv_has ls 2 [(0, .ref h), (1, .int (nI pl))] := hl
  clear hsz
  refine lv_aload_n hx hb dX9_costOfPlanes_0 rfl (lv_at hl 0 rfl) ?_
  refine lv_iconst (v := nI 0) hx hb dX9_costOfPlanes_1 (by decide) ?_
  refine va_put (D := G.1) (ci := 8) (v := .int (nI 0)) (ty := .int) (C := RX9) (T := TX9) (N := 21) hx hb hts in_X9 tyX9 tyX9_ok nmX9 hown hK hP hD hS 0 rfl rfl 0 (by decide) (hts _ q1667) (fun _ h9 => h9) rfl (by decide +kernel) rfl rfl (Nat.le_of_ble_eq_true rfl) dX9_costOfPlanes_2 (fun H locs hP hD hS => ?_)
  have hP : va_P G.1 vwCl [oM h ad 0 sts hs len at_ num many, aI G (ad 1) 68 st, aI G (ad 5) 64 pa, aI G (ad 6) 64 bk, aI G (ad 7) 8 li] _ := hP
  have hD : va_D A [oM h ad 0 sts hs len at_ num many, aI G (ad 1) 68 st, aI G (ad 5) 64 pa, aI G (ad 6) 64 bk, aI G (ad 7) 8 li] := hD
  refine lv_iload_n hx hb dX9_costOfPlanes_5 rfl (lv_at hl 1 rfl) ?_
  refine lv_iconst (v := nI 0) hx hb dX9_costOfPlanes_6 (by decide) ?_
  refine lv_bipush (v := nI 7) hx hb dX9_costOfPlanes_7 (by decide) ?_
  refine fin_i (ws' := (fun (_ : Unit) => [oM h ad 0 sts hs len at_ num many, aI G (ad 1) 68 st, aI G (ad 5) 64 pa, aI G (ad 6) 64 bk, aI G (ad 7) 8 li])) hA hS hP hD [] rfl [(false, 0), (false, 1), (false, 2), (false, 3), (false, 4)] (fun _ => rfl) (by decide) (run_S (As := [.int (nI pl), .int (nI 0), .int (nI 7)]) (rest := []) (n9 := 3) hx hb hml hown hts hE hAb hl.1 hS hP hD [] rfl (by decide) (t_X9_within l G b0 _ (nI pl) (nI 0) (nI 7) ) (lw_S q1770 q1771 q129 q1772) ⟨by decide, by decide, by decide +kernel⟩ ⟨Nat.le_of_ble_eq_true rfl, Nat.le_of_ble_eq_true rfl⟩ ⟨by first | exact Nat.le_of_ble_eq_true rfl | (simp only [rm_X9_costOfPlanes_0, rm_X9_within]; omega), by first | exact Nat.le_of_ble_eq_true rfl | (simp only [rm_X9_costOfPlanes_0, rm_X9_within]; omega)⟩ dX9_costOfPlanes_9 (Nat.le_of_ble_eq_true rfl) rfl rfl) (fun r_1 u_1 H locs h_1 hP hD hS => ?_)
  have hP : va_P G.1 vwCl [oM h ad 0 sts hs len at_ num many, aI G (ad 1) 68 st, aI G (ad 5) 64 pa, aI G (ad 6) 64 bk, aI G (ad 7) 8 li] _ := hP
  have hD : va_D A [oM h ad 0 sts hs len at_ num many, aI G (ad 1) 68 st, aI G (ad 5) 64 pa, aI G (ad 6) 64 bk, aI G (ad 7) 8 li] := hD
  have h_1 : r_1 = (bI (inB (nI pl) (nI 0) (nI 7))) := h_1
  rw [h_1]
  refine B_if_eq (tgt := 23) hx hb dX9_costOfPlanes_12 (by decide) (fun c_12 => ?_) (fun c_12 => ?_)
  · skip
    exfalso; exact absurd ((show inB (nI pl) (nI 0) (nI 7) = true by rw [inB_nat (by omega) (by decide) (by decide)]; exact decide_eq_true (by omega)).symm.trans c_12) (by decide)
  · skip
    refine lv_aload_n hx hb dX9_costOfPlanes_15 rfl (lv_at hl 0 rfl) ?_
    refine lv_iload_n hx hb dX9_costOfPlanes_16 rfl (lv_at hl 1 rfl) ?_
    refine fin_i (ws' := (fun (u_2 : Nat → Int32) => [oM h ad 0 sts hs len at_ num many, aI G (ad 1) 68 st, aI G (ad 5) 64 (plnA L pl (splitP st L)), aI G (ad 6) 64 (bkP L pl st), aI G (ad 7) 8 u_2])) hA hS hP hD [0, 1, 2, 3, 4] rfl [(true, 0), (true, 1), (true, 2), (true, 3), (true, 4)] (fun _ => rfl) (by decide) (run_V (As := [.int (nI pl)]) (rest := []) (n9 := 1) hx hb hml hown hts hE hAb hl.1 hS hP hD [0, 1, 2, 3, 4] rfl (by decide) (t_X9_costBehind l G b0 _ h ad 0 sts hs len at_ num many st pa bk li L pl (by omega) (by omega) (by omega) (by omega)) (lw_V q1849 q1851 qs75 q129 q1852) 0 rfl rfl ⟨rfl, by decide, by decide, by decide +kernel⟩ ⟨Nat.le_of_ble_eq_true rfl, Nat.le_of_ble_eq_true rfl⟩ ⟨by first | exact Nat.le_of_ble_eq_true rfl | (simp only [rm_X9_costOfPlanes_0, rm_X9_costBehind]; omega), by first | exact Nat.le_of_ble_eq_true rfl | (simp only [rm_X9_costOfPlanes_0, rm_X9_costBehind]; omega)⟩ dX9_costOfPlanes_17 (Nat.le_of_ble_eq_true rfl) rfl rfl) (fun r_2 u_2 H locs h_2 hP hD hS => ?_)
    have hP : va_P G.1 vwCl [oM h ad 0 sts hs len at_ num many, aI G (ad 1) 68 st, aI G (ad 5) 64 (plnA L pl (splitP st L)), aI G (ad 6) 64 (bkP L pl st), aI G (ad 7) 8 u_2] _ := hP
    have hD : va_D A [oM h ad 0 sts hs len at_ num many, aI G (ad 1) 68 st, aI G (ad 5) 64 (plnA L pl (splitP st L)), aI G (ad 6) 64 (bkP L pl st), aI G (ad 7) 8 u_2] := hD
    have h_2 : r_2 = (l_sum (cosF (bkP L pl st) st) 64) := h_2
    rw [h_2]
    refine lv_goto (tgt := 28) hx hb dX9_costOfPlanes_20 (by decide) ?_
    have hP : va_P G.1 vwCl [oM h ad 0 sts hs len at_ num many, aI G (ad 1) 68 st, aI G (ad 5) 64 (((plnA L pl (splitP st L), bkP L pl st, u_2)).1), aI G (ad 6) 64 (((plnA L pl (splitP st L), bkP L pl st, u_2)).2.1), aI G (ad 7) 8 (((plnA L pl (splitP st L), bkP L pl st, u_2)).2.2)] _ := hP
    have hD : va_D A [oM h ad 0 sts hs len at_ num many, aI G (ad 1) 68 st, aI G (ad 5) 64 (((plnA L pl (splitP st L), bkP L pl st, u_2)).1), aI G (ad 6) 64 (((plnA L pl (splitP st L), bkP L pl st, u_2)).2.1), aI G (ad 7) 8 (((plnA L pl (splitP st L), bkP L pl st, u_2)).2.2)] := hD
    rw [hQQ]
    exact rt_i hx hb hr hlk  ((plnA L pl (splitP st L), bkP L pl st, u_2)) dX9_costOfPlanes_28 hP hD hS (by first | exact Nat.le_of_ble_eq_true rfl | (simp only [rm_X9_costOfPlanes_0]; omega)) (by first | exact Nat.le_of_ble_eq_true rfl | (simp only [rm_X9_costOfPlanes_0]; omega)) (by rfl)
def rm_X9_costOfPlanes_1 : Room := ({ frames := 6, cells := 0, slots := 0, locals := 150 } : Room)
set_option maxHeartbeats 400000 in
set_option maxRecDepth 100000 in
theorem t_X9_costOfPlanes_1 (l : Launch) (G : GG) (b0 sz : Nat) (h : Nat) (ad : Nat → Nat) (thr sts : Nat) (hs : Bool) (len at_ num many : Nat) (st pa bk li : Nat → Int32) (L : Nat) (t : Int32) (hL1 : 1 ≤ L) (hL : L ≤ 3) (hst : st 64 = nI L) (htt : inB t (nI 0) (nI 7) = false) : CT l yX9_costOfPlanes cX9_costOfPlanes 2 (some FieldType.int) (rm_X9_costOfPlanes_1) G b0 [.ref h, .int t] [oM h ad thr sts hs len at_ num many, aI G (ad 1) 68 st, aI G (ad 5) 64 pa, aI G (ad 6) 64 bk, aI G (ad 7) 8 li] sz (Ri G (fun (r_ : Int32) (_ : Unit) => r_ = nI 0) (fun (_ : Unit) => [oM h ad 1 sts hs len at_ num many, aI G (ad 1) 68 st, aI G (ad 5) 64 pa, aI G (ad 6) 64 bk, aI G (ad 7) 8 li])) := by
  refine CT.go (by decide) (Nat.le_of_ble_eq_true rfl) (fun p e s m below meth c A ls AR QQ hx hb hr hlk hml hown hnm hts hE hA hAb hsz hP hD hS hl hQQ => ?_)
  have hK := hE.1
  have hown : s.vm.findClass RX9 = some m.cls := hown
  have hl : lv_has ls 2 [(0, .ref h), (1, .int t)] := hl
  clear hsz
  refine lv_aload_n hx hb dX9_costOfPlanes_0 rfl (lv_at hl 0 rfl) ?_
  refine lv_iconst (v := nI 0) hx hb dX9_costOfPlanes_1 (by decide) ?_
  refine va_put (D := G.1) (ci := 8) (v := .int (nI 0)) (ty := .int) (C := RX9) (T := TX9) (N := 21) hx hb hts in_X9 tyX9 tyX9_ok nmX9 hown hK hP hD hS 0 rfl rfl 0 (by decide) (hts _ q1667) (fun _ h9 => h9) rfl (by decide +kernel) rfl rfl (Nat.le_of_ble_eq_true rfl) dX9_costOfPlanes_2 (fun H locs hP hD hS => ?_)
  have hP : va_P G.1 vwCl [oM h ad 0 sts hs len at_ num many, aI G (ad 1) 68 st, aI G (ad 5) 64 pa, aI G (ad 6) 64 bk, aI G (ad 7) 8 li] _ := hP
  have hD : va_D A [oM h ad 0 sts hs len at_ num many, aI G (ad 1) 68 st, aI G (ad 5) 64 pa, aI G (ad 6) 64 bk, aI G (ad 7) 8 li] := hD
  refine lv_iload_n hx hb dX9_costOfPlanes_5 rfl (lv_at hl 1 rfl) ?_
  refine lv_iconst (v := nI 0) hx hb dX9_costOfPlanes_6 (by decide) ?_
  refine lv_bipush (v := nI 7) hx hb dX9_costOfPlanes_7 (by decide) ?_
  refine fin_i (ws' := (fun (_ : Unit) => [oM h ad 0 sts hs len at_ num many, aI G (ad 1) 68 st, aI G (ad 5) 64 pa, aI G (ad 6) 64 bk, aI G (ad 7) 8 li])) hA hS hP hD [] rfl [(false, 0), (false, 1), (false, 2), (false, 3), (false, 4)] (fun _ => rfl) (by decide) (run_S (As := [.int t, .int (nI 0), .int (nI 7)]) (rest := []) (n9 := 3) hx hb hml hown hts hE hAb hl.1 hS hP hD [] rfl (by decide) (t_X9_within l G b0 _ t (nI 0) (nI 7) ) (lw_S q1770 q1771 q129 q1772) ⟨by decide, by decide, by decide +kernel⟩ ⟨Nat.le_of_ble_eq_true rfl, Nat.le_of_ble_eq_true rfl⟩ ⟨by first | exact Nat.le_of_ble_eq_true rfl | (simp only [rm_X9_costOfPlanes_1, rm_X9_within]; omega), by first | exact Nat.le_of_ble_eq_true rfl | (simp only [rm_X9_costOfPlanes_1, rm_X9_within]; omega)⟩ dX9_costOfPlanes_9 (Nat.le_of_ble_eq_true rfl) rfl rfl) (fun r_1 u_1 H locs h_1 hP hD hS => ?_)
  have hP : va_P G.1 vwCl [oM h ad 0 sts hs len at_ num many, aI G (ad 1) 68 st, aI G (ad 5) 64 pa, aI G (ad 6) 64 bk, aI G (ad 7) 8 li] _ := hP
  have hD : va_D A [oM h ad 0 sts hs len at_ num many, aI G (ad 1) 68 st, aI G (ad 5) 64 pa, aI G (ad 6) 64 bk, aI G (ad 7) 8 li] := hD
  have h_1 : r_1 = (bI (inB t (nI 0) (nI 7))) := h_1
  rw [h_1]
  refine B_if_eq (tgt := 23) hx hb dX9_costOfPlanes_12 (by decide) (fun c_12 => ?_) (fun c_12 => ?_)
  · skip
    refine lv_aload_n hx hb dX9_costOfPlanes_23 rfl (lv_at hl 0 rfl) ?_
    refine lv_iconst (v := nI 1) hx hb dX9_costOfPlanes_24 (by decide) ?_
    refine fin_i (ws' := (fun (_ : Unit) => [oM h ad 1 sts hs len at_ num many, aI G (ad 1) 68 st, aI G (ad 5) 64 pa, aI G (ad 6) 64 bk, aI G (ad 7) 8 li])) hA hS hP hD [0] rfl [(true, 0), (false, 1), (false, 2), (false, 3), (false, 4)] (fun _ => rfl) (by decide) (run_V (As := [.int (nI 1)]) (rest := []) (n9 := 1) hx hb hml hown hts hE hAb hl.1 hS hP hD [0] rfl (by decide) (t_X9_fails l G b0 _ h ad 0 sts hs len at_ num many 1 ) (lw_V q1739 q1741 qs60 q129 q1742) 0 rfl rfl ⟨rfl, by decide, by decide, by decide +kernel⟩ ⟨Nat.le_of_ble_eq_true rfl, Nat.le_of_ble_eq_true rfl⟩ ⟨by first | exact Nat.le_of_ble_eq_true rfl | (simp only [rm_X9_costOfPlanes_1, rm_X9_fails]; omega), by first | exact Nat.le_of_ble_eq_true rfl | (simp only [rm_X9_costOfPlanes_1, rm_X9_fails]; omega)⟩ dX9_costOfPlanes_25 (Nat.le_of_ble_eq_true rfl) rfl rfl) (fun r_2 u_2 H locs h_2 hP hD hS => ?_)
    have hP : va_P G.1 vwCl [oM h ad 1 sts hs len at_ num many, aI G (ad 1) 68 st, aI G (ad 5) 64 pa, aI G (ad 6) 64 bk, aI G (ad 7) 8 li] _ := hP
    have hD : va_D A [oM h ad 1 sts hs len at_ num many, aI G (ad 1) 68 st, aI G (ad 5) 64 pa, aI G (ad 6) 64 bk, aI G (ad 7) 8 li] := hD
    have h_2 : r_2 = (nI 0) := h_2
    rw [h_2]
    rw [hQQ]
    exact rt_i hx hb hr hlk  (()) dX9_costOfPlanes_28 hP hD hS (by first | exact Nat.le_of_ble_eq_true rfl | (simp only [rm_X9_costOfPlanes_1]; omega)) (by first | exact Nat.le_of_ble_eq_true rfl | (simp only [rm_X9_costOfPlanes_1]; omega)) (by rfl)
  · skip
    exfalso; exact absurd (htt.symm.trans c_12) (by decide)
def rm_X9_energy_0 : Room := ({ frames := 6, cells := 0, slots := 0, locals := 150 } : Room)
set_option maxHeartbeats 400000 in
set_option maxRecDepth 100000 in
theorem t_X9_energy_0 (l : Launch) (G : GG) (b0 sz : Nat) (h : Nat) (ad : Nat → Nat) (thr sts : Nat) (hs : Bool) (len at_ num many : Nat) (st pa li : Nat → Int32) (L : Nat) (t : Int32) (hL1 : 1 ≤ L) (hL : L ≤ 3) (hst : st 64 = nI L) (htt : inB t (nI 0) (nI 9) = true) : CT l yX9_energy cX9_energy 2 (some FieldType.int) (rm_X9_energy_0) G b0 [.ref h, .int t] [oM h ad thr sts hs len at_ num many, aI G (ad 1) 68 st, aI G (ad 5) 64 pa, aI G (ad 7) 8 li] sz (Ri G (fun (r_ : Int32) (u : (Nat → Int32) × (Nat → Int32)) => r_ = l_sum (engI L t (splitP st L)) 64) (fun (u : (Nat → Int32) × (Nat → Int32)) => [oM h ad 0 sts hs len at_ num many, aI G (ad 1) 68 st, aI G (ad 5) 64 u.1, aI G (ad 7) 8 u.2])) := by
  refine CT.go (by decide) (Nat.le_of_ble_eq_true rfl) (fun p e s m below meth c A ls AR QQ hx hb hr hlk hml hown hnm hts hE hA hAb hsz hP hD hS hl hQQ => ?_)
  have hK := hE.1
  have hown : s.vm.findClass RX9 = some m.cls := hown
  have hl : lv_has ls 2 [(0, .ref h), (1, .int t)] := hl
  clear hsz
  refine lv_aload_n hx hb dX9_energy_0 rfl (lv_at hl 0 rfl) ?_
  refine lv_iconst (v := nI 0) hx hb dX9_energy_1 (by decide) ?_
  refine va_put (D := G.1) (ci := 8) (v := .int (nI 0)) (ty := .int) (C := RX9) (T := TX9) (N := 21) hx hb hts in_X9 tyX9 tyX9_ok nmX9 hown hK hP hD hS 0 rfl rfl 0 (by decide) (hts _ q1667) (fun _ h9 => h9) rfl (by decide +kernel) rfl rfl (Nat.le_of_ble_eq_true rfl) dX9_energy_2 (fun H locs hP hD hS => ?_)
  have hP : va_P G.1 vwCl [oM h ad 0 sts hs len at_ num many, aI G (ad 1) 68 st, aI G (ad 5) 64 pa, aI G (ad 7) 8 li] _ := hP
  have hD : va_D A [oM h ad 0 sts hs len at_ num many, aI G (ad 1) 68 st, aI G (ad 5) 64 pa, aI G (ad 7) 8 li] := hD
  refine lv_iload_n hx hb dX9_energy_5 rfl (lv_at hl 1 rfl) ?_
  refine lv_iconst (v := nI 0) hx hb dX9_energy_6 (by decide) ?_
  refine lv_bipush (v := nI 9) hx hb dX9_energy_7 (by decide) ?_
  refine fin_i (ws' := (fun (_ : Unit) => [oM h ad 0 sts hs len at_ num many, aI G (ad 1) 68 st, aI G (ad 5) 64 pa, aI G (ad 7) 8 li])) hA hS hP hD [] rfl [(false, 0), (false, 1), (false, 2), (false, 3)] (fun _ => rfl) (by decide) (run_S (As := [.int t, .int (nI 0), .int (nI 9)]) (rest := []) (n9 := 3) hx hb hml hown hts hE hAb hl.1 hS hP hD [] rfl (by decide) (t_X9_within l G b0 _ t (nI 0) (nI 9) ) (lw_S q1770 q1771 q129 q1772) ⟨by decide, by decide, by decide +kernel⟩ ⟨Nat.le_of_ble_eq_true rfl, Nat.le_of_ble_eq_true rfl⟩ ⟨by first | exact Nat.le_of_ble_eq_true rfl | (simp only [rm_X9_energy_0, rm_X9_within]; omega), by first | exact Nat.le_of_ble_eq_true rfl | (simp only [rm_X9_energy_0, rm_X9_within]; omega)⟩ dX9_energy_9 (Nat.le_of_ble_eq_true rfl) rfl rfl) (fun r_1 u_1 H locs h_1 hP hD hS => ?_)
  have hP : va_P G.1 vwCl [oM h ad 0 sts hs len at_ num many, aI G (ad 1) 68 st, aI G (ad 5) 64 pa, aI G (ad 7) 8 li] _ := hP
  have hD : va_D A [oM h ad 0 sts hs len at_ num many, aI G (ad 1) 68 st, aI G (ad 5) 64 pa, aI G (ad 7) 8 li] := hD
  have h_1 : r_1 = (bI (inB t (nI 0) (nI 9))) := h_1
  rw [h_1]
  refine B_if_eq (tgt := 23) hx hb dX9_energy_12 (by decide) (fun c_12 => ?_) (fun c_12 => ?_)
  · skip
    exfalso; exact absurd (htt.symm.trans c_12) (by decide)
  · skip
    refine lv_aload_n hx hb dX9_energy_15 rfl (lv_at hl 0 rfl) ?_
    refine lv_iload_n hx hb dX9_energy_16 rfl (lv_at hl 1 rfl) ?_
    refine fin_i (ws' := (fun (u_2 : Nat → Int32) => [oM h ad 0 sts hs len at_ num many, aI G (ad 1) 68 st, aI G (ad 5) 64 (splitP st L), aI G (ad 7) 8 u_2])) hA hS hP hD [0, 1, 2, 3] rfl [(true, 0), (true, 1), (true, 2), (true, 3)] (fun _ => rfl) (by decide) (run_V (As := [.int t]) (rest := []) (n9 := 1) hx hb hml hown hts hE hAb hl.1 hS hP hD [0, 1, 2, 3] rfl (by decide) (t_X9_energyOf l G b0 _ h ad 0 sts hs len at_ num many st pa li L t (by omega) (by omega) (by omega)) (lw_V q2033 q2035 qs92 q129 q2036) 0 rfl rfl ⟨rfl, by decide, by decide, by decide +kernel⟩ ⟨Nat.le_of_ble_eq_true rfl, Nat.le_of_ble_eq_true rfl⟩ ⟨by first | exact Nat.le_of_ble_eq_true rfl | (simp only [rm_X9_energy_0, rm_X9_energyOf]; omega), by first | exact Nat.le_of_ble_eq_true rfl | (simp only [rm_X9_energy_0, rm_X9_energyOf]; omega)⟩ dX9_energy_17 (Nat.le_of_ble_eq_true rfl) rfl rfl) (fun r_2 u_2 H locs h_2 hP hD hS => ?_)
    have hP : va_P G.1 vwCl [oM h ad 0 sts hs len at_ num many, aI G (ad 1) 68 st, aI G (ad 5) 64 (splitP st L), aI G (ad 7) 8 u_2] _ := hP
    have hD : va_D A [oM h ad 0 sts hs len at_ num many, aI G (ad 1) 68 st, aI G (ad 5) 64 (splitP st L), aI G (ad 7) 8 u_2] := hD
    have h_2 : r_2 = (l_sum (engI L t (splitP st L)) 64) := h_2
    rw [h_2]
    refine lv_goto (tgt := 28) hx hb dX9_energy_20 (by decide) ?_
    have hP : va_P G.1 vwCl [oM h ad 0 sts hs len at_ num many, aI G (ad 1) 68 st, aI G (ad 5) 64 (((splitP st L, u_2)).1), aI G (ad 7) 8 (((splitP st L, u_2)).2)] _ := hP
    have hD : va_D A [oM h ad 0 sts hs len at_ num many, aI G (ad 1) 68 st, aI G (ad 5) 64 (((splitP st L, u_2)).1), aI G (ad 7) 8 (((splitP st L, u_2)).2)] := hD
    rw [hQQ]
    exact rt_i hx hb hr hlk  ((splitP st L, u_2)) dX9_energy_28 hP hD hS (by first | exact Nat.le_of_ble_eq_true rfl | (simp only [rm_X9_energy_0]; omega)) (by first | exact Nat.le_of_ble_eq_true rfl | (simp only [rm_X9_energy_0]; omega)) (by rfl)
def rm_X9_energy_1 : Room := ({ frames := 6, cells := 0, slots := 0, locals := 150 } : Room)
set_option maxHeartbeats 400000 in
set_option maxRecDepth 100000 in
theorem t_X9_energy_1 (l : Launch) (G : GG) (b0 sz : Nat) (h : Nat) (ad : Nat → Nat) (thr sts : Nat) (hs : Bool) (len at_ num many : Nat) (st pa li : Nat → Int32) (L : Nat) (t : Int32) (hL1 : 1 ≤ L) (hL : L ≤ 3) (hst : st 64 = nI L) (htt : inB t (nI 0) (nI 9) = false) : CT l yX9_energy cX9_energy 2 (some FieldType.int) (rm_X9_energy_1) G b0 [.ref h, .int t] [oM h ad thr sts hs len at_ num many, aI G (ad 1) 68 st, aI G (ad 5) 64 pa, aI G (ad 7) 8 li] sz (Ri G (fun (r_ : Int32) (_ : Unit) => r_ = nI 0) (fun (_ : Unit) => [oM h ad 1 sts hs len at_ num many, aI G (ad 1) 68 st, aI G (ad 5) 64 pa, aI G (ad 7) 8 li])) := by
  refine CT.go (by decide) (Nat.le_of_ble_eq_true rfl) (fun p e s m below meth c A ls AR QQ hx hb hr hlk hml hown hnm hts hE hA hAb hsz hP hD hS hl hQQ => ?_)
  have hK := hE.1
  have hown : s.vm.findClass RX9 = some m.cls := hown
  have hl : lv_has ls 2 [(0, .ref h), (1, .int t)] := hl
  clear hsz
  refine lv_aload_n hx hb dX9_energy_0 rfl (lv_at hl 0 rfl) ?_
  refine lv_iconst (v := nI 0) hx hb dX9_energy_1 (by decide) ?_
  refine va_put (D := G.1) (ci := 8) (v := .int (nI 0)) (ty := .int) (C := RX9) (T := TX9) (N := 21) hx hb hts in_X9 tyX9 tyX9_ok nmX9 hown hK hP hD hS 0 rfl rfl 0 (by decide) (hts _ q1667) (fun _ h9 => h9) rfl (by decide +kernel) rfl rfl (Nat.le_of_ble_eq_true rfl) dX9_energy_2 (fun H locs hP hD hS => ?_)
  have hP : va_P G.1 vwCl [oM h ad 0 sts hs len at_ num many, aI G (ad 1) 68 st, aI G (ad 5) 64 pa, aI G (ad 7) 8 li] _ := hP
  have hD : va_D A [oM h ad 0 sts hs len at_ num many, aI G (ad 1) 68 st, aI G (ad 5) 64 pa, aI G (ad 7) 8 li] := hD
  refine lv_iload_n hx hb dX9_energy_5 rfl (lv_at hl 1 rfl) ?_
  refine lv_iconst (v := nI 0) hx hb dX9_energy_6 (by decide) ?_
  refine lv_bipush (v := nI 9) hx hb dX9_energy_7 (by decide) ?_
  refine fin_i (ws' := (fun (_ : Unit) => [oM h ad 0 sts hs len at_ num many, aI G (ad 1) 68 st, aI G (ad 5) 64 pa, aI G (ad 7) 8 li])) hA hS hP hD [] rfl [(false, 0), (false, 1), (false, 2), (false, 3)] (fun _ => rfl) (by decide) (run_S (As := [.int t, .int (nI 0), .int (nI 9)]) (rest := []) (n9 := 3) hx hb hml hown hts hE hAb hl.1 hS hP hD [] rfl (by decide) (t_X9_within l G b0 _ t (nI 0) (nI 9) ) (lw_S q1770 q1771 q129 q1772) ⟨by decide, by decide, by decide +kernel⟩ ⟨Nat.le_of_ble_eq_true rfl, Nat.le_of_ble_eq_true rfl⟩ ⟨by first | exact Nat.le_of_ble_eq_true rfl | (simp only [rm_X9_energy_1, rm_X9_within]; omega), by first | exact Nat.le_of_ble_eq_true rfl | (simp only [rm_X9_energy_1, rm_X9_within]; omega)⟩ dX9_energy_9 (Nat.le_of_ble_eq_true rfl) rfl rfl) (fun r_1 u_1 H locs h_1 hP hD hS => ?_)
  have hP : va_P G.1 vwCl [oM h ad 0 sts hs len at_ num many, aI G (ad 1) 68 st, aI G (ad 5) 64 pa, aI G (ad 7) 8 li] _ := hP
  have hD : va_D A [oM h ad 0 sts hs len at_ num many, aI G (ad 1) 68 st, aI G (ad 5) 64 pa, aI G (ad 7) 8 li] := hD
  have h_1 : r_1 = (bI (inB t (nI 0) (nI 9))) := h_1
  rw [h_1]
  refine B_if_eq (tgt := 23) hx hb dX9_energy_12 (by decide) (fun c_12 => ?_) (fun c_12 => ?_)
  · skip
    refine lv_aload_n hx hb dX9_energy_23 rfl (lv_at hl 0 rfl) ?_
    refine lv_iconst (v := nI 1) hx hb dX9_energy_24 (by decide) ?_
    refine fin_i (ws' := (fun (_ : Unit) => [oM h ad 1 sts hs len at_ num many, aI G (ad 1) 68 st, aI G (ad 5) 64 pa, aI G (ad 7) 8 li])) hA hS hP hD [0] rfl [(true, 0), (false, 1), (false, 2), (false, 3)] (fun _ => rfl) (by decide) (run_V (As := [.int (nI 1)]) (rest := []) (n9 := 1) hx hb hml hown hts hE hAb hl.1 hS hP hD [0] rfl (by decide) (t_X9_fails l G b0 _ h ad 0 sts hs len at_ num many 1 ) (lw_V q1739 q1741 qs60 q129 q1742) 0 rfl rfl ⟨rfl, by decide, by decide, by decide +kernel⟩ ⟨Nat.le_of_ble_eq_true rfl, Nat.le_of_ble_eq_true rfl⟩ ⟨by first | exact Nat.le_of_ble_eq_true rfl | (simp only [rm_X9_energy_1, rm_X9_fails]; omega), by first | exact Nat.le_of_ble_eq_true rfl | (simp only [rm_X9_energy_1, rm_X9_fails]; omega)⟩ dX9_energy_25 (Nat.le_of_ble_eq_true rfl) rfl rfl) (fun r_2 u_2 H locs h_2 hP hD hS => ?_)
    have hP : va_P G.1 vwCl [oM h ad 1 sts hs len at_ num many, aI G (ad 1) 68 st, aI G (ad 5) 64 pa, aI G (ad 7) 8 li] _ := hP
    have hD : va_D A [oM h ad 1 sts hs len at_ num many, aI G (ad 1) 68 st, aI G (ad 5) 64 pa, aI G (ad 7) 8 li] := hD
    have h_2 : r_2 = (nI 0) := h_2
    rw [h_2]
    rw [hQQ]
    exact rt_i hx hb hr hlk  (()) dX9_energy_28 hP hD hS (by first | exact Nat.le_of_ble_eq_true rfl | (simp only [rm_X9_energy_1]; omega)) (by first | exact Nat.le_of_ble_eq_true rfl | (simp only [rm_X9_energy_1]; omega)) (by rfl)
  · skip
    exfalso; exact absurd (htt.symm.trans c_12) (by decide)
def rm_X9_codeLengthWith_0 : Room := ({ frames := 6, cells := 0, slots := 0, locals := 150 } : Room)
set_option maxHeartbeats 400000 in
set_option maxRecDepth 100000 in
theorem t_X9_codeLengthWith_0 (l : Launch) (G : GG) (b0 sz : Nat) (h : Nat) (ad : Nat → Nat) (thr sts : Nat) (hs : Bool) (len at_ num many : Nat) (st pa li od ot : Nat → Int32) (L k9 : Nat) (hL1 : 1 ≤ L) (hL : L ≤ 3) (hst : st 64 = nI L) (h91 : 1 ≤ k9) (h93 : k9 ≤ 3) : CT l yX9_codeLengthWith cX9_codeLengthWith 2 (some FieldType.int) (rm_X9_codeLengthWith_0) G b0 [.ref h, .int (nI k9)] [oM h ad thr sts hs len at_ num many, aI G (ad 1) 68 st, aI G (ad 5) 64 pa, aI G (ad 7) 8 li, aI G (ad 8) 64 od, aI G (ad 9) 64 ot] sz (Ri G (fun (r_ : Int32) (u : (Nat → Int32) × (Nat → Int32) × (Nat → Int32) × (Nat → Int32)) => r_ = nI (lenC (splitP st k9) k9 0)) (fun (u : (Nat → Int32) × (Nat → Int32) × (Nat → Int32) × (Nat → Int32)) => [oM h ad 0 sts hs len at_ num many, aI G (ad 1) 68 st, aI G (ad 5) 64 u.1, aI G (ad 7) 8 u.2.1, aI G (ad 8) 64 u.2.2.1, aI G (ad 9) 64 u.2.2.2])) := by
  refine CT.go (by decide) (Nat.le_of_ble_eq_true rfl) (fun p e s m below meth c A ls AR QQ hx hb hr hlk hml hown hnm hts hE hA hAb hsz hP hD hS hl hQQ => ?_)
  have hK := hE.1
  have hown : s.vm.findClass RX9 = some m.cls := hown
  have hl : lv_has ls 2 [(0, .ref h), (1, .int (nI k9))] := hl
  clear hsz
  refine lv_aload_n hx hb dX9_codeLengthWith_0 rfl (lv_at hl 0 rfl) ?_
  refine lv_iconst (v := nI 0) hx hb dX9_codeLengthWith_1 (by decide) ?_
  refine va_put (D := G.1) (ci := 8) (v := .int (nI 0)) (ty := .int) (C := RX9) (T := TX9) (N := 21) hx hb hts in_X9 tyX9 tyX9_ok nmX9 hown hK hP hD hS 0 rfl rfl 0 (by decide) (hts _ q1667) (fun _ h9 => h9) rfl (by decide +kernel) rfl rfl (Nat.le_of_ble_eq_true rfl) dX9_codeLengthWith_2 (fun H locs hP hD hS => ?_)
  have hP : va_P G.1 vwCl [oM h ad 0 sts hs len at_ num many, aI G (ad 1) 68 st, aI G (ad 5) 64 pa, aI G (ad 7) 8 li, aI G (ad 8) 64 od, aI G (ad 9) 64 ot] _ := hP
  have hD : va_D A [oM h ad 0 sts hs len at_ num many, aI G (ad 1) 68 st, aI G (ad 5) 64 pa, aI G (ad 7) 8 li, aI G (ad 8) 64 od, aI G (ad 9) 64 ot] := hD
  refine lv_iload_n hx hb dX9_codeLengthWith_5 rfl (lv_at hl 1 rfl) ?_
  refine lv_iconst (v := nI 1) hx hb dX9_codeLengthWith_6 (by decide) ?_
  refine lv_iconst (v := nI 3) hx hb dX9_codeLengthWith_7 (by decide) ?_
  refine fin_i (ws' := (fun (_ : Unit) => [oM h ad 0 sts hs len at_ num many, aI G (ad 1) 68 st, aI G (ad 5) 64 pa, aI G (ad 7) 8 li, aI G (ad 8) 64 od, aI G (ad 9) 64 ot])) hA hS hP hD [] rfl [(false, 0), (false, 1), (false, 2), (false, 3), (false, 4), (false, 5)] (fun _ => rfl) (by decide) (run_S (As := [.int (nI k9), .int (nI 1), .int (nI 3)]) (rest := []) (n9 := 3) hx hb hml hown hts hE hAb hl.1 hS hP hD [] rfl (by decide) (t_X9_within l G b0 _ (nI k9) (nI 1) (nI 3) ) (lw_S q1770 q1771 q129 q1772) ⟨by decide, by decide, by decide +kernel⟩ ⟨Nat.le_of_ble_eq_true rfl, Nat.le_of_ble_eq_true rfl⟩ ⟨by first | exact Nat.le_of_ble_eq_true rfl | (simp only [rm_X9_codeLengthWith_0, rm_X9_within]; omega), by first | exact Nat.le_of_ble_eq_true rfl | (simp only [rm_X9_codeLengthWith_0, rm_X9_within]; omega)⟩ dX9_codeLengthWith_8 (Nat.le_of_ble_eq_true rfl) rfl rfl) (fun r_1 u_1 H locs h_1 hP hD hS => ?_)
  have hP : va_P G.1 vwCl [oM h ad 0 sts hs len at_ num many, aI G (ad 1) 68 st, aI G (ad 5) 64 pa, aI G (ad 7) 8 li, aI G (ad 8) 64 od, aI G (ad 9) 64 ot] _ := hP
  have hD : va_D A [oM h ad 0 sts hs len at_ num many, aI G (ad 1) 68 st, aI G (ad 5) 64 pa, aI G (ad 7) 8 li, aI G (ad 8) 64 od, aI G (ad 9) 64 ot] := hD
  have h_1 : r_1 = (bI (inB (nI k9) (nI 1) (nI 3))) := h_1
  rw [h_1]
  refine B_if_eq (tgt := 22) hx hb dX9_codeLengthWith_11 (by decide) (fun c_11 => ?_) (fun c_11 => ?_)
  · skip
    exfalso; exact absurd ((show inB (nI k9) (nI 1) (nI 3) = true by rw [inB_nat (by omega) (by decide) (by decide)]; exact decide_eq_true (by omega)).symm.trans c_11) (by decide)
  · skip
    refine lv_aload_n hx hb dX9_codeLengthWith_14 rfl (lv_at hl 0 rfl) ?_
    refine lv_iload_n hx hb dX9_codeLengthWith_15 rfl (lv_at hl 1 rfl) ?_
    refine fin_i (ws' := (fun (u_2 : Nat → Int32) => [oM h ad 0 sts hs len at_ num many, aI G (ad 1) 68 st, aI G (ad 5) 64 (splitP st k9), aI G (ad 7) 8 u_2, aI G (ad 8) 64 (nF (orT k9)), aI G (ad 9) 64 (nF (rnkM k9))])) hA hS hP hD [0, 1, 2, 3, 4, 5] rfl [(true, 0), (true, 1), (true, 2), (true, 3), (true, 4), (true, 5)] (fun _ => rfl) (by decide) (run_V (As := [.int (nI k9)]) (rest := []) (n9 := 1) hx hb hml hown hts hE hAb hl.1 hS hP hD [0, 1, 2, 3, 4, 5] rfl (by decide) (t_X9_lengthWith l G b0 _ h ad 0 sts hs len at_ num many st pa li od ot k9 (by omega) (by omega)) (lw_V q1929 q1931 qs84 q129 q1932) 0 rfl rfl ⟨rfl, by decide, by decide, by decide +kernel⟩ ⟨Nat.le_of_ble_eq_true rfl, Nat.le_of_ble_eq_true rfl⟩ ⟨by first | exact Nat.le_of_ble_eq_true rfl | (simp only [rm_X9_codeLengthWith_0, rm_X9_lengthWith]; omega), by first | exact Nat.le_of_ble_eq_true rfl | (simp only [rm_X9_codeLengthWith_0, rm_X9_lengthWith]; omega)⟩ dX9_codeLengthWith_16 (Nat.le_of_ble_eq_true rfl) rfl rfl) (fun r_2 u_2 H locs h_2 hP hD hS => ?_)
    have hP : va_P G.1 vwCl [oM h ad 0 sts hs len at_ num many, aI G (ad 1) 68 st, aI G (ad 5) 64 (splitP st k9), aI G (ad 7) 8 u_2, aI G (ad 8) 64 (nF (orT k9)), aI G (ad 9) 64 (nF (rnkM k9))] _ := hP
    have hD : va_D A [oM h ad 0 sts hs len at_ num many, aI G (ad 1) 68 st, aI G (ad 5) 64 (splitP st k9), aI G (ad 7) 8 u_2, aI G (ad 8) 64 (nF (orT k9)), aI G (ad 9) 64 (nF (rnkM k9))] := hD
    have h_2 : r_2 = (nI (lenC (splitP st k9) k9 0)) := h_2
    rw [h_2]
    refine lv_goto (tgt := 27) hx hb dX9_codeLengthWith_19 (by decide) ?_
    have hP : va_P G.1 vwCl [oM h ad 0 sts hs len at_ num many, aI G (ad 1) 68 st, aI G (ad 5) 64 (((splitP st k9, u_2, nF (orT k9), nF (rnkM k9))).1), aI G (ad 7) 8 (((splitP st k9, u_2, nF (orT k9), nF (rnkM k9))).2.1), aI G (ad 8) 64 (((splitP st k9, u_2, nF (orT k9), nF (rnkM k9))).2.2.1), aI G (ad 9) 64 (((splitP st k9, u_2, nF (orT k9), nF (rnkM k9))).2.2.2)] _ := hP
    have hD : va_D A [oM h ad 0 sts hs len at_ num many, aI G (ad 1) 68 st, aI G (ad 5) 64 (((splitP st k9, u_2, nF (orT k9), nF (rnkM k9))).1), aI G (ad 7) 8 (((splitP st k9, u_2, nF (orT k9), nF (rnkM k9))).2.1), aI G (ad 8) 64 (((splitP st k9, u_2, nF (orT k9), nF (rnkM k9))).2.2.1), aI G (ad 9) 64 (((splitP st k9, u_2, nF (orT k9), nF (rnkM k9))).2.2.2)] := hD
    rw [hQQ]
    exact rt_i hx hb hr hlk  ((splitP st k9, u_2, nF (orT k9), nF (rnkM k9))) dX9_codeLengthWith_27 hP hD hS (by first | exact Nat.le_of_ble_eq_true rfl | (simp only [rm_X9_codeLengthWith_0]; omega)) (by first | exact Nat.le_of_ble_eq_true rfl | (simp only [rm_X9_codeLengthWith_0]; omega)) (by rfl)
def rm_X9_codeLengthWith_1 : Room := ({ frames := 6, cells := 0, slots := 0, locals := 150 } : Room)
set_option maxHeartbeats 400000 in
set_option maxRecDepth 100000 in
theorem t_X9_codeLengthWith_1 (l : Launch) (G : GG) (b0 sz : Nat) (h : Nat) (ad : Nat → Nat) (thr sts : Nat) (hs : Bool) (len at_ num many : Nat) (st pa li od ot : Nat → Int32) (L : Nat) (t : Int32) (hL1 : 1 ≤ L) (hL : L ≤ 3) (hst : st 64 = nI L) (htt : inB t (nI 1) (nI 3) = false) : CT l yX9_codeLengthWith cX9_codeLengthWith 2 (some FieldType.int) (rm_X9_codeLengthWith_1) G b0 [.ref h, .int t] [oM h ad thr sts hs len at_ num many, aI G (ad 1) 68 st, aI G (ad 5) 64 pa, aI G (ad 7) 8 li, aI G (ad 8) 64 od, aI G (ad 9) 64 ot] sz (Ri G (fun (r_ : Int32) (_ : Unit) => r_ = nI 0) (fun (_ : Unit) => [oM h ad 1 sts hs len at_ num many, aI G (ad 1) 68 st, aI G (ad 5) 64 pa, aI G (ad 7) 8 li, aI G (ad 8) 64 od, aI G (ad 9) 64 ot])) := by
  refine CT.go (by decide) (Nat.le_of_ble_eq_true rfl) (fun p e s m below meth c A ls AR QQ hx hb hr hlk hml hown hnm hts hE hA hAb hsz hP hD hS hl hQQ => ?_)
  have hK := hE.1
  have hown : s.vm.findClass RX9 = some m.cls := hown
  have hl : lv_has ls 2 [(0, .ref h), (1, .int t)] := hl
  clear hsz
  refine lv_aload_n hx hb dX9_codeLengthWith_0 rfl (lv_at hl 0 rfl) ?_
  refine lv_iconst (v := nI 0) hx hb dX9_codeLengthWith_1 (by decide) ?_
  refine va_put (D := G.1) (ci := 8) (v := .int (nI 0)) (ty := .int) (C := RX9) (T := TX9) (N := 21) hx hb hts in_X9 tyX9 tyX9_ok nmX9 hown hK hP hD hS 0 rfl rfl 0 (by decide) (hts _ q1667) (fun _ h9 => h9) rfl (by decide +kernel) rfl rfl (Nat.le_of_ble_eq_true rfl) dX9_codeLengthWith_2 (fun H locs hP hD hS => ?_)
  have hP : va_P G.1 vwCl [oM h ad 0 sts hs len at_ num many, aI G (ad 1) 68 st, aI G (ad 5) 64 pa, aI G (ad 7) 8 li, aI G (ad 8) 64 od, aI G (ad 9) 64 ot] _ := hP
  have hD : va_D A [oM h ad 0 sts hs len at_ num many, aI G (ad 1) 68 st, aI G (ad 5) 64 pa, aI G (ad 7) 8 li, aI G (ad 8) 64 od, aI G (ad 9) 64 ot] := hD
  refine lv_iload_n hx hb dX9_codeLengthWith_5 rfl (lv_at hl 1 rfl) ?_
  refine lv_iconst (v := nI 1) hx hb dX9_codeLengthWith_6 (by decide) ?_
  refine lv_iconst (v := nI 3) hx hb dX9_codeLengthWith_7 (by decide) ?_
  refine fin_i (ws' := (fun (_ : Unit) => [oM h ad 0 sts hs len at_ num many, aI G (ad 1) 68 st, aI G (ad 5) 64 pa, aI G (ad 7) 8 li, aI G (ad 8) 64 od, aI G (ad 9) 64 ot])) hA hS hP hD [] rfl [(false, 0), (false, 1), (false, 2), (false, 3), (false, 4), (false, 5)] (fun _ => rfl) (by decide) (run_S (As := [.int t, .int (nI 1), .int (nI 3)]) (rest := []) (n9 := 3) hx hb hml hown hts hE hAb hl.1 hS hP hD [] rfl (by decide) (t_X9_within l G b0 _ t (nI 1) (nI 3) ) (lw_S q1770 q1771 q129 q1772) ⟨by decide, by decide, by decide +kernel⟩ ⟨Nat.le_of_ble_eq_true rfl, Nat.le_of_ble_eq_true rfl⟩ ⟨by first | exact Nat.le_of_ble_eq_true rfl | (simp only [rm_X9_codeLengthWith_1, rm_X9_within]; omega), by first | exact Nat.le_of_ble_eq_true rfl | (simp only [rm_X9_codeLengthWith_1, rm_X9_within]; omega)⟩ dX9_codeLengthWith_8 (Nat.le_of_ble_eq_true rfl) rfl rfl) (fun r_1 u_1 H locs h_1 hP hD hS => ?_)
  have hP : va_P G.1 vwCl [oM h ad 0 sts hs len at_ num many, aI G (ad 1) 68 st, aI G (ad 5) 64 pa, aI G (ad 7) 8 li, aI G (ad 8) 64 od, aI G (ad 9) 64 ot] _ := hP
  have hD : va_D A [oM h ad 0 sts hs len at_ num many, aI G (ad 1) 68 st, aI G (ad 5) 64 pa, aI G (ad 7) 8 li, aI G (ad 8) 64 od, aI G (ad 9) 64 ot] := hD
  have h_1 : r_1 = (bI (inB t (nI 1) (nI 3))) := h_1
  rw [h_1]
  refine B_if_eq (tgt := 22) hx hb dX9_codeLengthWith_11 (by decide) (fun c_11 => ?_) (fun c_11 => ?_)
  · skip
    refine lv_aload_n hx hb dX9_codeLengthWith_22 rfl (lv_at hl 0 rfl) ?_
    refine lv_iconst (v := nI 1) hx hb dX9_codeLengthWith_23 (by decide) ?_
    refine fin_i (ws' := (fun (_ : Unit) => [oM h ad 1 sts hs len at_ num many, aI G (ad 1) 68 st, aI G (ad 5) 64 pa, aI G (ad 7) 8 li, aI G (ad 8) 64 od, aI G (ad 9) 64 ot])) hA hS hP hD [0] rfl [(true, 0), (false, 1), (false, 2), (false, 3), (false, 4), (false, 5)] (fun _ => rfl) (by decide) (run_V (As := [.int (nI 1)]) (rest := []) (n9 := 1) hx hb hml hown hts hE hAb hl.1 hS hP hD [0] rfl (by decide) (t_X9_fails l G b0 _ h ad 0 sts hs len at_ num many 1 ) (lw_V q1739 q1741 qs60 q129 q1742) 0 rfl rfl ⟨rfl, by decide, by decide, by decide +kernel⟩ ⟨Nat.le_of_ble_eq_true rfl, Nat.le_of_ble_eq_true rfl⟩ ⟨by first | exact Nat.le_of_ble_eq_true rfl | (simp only [rm_X9_codeLengthWith_1, rm_X9_fails]; omega), by first | exact Nat.le_of_ble_eq_true rfl | (simp only [rm_X9_codeLengthWith_1, rm_X9_fails]; omega)⟩ dX9_codeLengthWith_24 (Nat.le_of_ble_eq_true rfl) rfl rfl) (fun r_2 u_2 H locs h_2 hP hD hS => ?_)
    have hP : va_P G.1 vwCl [oM h ad 1 sts hs len at_ num many, aI G (ad 1) 68 st, aI G (ad 5) 64 pa, aI G (ad 7) 8 li, aI G (ad 8) 64 od, aI G (ad 9) 64 ot] _ := hP
    have hD : va_D A [oM h ad 1 sts hs len at_ num many, aI G (ad 1) 68 st, aI G (ad 5) 64 pa, aI G (ad 7) 8 li, aI G (ad 8) 64 od, aI G (ad 9) 64 ot] := hD
    have h_2 : r_2 = (nI 0) := h_2
    rw [h_2]
    rw [hQQ]
    exact rt_i hx hb hr hlk  (()) dX9_codeLengthWith_27 hP hD hS (by first | exact Nat.le_of_ble_eq_true rfl | (simp only [rm_X9_codeLengthWith_1]; omega)) (by first | exact Nat.le_of_ble_eq_true rfl | (simp only [rm_X9_codeLengthWith_1]; omega)) (by rfl)
  · skip
    exfalso; exact absurd (htt.symm.trans c_11) (by decide)
def rm_X9_partByCode_0 : Room := ({ frames := 6, cells := 0, slots := 0, locals := 150 } : Room)
set_option maxHeartbeats 400000 in
set_option maxRecDepth 100000 in
theorem t_X9_partByCode_0 (l : Launch) (G : GG) (b0 sz : Nat) (h : Nat) (ad : Nat → Nat) (thr sts : Nat) (hs : Bool) (len at_ num many : Nat) (st pa li od ot : Nat → Int32) (L w : Nat) (hL1 : 1 ≤ L) (hL : L ≤ 3) (hst : st 64 = nI L) (hw : w < 64) : CT l yX9_partByCode cX9_partByCode 2 (some FieldType.int) (rm_X9_partByCode_0) G b0 [.ref h, .int (nI w)] [oM h ad thr sts hs len at_ num many, aI G (ad 1) 68 st, aI G (ad 5) 64 pa, aI G (ad 7) 8 li, aI G (ad 8) 64 od, aI G (ad 9) 64 ot] sz (Ri G (fun (r_ : Int32) (u : (Nat → Int32) × (Nat → Int32) × (Nat → Int32) × (Nat → Int32)) => r_ = splitP st L (orT L w)) (fun (u : (Nat → Int32) × (Nat → Int32) × (Nat → Int32) × (Nat → Int32)) => [oM h ad 0 sts hs len at_ num many, aI G (ad 1) 68 st, aI G (ad 5) 64 u.1, aI G (ad 7) 8 u.2.1, aI G (ad 8) 64 u.2.2.1, aI G (ad 9) 64 u.2.2.2])) := by
  refine CT.go (by decide) (Nat.le_of_ble_eq_true rfl) (fun p e s m below meth c A ls AR QQ hx hb hr hlk hml hown hnm hts hE hA hAb hsz hP hD hS hl hQQ => ?_)
  have hK := hE.1
  have hown : s.vm.findClass RX9 = some m.cls := hown
  have hl : lv_has ls 2 [(0, .ref h), (1, .int (nI w))] := hl
  clear hsz
  have hpo := (pl_or hL1 hL).1
  refine lv_aload_n hx hb dX9_partByCode_0 rfl (lv_at hl 0 rfl) ?_
  refine lv_iconst (v := nI 0) hx hb dX9_partByCode_1 (by decide) ?_
  refine va_put (D := G.1) (ci := 8) (v := .int (nI 0)) (ty := .int) (C := RX9) (T := TX9) (N := 21) hx hb hts in_X9 tyX9 tyX9_ok nmX9 hown hK hP hD hS 0 rfl rfl 0 (by decide) (hts _ q1667) (fun _ h9 => h9) rfl (by decide +kernel) rfl rfl (Nat.le_of_ble_eq_true rfl) dX9_partByCode_2 (fun H locs hP hD hS => ?_)
  have hP : va_P G.1 vwCl [oM h ad 0 sts hs len at_ num many, aI G (ad 1) 68 st, aI G (ad 5) 64 pa, aI G (ad 7) 8 li, aI G (ad 8) 64 od, aI G (ad 9) 64 ot] _ := hP
  have hD : va_D A [oM h ad 0 sts hs len at_ num many, aI G (ad 1) 68 st, aI G (ad 5) 64 pa, aI G (ad 7) 8 li, aI G (ad 8) 64 od, aI G (ad 9) 64 ot] := hD
  refine lv_aload_n hx hb dX9_partByCode_5 rfl (lv_at hl 0 rfl) ?_
  refine fin_v (ws' := (fun (u_1 : Nat → Int32) => [oM h ad 0 sts hs len at_ num many, aI G (ad 1) 68 st, aI G (ad 5) 64 (splitP st L), aI G (ad 7) 8 u_1, aI G (ad 8) 64 (nF (orT L)), aI G (ad 9) 64 (nF (rnkM L))])) hA hS hP hD [0, 1, 2, 3, 4, 5] rfl [(true, 0), (true, 1), (true, 2), (true, 3), (true, 4), (true, 5)] (fun _ => rfl) (by decide) (run_V (As := []) (rest := []) (n9 := 0) hx hb hml hown hts hE hAb hl.1 hS hP hD [0, 1, 2, 3, 4, 5] rfl (by decide) (t_X9_layCode l G b0 _ h ad 0 sts hs len at_ num many st pa li od ot L (by omega) (by omega) (by omega)) (lw_V q1880 q1882 qs78 q129 q1883) 0 rfl rfl ⟨rfl, by decide, by decide, by decide +kernel⟩ ⟨Nat.le_of_ble_eq_true rfl, Nat.le_of_ble_eq_true rfl⟩ ⟨by first | exact Nat.le_of_ble_eq_true rfl | (simp only [rm_X9_partByCode_0, rm_X9_layCode]; omega), by first | exact Nat.le_of_ble_eq_true rfl | (simp only [rm_X9_partByCode_0, rm_X9_layCode]; omega)⟩ dX9_partByCode_6 (Nat.le_of_ble_eq_true rfl) rfl rfl) (fun u_1 H locs h_1 hP hD hS => ?_)
  have hP : va_P G.1 vwCl [oM h ad 0 sts hs len at_ num many, aI G (ad 1) 68 st, aI G (ad 5) 64 (splitP st L), aI G (ad 7) 8 u_1, aI G (ad 8) 64 (nF (orT L)), aI G (ad 9) 64 (nF (rnkM L))] _ := hP
  have hD : va_D A [oM h ad 0 sts hs len at_ num many, aI G (ad 1) 68 st, aI G (ad 5) 64 (splitP st L), aI G (ad 7) 8 u_1, aI G (ad 8) 64 (nF (orT L)), aI G (ad 9) 64 (nF (rnkM L))] := hD
  refine lv_iload_n hx hb dX9_partByCode_9 rfl (lv_at hl 1 rfl) ?_
  refine lv_iconst (v := nI 0) hx hb dX9_partByCode_10 (by decide) ?_
  refine lv_bipush (v := nI 63) hx hb dX9_partByCode_11 (by decide) ?_
  refine fin_i (ws' := (fun (_ : Unit) => [oM h ad 0 sts hs len at_ num many, aI G (ad 1) 68 st, aI G (ad 5) 64 (splitP st L), aI G (ad 7) 8 u_1, aI G (ad 8) 64 (nF (orT L)), aI G (ad 9) 64 (nF (rnkM L))])) hA hS hP hD [] rfl [(false, 0), (false, 1), (false, 2), (false, 3), (false, 4), (false, 5)] (fun _ => rfl) (by decide) (run_S (As := [.int (nI w), .int (nI 0), .int (nI 63)]) (rest := []) (n9 := 3) hx hb hml hown hts hE hAb hl.1 hS hP hD [] rfl (by decide) (t_X9_within l G b0 _ (nI w) (nI 0) (nI 63) ) (lw_S q1770 q1771 q129 q1772) ⟨by decide, by decide, by decide +kernel⟩ ⟨Nat.le_of_ble_eq_true rfl, Nat.le_of_ble_eq_true rfl⟩ ⟨by first | exact Nat.le_of_ble_eq_true rfl | (simp only [rm_X9_partByCode_0, rm_X9_within]; omega), by first | exact Nat.le_of_ble_eq_true rfl | (simp only [rm_X9_partByCode_0, rm_X9_within]; omega)⟩ dX9_partByCode_13 (Nat.le_of_ble_eq_true rfl) rfl rfl) (fun r_2 u_2 H locs h_2 hP hD hS => ?_)
  have hP : va_P G.1 vwCl [oM h ad 0 sts hs len at_ num many, aI G (ad 1) 68 st, aI G (ad 5) 64 (splitP st L), aI G (ad 7) 8 u_1, aI G (ad 8) 64 (nF (orT L)), aI G (ad 9) 64 (nF (rnkM L))] _ := hP
  have hD : va_D A [oM h ad 0 sts hs len at_ num many, aI G (ad 1) 68 st, aI G (ad 5) 64 (splitP st L), aI G (ad 7) 8 u_1, aI G (ad 8) 64 (nF (orT L)), aI G (ad 9) 64 (nF (rnkM L))] := hD
  have h_2 : r_2 = (bI (inB (nI w) (nI 0) (nI 63))) := h_2
  rw [h_2]
  refine B_if_eq (tgt := 33) hx hb dX9_partByCode_16 (by decide) (fun c_16 => ?_) (fun c_16 => ?_)
  · skip
    exfalso; exact absurd ((show inB (nI w) (nI 0) (nI 63) = true by rw [inB_nat (by omega) (by decide) (by decide)]; exact decide_eq_true (by omega)).symm.trans c_16) (by decide)
  · skip
    refine lv_aload_n hx hb dX9_partByCode_19 rfl (lv_at hl 0 rfl) ?_
    refine va_get (D := G.1) (ci := 8) (v := .ref (ad 5)) (C := RX9) (T := TX9) (N := 21) hx hb hts in_X9 hown hK hP 0 rfl rfl 8 (by decide) (hts _ q1675) (fun _ h9 => h9) rfl dX9_partByCode_20 ?_
    refine lv_aload_n hx hb dX9_partByCode_23 rfl (lv_at hl 0 rfl) ?_
    refine va_get (D := G.1) (ci := 8) (v := .ref (ad 8)) (C := RX9) (T := TX9) (N := 21) hx hb hts in_X9 hown hK hP 0 rfl rfl 11 (by decide) (hts _ q1678) (fun _ h9 => h9) rfl dX9_partByCode_24 ?_
    refine lv_iload_n hx hb dX9_partByCode_27 rfl (lv_at hl 1 rfl) ?_
    refine N_iald hx hb dX9_partByCode_28 hK hP 4 0 rfl rfl (by omega) (by omega) ?_
    refine top_i (y := nI ((orT L) w)) rfl ?_
    refine N_iald hx hb dX9_partByCode_29 hK hP 2 0 rfl rfl (by exact (hpo _ (by omega)).1) (by omega) ?_
    refine lv_goto (tgt := 38) hx hb dX9_partByCode_30 (by decide) ?_
    have hP : va_P G.1 vwCl [oM h ad 0 sts hs len at_ num many, aI G (ad 1) 68 st, aI G (ad 5) 64 (((splitP st L, u_1, nF (orT L), nF (rnkM L))).1), aI G (ad 7) 8 (((splitP st L, u_1, nF (orT L), nF (rnkM L))).2.1), aI G (ad 8) 64 (((splitP st L, u_1, nF (orT L), nF (rnkM L))).2.2.1), aI G (ad 9) 64 (((splitP st L, u_1, nF (orT L), nF (rnkM L))).2.2.2)] _ := hP
    have hD : va_D A [oM h ad 0 sts hs len at_ num many, aI G (ad 1) 68 st, aI G (ad 5) 64 (((splitP st L, u_1, nF (orT L), nF (rnkM L))).1), aI G (ad 7) 8 (((splitP st L, u_1, nF (orT L), nF (rnkM L))).2.1), aI G (ad 8) 64 (((splitP st L, u_1, nF (orT L), nF (rnkM L))).2.2.1), aI G (ad 9) 64 (((splitP st L, u_1, nF (orT L), nF (rnkM L))).2.2.2)] := hD
    rw [hQQ]
    exact rt_i hx hb hr hlk  ((splitP st L, u_1, nF (orT L), nF (rnkM L))) dX9_partByCode_38 hP hD hS (by first | exact Nat.le_of_ble_eq_true rfl | (simp only [rm_X9_partByCode_0]; omega)) (by first | exact Nat.le_of_ble_eq_true rfl | (simp only [rm_X9_partByCode_0]; omega)) (by rfl)
def rm_X9_partByCode_1 : Room := ({ frames := 6, cells := 0, slots := 0, locals := 150 } : Room)
set_option maxHeartbeats 400000 in
set_option maxRecDepth 100000 in
theorem t_X9_partByCode_1 (l : Launch) (G : GG) (b0 sz : Nat) (h : Nat) (ad : Nat → Nat) (thr sts : Nat) (hs : Bool) (len at_ num many : Nat) (st pa li od ot : Nat → Int32) (L : Nat) (t : Int32) (hL1 : 1 ≤ L) (hL : L ≤ 3) (hst : st 64 = nI L) (htt : inB t (nI 0) (nI 63) = false) : CT l yX9_partByCode cX9_partByCode 2 (some FieldType.int) (rm_X9_partByCode_1) G b0 [.ref h, .int t] [oM h ad thr sts hs len at_ num many, aI G (ad 1) 68 st, aI G (ad 5) 64 pa, aI G (ad 7) 8 li, aI G (ad 8) 64 od, aI G (ad 9) 64 ot] sz (Ri G (fun (r_ : Int32) (u : (Nat → Int32) × (Nat → Int32) × (Nat → Int32) × (Nat → Int32)) => r_ = nI 0) (fun (u : (Nat → Int32) × (Nat → Int32) × (Nat → Int32) × (Nat → Int32)) => [oM h ad 1 sts hs len at_ num many, aI G (ad 1) 68 st, aI G (ad 5) 64 u.1, aI G (ad 7) 8 u.2.1, aI G (ad 8) 64 u.2.2.1, aI G (ad 9) 64 u.2.2.2])) := by
  refine CT.go (by decide) (Nat.le_of_ble_eq_true rfl) (fun p e s m below meth c A ls AR QQ hx hb hr hlk hml hown hnm hts hE hA hAb hsz hP hD hS hl hQQ => ?_)
  have hK := hE.1
  have hown : s.vm.findClass RX9 = some m.cls := hown
  have hl : lv_has ls 2 [(0, .ref h), (1, .int t)] := hl
  clear hsz
  refine lv_aload_n hx hb dX9_partByCode_0 rfl (lv_at hl 0 rfl) ?_
  refine lv_iconst (v := nI 0) hx hb dX9_partByCode_1 (by decide) ?_
  refine va_put (D := G.1) (ci := 8) (v := .int (nI 0)) (ty := .int) (C := RX9) (T := TX9) (N := 21) hx hb hts in_X9 tyX9 tyX9_ok nmX9 hown hK hP hD hS 0 rfl rfl 0 (by decide) (hts _ q1667) (fun _ h9 => h9) rfl (by decide +kernel) rfl rfl (Nat.le_of_ble_eq_true rfl) dX9_partByCode_2 (fun H locs hP hD hS => ?_)
  have hP : va_P G.1 vwCl [oM h ad 0 sts hs len at_ num many, aI G (ad 1) 68 st, aI G (ad 5) 64 pa, aI G (ad 7) 8 li, aI G (ad 8) 64 od, aI G (ad 9) 64 ot] _ := hP
  have hD : va_D A [oM h ad 0 sts hs len at_ num many, aI G (ad 1) 68 st, aI G (ad 5) 64 pa, aI G (ad 7) 8 li, aI G (ad 8) 64 od, aI G (ad 9) 64 ot] := hD
  refine lv_aload_n hx hb dX9_partByCode_5 rfl (lv_at hl 0 rfl) ?_
  refine fin_v (ws' := (fun (u_1 : Nat → Int32) => [oM h ad 0 sts hs len at_ num many, aI G (ad 1) 68 st, aI G (ad 5) 64 (splitP st L), aI G (ad 7) 8 u_1, aI G (ad 8) 64 (nF (orT L)), aI G (ad 9) 64 (nF (rnkM L))])) hA hS hP hD [0, 1, 2, 3, 4, 5] rfl [(true, 0), (true, 1), (true, 2), (true, 3), (true, 4), (true, 5)] (fun _ => rfl) (by decide) (run_V (As := []) (rest := []) (n9 := 0) hx hb hml hown hts hE hAb hl.1 hS hP hD [0, 1, 2, 3, 4, 5] rfl (by decide) (t_X9_layCode l G b0 _ h ad 0 sts hs len at_ num many st pa li od ot L (by omega) (by omega) (by omega)) (lw_V q1880 q1882 qs78 q129 q1883) 0 rfl rfl ⟨rfl, by decide, by decide, by decide +kernel⟩ ⟨Nat.le_of_ble_eq_true rfl, Nat.le_of_ble_eq_true rfl⟩ ⟨by first | exact Nat.le_of_ble_eq_true rfl | (simp only [rm_X9_partByCode_1, rm_X9_layCode]; omega), by first | exact Nat.le_of_ble_eq_true rfl | (simp only [rm_X9_partByCode_1, rm_X9_layCode]; omega)⟩ dX9_partByCode_6 (Nat.le_of_ble_eq_true rfl) rfl rfl) (fun u_1 H locs h_1 hP hD hS => ?_)
  have hP : va_P G.1 vwCl [oM h ad 0 sts hs len at_ num many, aI G (ad 1) 68 st, aI G (ad 5) 64 (splitP st L), aI G (ad 7) 8 u_1, aI G (ad 8) 64 (nF (orT L)), aI G (ad 9) 64 (nF (rnkM L))] _ := hP
  have hD : va_D A [oM h ad 0 sts hs len at_ num many, aI G (ad 1) 68 st, aI G (ad 5) 64 (splitP st L), aI G (ad 7) 8 u_1, aI G (ad 8) 64 (nF (orT L)), aI G (ad 9) 64 (nF (rnkM L))] := hD
  refine lv_iload_n hx hb dX9_partByCode_9 rfl (lv_at hl 1 rfl) ?_
  refine lv_iconst (v := nI 0) hx hb dX9_partByCode_10 (by decide) ?_
  refine lv_bipush (v := nI 63) hx hb dX9_partByCode_11 (by decide) ?_
  refine fin_i (ws' := (fun (_ : Unit) => [oM h ad 0 sts hs len at_ num many, aI G (ad 1) 68 st, aI G (ad 5) 64 (splitP st L), aI G (ad 7) 8 u_1, aI G (ad 8) 64 (nF (orT L)), aI G (ad 9) 64 (nF (rnkM L))])) hA hS hP hD [] rfl [(false, 0), (false, 1), (false, 2), (false, 3), (false, 4), (false, 5)] (fun _ => rfl) (by decide) (run_S (As := [.int t, .int (nI 0), .int (nI 63)]) (rest := []) (n9 := 3) hx hb hml hown hts hE hAb hl.1 hS hP hD [] rfl (by decide) (t_X9_within l G b0 _ t (nI 0) (nI 63) ) (lw_S q1770 q1771 q129 q1772) ⟨by decide, by decide, by decide +kernel⟩ ⟨Nat.le_of_ble_eq_true rfl, Nat.le_of_ble_eq_true rfl⟩ ⟨by first | exact Nat.le_of_ble_eq_true rfl | (simp only [rm_X9_partByCode_1, rm_X9_within]; omega), by first | exact Nat.le_of_ble_eq_true rfl | (simp only [rm_X9_partByCode_1, rm_X9_within]; omega)⟩ dX9_partByCode_13 (Nat.le_of_ble_eq_true rfl) rfl rfl) (fun r_2 u_2 H locs h_2 hP hD hS => ?_)
  have hP : va_P G.1 vwCl [oM h ad 0 sts hs len at_ num many, aI G (ad 1) 68 st, aI G (ad 5) 64 (splitP st L), aI G (ad 7) 8 u_1, aI G (ad 8) 64 (nF (orT L)), aI G (ad 9) 64 (nF (rnkM L))] _ := hP
  have hD : va_D A [oM h ad 0 sts hs len at_ num many, aI G (ad 1) 68 st, aI G (ad 5) 64 (splitP st L), aI G (ad 7) 8 u_1, aI G (ad 8) 64 (nF (orT L)), aI G (ad 9) 64 (nF (rnkM L))] := hD
  have h_2 : r_2 = (bI (inB t (nI 0) (nI 63))) := h_2
  rw [h_2]
  refine B_if_eq (tgt := 33) hx hb dX9_partByCode_16 (by decide) (fun c_16 => ?_) (fun c_16 => ?_)
  · skip
    refine lv_aload_n hx hb dX9_partByCode_33 rfl (lv_at hl 0 rfl) ?_
    refine lv_iconst (v := nI 1) hx hb dX9_partByCode_34 (by decide) ?_
    refine fin_i (ws' := (fun (_ : Unit) => [oM h ad 1 sts hs len at_ num many, aI G (ad 1) 68 st, aI G (ad 5) 64 (splitP st L), aI G (ad 7) 8 u_1, aI G (ad 8) 64 (nF (orT L)), aI G (ad 9) 64 (nF (rnkM L))])) hA hS hP hD [0] rfl [(true, 0), (false, 1), (false, 2), (false, 3), (false, 4), (false, 5)] (fun _ => rfl) (by decide) (run_V (As := [.int (nI 1)]) (rest := []) (n9 := 1) hx hb hml hown hts hE hAb hl.1 hS hP hD [0] rfl (by decide) (t_X9_fails l G b0 _ h ad 0 sts hs len at_ num many 1 ) (lw_V q1739 q1741 qs60 q129 q1742) 0 rfl rfl ⟨rfl, by decide, by decide, by decide +kernel⟩ ⟨Nat.le_of_ble_eq_true rfl, Nat.le_of_ble_eq_true rfl⟩ ⟨by first | exact Nat.le_of_ble_eq_true rfl | (simp only [rm_X9_partByCode_1, rm_X9_fails]; omega), by first | exact Nat.le_of_ble_eq_true rfl | (simp only [rm_X9_partByCode_1, rm_X9_fails]; omega)⟩ dX9_partByCode_35 (Nat.le_of_ble_eq_true rfl) rfl rfl) (fun r_3 u_3 H locs h_3 hP hD hS => ?_)
    have hP : va_P G.1 vwCl [oM h ad 1 sts hs len at_ num many, aI G (ad 1) 68 st, aI G (ad 5) 64 (splitP st L), aI G (ad 7) 8 u_1, aI G (ad 8) 64 (nF (orT L)), aI G (ad 9) 64 (nF (rnkM L))] _ := hP
    have hD : va_D A [oM h ad 1 sts hs len at_ num many, aI G (ad 1) 68 st, aI G (ad 5) 64 (splitP st L), aI G (ad 7) 8 u_1, aI G (ad 8) 64 (nF (orT L)), aI G (ad 9) 64 (nF (rnkM L))] := hD
    have h_3 : r_3 = (nI 0) := h_3
    rw [h_3]
    have hP : va_P G.1 vwCl [oM h ad 1 sts hs len at_ num many, aI G (ad 1) 68 st, aI G (ad 5) 64 (((splitP st L, u_1, nF (orT L), nF (rnkM L))).1), aI G (ad 7) 8 (((splitP st L, u_1, nF (orT L), nF (rnkM L))).2.1), aI G (ad 8) 64 (((splitP st L, u_1, nF (orT L), nF (rnkM L))).2.2.1), aI G (ad 9) 64 (((splitP st L, u_1, nF (orT L), nF (rnkM L))).2.2.2)] _ := hP
    have hD : va_D A [oM h ad 1 sts hs len at_ num many, aI G (ad 1) 68 st, aI G (ad 5) 64 (((splitP st L, u_1, nF (orT L), nF (rnkM L))).1), aI G (ad 7) 8 (((splitP st L, u_1, nF (orT L), nF (rnkM L))).2.1), aI G (ad 8) 64 (((splitP st L, u_1, nF (orT L), nF (rnkM L))).2.2.1), aI G (ad 9) 64 (((splitP st L, u_1, nF (orT L), nF (rnkM L))).2.2.2)] := hD
    rw [hQQ]
    exact rt_i hx hb hr hlk  ((splitP st L, u_1, nF (orT L), nF (rnkM L))) dX9_partByCode_38 hP hD hS (by first | exact Nat.le_of_ble_eq_true rfl | (simp only [rm_X9_partByCode_1]; omega)) (by first | exact Nat.le_of_ble_eq_true rfl | (simp only [rm_X9_partByCode_1]; omega)) (by rfl)
  · skip
    exfalso; exact absurd (htt.symm.trans c_16) (by decide)
def rm_X9_codeLength : Room := ({ frames := 6, cells := 0, slots := 0, locals := 150 } : Room)
set_option maxHeartbeats 400000 in
set_option maxRecDepth 100000 in
theorem t_X9_codeLength (l : Launch) (G : GG) (b0 sz : Nat) (h : Nat) (ad : Nat → Nat) (thr sts : Nat) (hs : Bool) (len at_ num many : Nat) (st pa li od ot : Nat → Int32) (L : Nat) (hL1 : 1 ≤ L) (hL : L ≤ 3) (hst : st 64 = nI L) : CT l yX9_codeLength cX9_codeLength 1 (some FieldType.int) (rm_X9_codeLength) G b0 [.ref h] [oM h ad thr sts hs len at_ num many, aI G (ad 1) 68 st, aI G (ad 5) 64 pa, aI G (ad 7) 8 li, aI G (ad 8) 64 od, aI G (ad 9) 64 ot] sz (Ri G (fun (r_ : Int32) (u : (Nat → Int32) × (Nat → Int32) × (Nat → Int32) × (Nat → Int32)) => r_ = nI (lenC (splitP st L) L 0)) (fun (u : (Nat → Int32) × (Nat → Int32) × (Nat → Int32) × (Nat → Int32)) => [oM h ad 0 sts hs len at_ num many, aI G (ad 1) 68 st, aI G (ad 5) 64 u.1, aI G (ad 7) 8 u.2.1, aI G (ad 8) 64 u.2.2.1, aI G (ad 9) 64 u.2.2.2])) := by
  refine CT.go (by decide) (Nat.le_of_ble_eq_true rfl) (fun p e s m below meth c A ls AR QQ hx hb hr hlk hml hown hnm hts hE hA hAb hsz hP hD hS hl hQQ => ?_)
  have hK := hE.1
  have hown : s.vm.findClass RX9 = some m.cls := hown
  have hl : lv_has ls 1 [(0, .ref h)] := hl
  clear hsz
  refine lv_aload_n hx hb dX9_codeLength_0 rfl (lv_at hl 0 rfl) ?_
  refine lv_iconst (v := nI 0) hx hb dX9_codeLength_1 (by decide) ?_
  refine va_put (D := G.1) (ci := 8) (v := .int (nI 0)) (ty := .int) (C := RX9) (T := TX9) (N := 21) hx hb hts in_X9 tyX9 tyX9_ok nmX9 hown hK hP hD hS 0 rfl rfl 0 (by decide) (hts _ q1667) (fun _ h9 => h9) rfl (by decide +kernel) rfl rfl (Nat.le_of_ble_eq_true rfl) dX9_codeLength_2 (fun H locs hP hD hS => ?_)
  have hP : va_P G.1 vwCl [oM h ad 0 sts hs len at_ num many, aI G (ad 1) 68 st, aI G (ad 5) 64 pa, aI G (ad 7) 8 li, aI G (ad 8) 64 od, aI G (ad 9) 64 ot] _ := hP
  have hD : va_D A [oM h ad 0 sts hs len at_ num many, aI G (ad 1) 68 st, aI G (ad 5) 64 pa, aI G (ad 7) 8 li, aI G (ad 8) 64 od, aI G (ad 9) 64 ot] := hD
  refine lv_aload_n hx hb dX9_codeLength_5 rfl (lv_at hl 0 rfl) ?_
  refine fin_v (ws' := (fun (u_1 : Nat → Int32) => [oM h ad 0 sts hs len at_ num many, aI G (ad 1) 68 st, aI G (ad 5) 64 (splitP st L), aI G (ad 7) 8 u_1, aI G (ad 8) 64 (nF (orT L)), aI G (ad 9) 64 (nF (rnkM L))])) hA hS hP hD [0, 1, 2, 3, 4, 5] rfl [(true, 0), (true, 1), (true, 2), (true, 3), (true, 4), (true, 5)] (fun _ => rfl) (by decide) (run_V (As := []) (rest := []) (n9 := 0) hx hb hml hown hts hE hAb hl.1 hS hP hD [0, 1, 2, 3, 4, 5] rfl (by decide) (t_X9_layCode l G b0 _ h ad 0 sts hs len at_ num many st pa li od ot L (by omega) (by omega) (by omega)) (lw_V q1880 q1882 qs78 q129 q1883) 0 rfl rfl ⟨rfl, by decide, by decide, by decide +kernel⟩ ⟨Nat.le_of_ble_eq_true rfl, Nat.le_of_ble_eq_true rfl⟩ ⟨by first | exact Nat.le_of_ble_eq_true rfl | (simp only [rm_X9_codeLength, rm_X9_layCode]; omega), by first | exact Nat.le_of_ble_eq_true rfl | (simp only [rm_X9_codeLength, rm_X9_layCode]; omega)⟩ dX9_codeLength_6 (Nat.le_of_ble_eq_true rfl) rfl rfl) (fun u_1 H locs h_1 hP hD hS => ?_)
  have hP : va_P G.1 vwCl [oM h ad 0 sts hs len at_ num many, aI G (ad 1) 68 st, aI G (ad 5) 64 (splitP st L), aI G (ad 7) 8 u_1, aI G (ad 8) 64 (nF (orT L)), aI G (ad 9) 64 (nF (rnkM L))] _ := hP
  have hD : va_D A [oM h ad 0 sts hs len at_ num many, aI G (ad 1) 68 st, aI G (ad 5) 64 (splitP st L), aI G (ad 7) 8 u_1, aI G (ad 8) 64 (nF (orT L)), aI G (ad 9) 64 (nF (rnkM L))] := hD
  refine lv_aload_n hx hb dX9_codeLength_9 rfl (lv_at hl 0 rfl) ?_
  refine fin_i (ws' := (fun (_ : Unit) => [oM h ad 0 sts hs len at_ num many, aI G (ad 1) 68 st, aI G (ad 5) 64 (splitP st L), aI G (ad 7) 8 u_1, aI G (ad 8) 64 (nF (orT L)), aI G (ad 9) 64 (nF (rnkM L))])) hA hS hP hD [0, 2, 4] rfl [(true, 0), (false, 1), (true, 1), (false, 3), (true, 2), (false, 5)] (fun _ => rfl) (by decide) (run_V (As := []) (rest := []) (n9 := 0) hx hb hml hown hts hE hAb hl.1 hS hP hD [0, 2, 4] rfl (by decide) (t_X9_lengthOfCode l G b0 _ h ad 0 sts hs len at_ num many (splitP st L) L (by omega) (by omega)) (lw_V q1891 q1893 qs80 q129 q1894) 0 rfl rfl ⟨rfl, by decide, by decide, by decide +kernel⟩ ⟨Nat.le_of_ble_eq_true rfl, Nat.le_of_ble_eq_true rfl⟩ ⟨by first | exact Nat.le_of_ble_eq_true rfl | (simp only [rm_X9_codeLength, rm_X9_lengthOfCode]; omega), by first | exact Nat.le_of_ble_eq_true rfl | (simp only [rm_X9_codeLength, rm_X9_lengthOfCode]; omega)⟩ dX9_codeLength_10 (Nat.le_of_ble_eq_true rfl) rfl rfl) (fun r_2 u_2 H locs h_2 hP hD hS => ?_)
  have hP : va_P G.1 vwCl [oM h ad 0 sts hs len at_ num many, aI G (ad 1) 68 st, aI G (ad 5) 64 (splitP st L), aI G (ad 7) 8 u_1, aI G (ad 8) 64 (nF (orT L)), aI G (ad 9) 64 (nF (rnkM L))] _ := hP
  have hD : va_D A [oM h ad 0 sts hs len at_ num many, aI G (ad 1) 68 st, aI G (ad 5) 64 (splitP st L), aI G (ad 7) 8 u_1, aI G (ad 8) 64 (nF (orT L)), aI G (ad 9) 64 (nF (rnkM L))] := hD
  have h_2 : r_2 = (nI (lenC (splitP st L) L 0)) := h_2
  rw [h_2]
  have hP : va_P G.1 vwCl [oM h ad 0 sts hs len at_ num many, aI G (ad 1) 68 st, aI G (ad 5) 64 (((splitP st L, u_1, nF (orT L), nF (rnkM L))).1), aI G (ad 7) 8 (((splitP st L, u_1, nF (orT L), nF (rnkM L))).2.1), aI G (ad 8) 64 (((splitP st L, u_1, nF (orT L), nF (rnkM L))).2.2.1), aI G (ad 9) 64 (((splitP st L, u_1, nF (orT L), nF (rnkM L))).2.2.2)] _ := hP
  have hD : va_D A [oM h ad 0 sts hs len at_ num many, aI G (ad 1) 68 st, aI G (ad 5) 64 (((splitP st L, u_1, nF (orT L), nF (rnkM L))).1), aI G (ad 7) 8 (((splitP st L, u_1, nF (orT L), nF (rnkM L))).2.1), aI G (ad 8) 64 (((splitP st L, u_1, nF (orT L), nF (rnkM L))).2.2.1), aI G (ad 9) 64 (((splitP st L, u_1, nF (orT L), nF (rnkM L))).2.2.2)] := hD
  rw [hQQ]
  exact rt_i hx hb hr hlk  ((splitP st L, u_1, nF (orT L), nF (rnkM L))) dX9_codeLength_13 hP hD hS (by first | exact Nat.le_of_ble_eq_true rfl | (simp only [rm_X9_codeLength]; omega)) (by first | exact Nat.le_of_ble_eq_true rfl | (simp only [rm_X9_codeLength]; omega)) (by rfl)
def rm_X9_zeroRuns : Room := ({ frames := 6, cells := 0, slots := 0, locals := 150 } : Room)
set_option maxHeartbeats 400000 in
set_option maxRecDepth 100000 in
theorem t_X9_zeroRuns (l : Launch) (G : GG) (b0 sz : Nat) (h : Nat) (ad : Nat → Nat) (thr sts : Nat) (hs : Bool) (len at_ num many : Nat) (st pa li od ot : Nat → Int32) (L : Nat) (hL1 : 1 ≤ L) (hL : L ≤ 3) (hst : st 64 = nI L) : CT l yX9_zeroRuns cX9_zeroRuns 1 (some FieldType.int) (rm_X9_zeroRuns) G b0 [.ref h] [oM h ad thr sts hs len at_ num many, aI G (ad 1) 68 st, aI G (ad 5) 64 pa, aI G (ad 7) 8 li, aI G (ad 8) 64 od, aI G (ad 9) 64 ot] sz (Ri G (fun (r_ : Int32) (u : (Nat → Int32) × (Nat → Int32) × (Nat → Int32) × (Nat → Int32)) => r_ = l_sum (runI (splitP st L) L) 64) (fun (u : (Nat → Int32) × (Nat → Int32) × (Nat → Int32) × (Nat → Int32)) => [oM h ad 0 sts hs len at_ num many, aI G (ad 1) 68 st, aI G (ad 5) 64 u.1, aI G (ad 7) 8 u.2.1, aI G (ad 8) 64 u.2.2.1, aI G (ad 9) 64 u.2.2.2])) := by
  refine CT.go (by decide) (Nat.le_of_ble_eq_true rfl) (fun p e s m below meth c A ls AR QQ hx hb hr hlk hml hown hnm hts hE hA hAb hsz hP hD hS hl hQQ => ?_)
  have hK := hE.1
  have hown : s.vm.findClass RX9 = some m.cls := hown
  have hl : lv_has ls 1 [(0, .ref h)] := hl
  clear hsz
  refine lv_aload_n hx hb dX9_zeroRuns_0 rfl (lv_at hl 0 rfl) ?_
  refine lv_iconst (v := nI 0) hx hb dX9_zeroRuns_1 (by decide) ?_
  refine va_put (D := G.1) (ci := 8) (v := .int (nI 0)) (ty := .int) (C := RX9) (T := TX9) (N := 21) hx hb hts in_X9 tyX9 tyX9_ok nmX9 hown hK hP hD hS 0 rfl rfl 0 (by decide) (hts _ q1667) (fun _ h9 => h9) rfl (by decide +kernel) rfl rfl (Nat.le_of_ble_eq_true rfl) dX9_zeroRuns_2 (fun H locs hP hD hS => ?_)
  have hP : va_P G.1 vwCl [oM h ad 0 sts hs len at_ num many, aI G (ad 1) 68 st, aI G (ad 5) 64 pa, aI G (ad 7) 8 li, aI G (ad 8) 64 od, aI G (ad 9) 64 ot] _ := hP
  have hD : va_D A [oM h ad 0 sts hs len at_ num many, aI G (ad 1) 68 st, aI G (ad 5) 64 pa, aI G (ad 7) 8 li, aI G (ad 8) 64 od, aI G (ad 9) 64 ot] := hD
  refine lv_aload_n hx hb dX9_zeroRuns_5 rfl (lv_at hl 0 rfl) ?_
  refine fin_i (ws' := (fun (u_1 : Nat → Int32) => [oM h ad 0 sts hs len at_ num many, aI G (ad 1) 68 st, aI G (ad 5) 64 (splitP st L), aI G (ad 7) 8 u_1, aI G (ad 8) 64 (nF (orT L)), aI G (ad 9) 64 (nF (rnkM L))])) hA hS hP hD [0, 1, 2, 3, 4, 5] rfl [(true, 0), (true, 1), (true, 2), (true, 3), (true, 4), (true, 5)] (fun _ => rfl) (by decide) (run_V (As := []) (rest := []) (n9 := 0) hx hb hml hown hts hE hAb hl.1 hS hP hD [0, 1, 2, 3, 4, 5] rfl (by decide) (t_X9_runs l G b0 _ h ad 0 sts hs len at_ num many st pa li od ot L (by omega) (by omega) (by omega)) (lw_V q1921 q1923 qs83 q129 q1924) 0 rfl rfl ⟨rfl, by decide, by decide, by decide +kernel⟩ ⟨Nat.le_of_ble_eq_true rfl, Nat.le_of_ble_eq_true rfl⟩ ⟨by first | exact Nat.le_of_ble_eq_true rfl | (simp only [rm_X9_zeroRuns, rm_X9_runs]; omega), by first | exact Nat.le_of_ble_eq_true rfl | (simp only [rm_X9_zeroRuns, rm_X9_runs]; omega)⟩ dX9_zeroRuns_6 (Nat.le_of_ble_eq_true rfl) rfl rfl) (fun r_1 u_1 H locs h_1 hP hD hS => ?_)
  have hP : va_P G.1 vwCl [oM h ad 0 sts hs len at_ num many, aI G (ad 1) 68 st, aI G (ad 5) 64 (splitP st L), aI G (ad 7) 8 u_1, aI G (ad 8) 64 (nF (orT L)), aI G (ad 9) 64 (nF (rnkM L))] _ := hP
  have hD : va_D A [oM h ad 0 sts hs len at_ num many, aI G (ad 1) 68 st, aI G (ad 5) 64 (splitP st L), aI G (ad 7) 8 u_1, aI G (ad 8) 64 (nF (orT L)), aI G (ad 9) 64 (nF (rnkM L))] := hD
  have h_1 : r_1 = (l_sum (runI (splitP st L) L) 64) := h_1
  rw [h_1]
  have hP : va_P G.1 vwCl [oM h ad 0 sts hs len at_ num many, aI G (ad 1) 68 st, aI G (ad 5) 64 (((splitP st L, u_1, nF (orT L), nF (rnkM L))).1), aI G (ad 7) 8 (((splitP st L, u_1, nF (orT L), nF (rnkM L))).2.1), aI G (ad 8) 64 (((splitP st L, u_1, nF (orT L), nF (rnkM L))).2.2.1), aI G (ad 9) 64 (((splitP st L, u_1, nF (orT L), nF (rnkM L))).2.2.2)] _ := hP
  have hD : va_D A [oM h ad 0 sts hs len at_ num many, aI G (ad 1) 68 st, aI G (ad 5) 64 (((splitP st L, u_1, nF (orT L), nF (rnkM L))).1), aI G (ad 7) 8 (((splitP st L, u_1, nF (orT L), nF (rnkM L))).2.1), aI G (ad 8) 64 (((splitP st L, u_1, nF (orT L), nF (rnkM L))).2.2.1), aI G (ad 9) 64 (((splitP st L, u_1, nF (orT L), nF (rnkM L))).2.2.2)] := hD
  rw [hQQ]
  exact rt_i hx hb hr hlk  ((splitP st L, u_1, nF (orT L), nF (rnkM L))) dX9_zeroRuns_9 hP hD hS (by first | exact Nat.le_of_ble_eq_true rfl | (simp only [rm_X9_zeroRuns]; omega)) (by first | exact Nat.le_of_ble_eq_true rfl | (simp only [rm_X9_zeroRuns]; omega)) (by rfl)
def rm_X9_zeroShare : Room := ({ frames := 6, cells := 0, slots := 0, locals := 150 } : Room)
set_option maxHeartbeats 400000 in
set_option maxRecDepth 100000 in
theorem t_X9_zeroShare (l : Launch) (G : GG) (b0 sz : Nat) (h : Nat) (ad : Nat → Nat) (thr sts : Nat) (hs : Bool) (len at_ num many : Nat) (st pa li : Nat → Int32) (L : Nat) (hL1 : 1 ≤ L) (hL : L ≤ 3) (hst : st 64 = nI L) : CT l yX9_zeroShare cX9_zeroShare 1 (some FieldType.double) (rm_X9_zeroShare) G b0 [.ref h] [oM h ad thr sts hs len at_ num many, aI G (ad 1) 68 st, aI G (ad 5) 64 pa, aI G (ad 7) 8 li] sz (Rd G (fun (r_ : UInt64) (u : (Nat → Int32) × (Nat → Int32)) => r_ = shrD (zcN (splitP st L) 64)) (fun (u : (Nat → Int32) × (Nat → Int32)) => [oM h ad 0 sts hs len at_ num many, aI G (ad 1) 68 st, aI G (ad 5) 64 u.1, aI G (ad 7) 8 u.2])) := by
  refine CT.go (by decide) (Nat.le_of_ble_eq_true rfl) (fun p e s m below meth c A ls AR QQ hx hb hr hlk hml hown hnm hts hE hA hAb hsz hP hD hS hl hQQ => ?_)
  have hK := hE.1
  have hown : s.vm.findClass RX9 = some m.cls := hown
  have hl : lv_has ls 1 [(0, .ref h)] := hl
  clear hsz
  refine lv_aload_n hx hb dX9_zeroShare_0 rfl (lv_at hl 0 rfl) ?_
  refine lv_iconst (v := nI 0) hx hb dX9_zeroShare_1 (by decide) ?_
  refine va_put (D := G.1) (ci := 8) (v := .int (nI 0)) (ty := .int) (C := RX9) (T := TX9) (N := 21) hx hb hts in_X9 tyX9 tyX9_ok nmX9 hown hK hP hD hS 0 rfl rfl 0 (by decide) (hts _ q1667) (fun _ h9 => h9) rfl (by decide +kernel) rfl rfl (Nat.le_of_ble_eq_true rfl) dX9_zeroShare_2 (fun H locs hP hD hS => ?_)
  have hP : va_P G.1 vwCl [oM h ad 0 sts hs len at_ num many, aI G (ad 1) 68 st, aI G (ad 5) 64 pa, aI G (ad 7) 8 li] _ := hP
  have hD : va_D A [oM h ad 0 sts hs len at_ num many, aI G (ad 1) 68 st, aI G (ad 5) 64 pa, aI G (ad 7) 8 li] := hD
  refine lv_aload_n hx hb dX9_zeroShare_5 rfl (lv_at hl 0 rfl) ?_
  refine fin_d (ws' := (fun (u_1 : Nat → Int32) => [oM h ad 0 sts hs len at_ num many, aI G (ad 1) 68 st, aI G (ad 5) 64 (splitP st L), aI G (ad 7) 8 u_1])) hA hS hP hD [0, 1, 2, 3] rfl [(true, 0), (true, 1), (true, 2), (true, 3)] (fun _ => rfl) (by decide) (run_V (As := []) (rest := []) (n9 := 0) hx hb hml hown hts hE hAb hl.1 hS hP hD [0, 1, 2, 3] rfl (by decide) (t_X9_shareOfZeros l G b0 _ h ad 0 sts hs len at_ num many st pa li L (by omega) (by omega) (by omega)) (lw_V q1945 q1947 qs86 q129 q1948) 0 rfl rfl ⟨rfl, by decide, by decide, by decide +kernel⟩ ⟨Nat.le_of_ble_eq_true rfl, Nat.le_of_ble_eq_true rfl⟩ ⟨by first | exact Nat.le_of_ble_eq_true rfl | (simp only [rm_X9_zeroShare, rm_X9_shareOfZeros]; omega), by first | exact Nat.le_of_ble_eq_true rfl | (simp only [rm_X9_zeroShare, rm_X9_shareOfZeros]; omega)⟩ dX9_zeroShare_6 (Nat.le_of_ble_eq_true rfl) rfl rfl) (fun r_1 u_1 H locs h_1 hP hD hS => ?_)
  have hP : va_P G.1 vwCl [oM h ad 0 sts hs len at_ num many, aI G (ad 1) 68 st, aI G (ad 5) 64 (splitP st L), aI G (ad 7) 8 u_1] _ := hP
  have hD : va_D A [oM h ad 0 sts hs len at_ num many, aI G (ad 1) 68 st, aI G (ad 5) 64 (splitP st L), aI G (ad 7) 8 u_1] := hD
  have h_1 : r_1 = (shrD (zcN (splitP st L) 64)) := h_1
  rw [h_1]
  have hP : va_P G.1 vwCl [oM h ad 0 sts hs len at_ num many, aI G (ad 1) 68 st, aI G (ad 5) 64 (((splitP st L, u_1)).1), aI G (ad 7) 8 (((splitP st L, u_1)).2)] _ := hP
  have hD : va_D A [oM h ad 0 sts hs len at_ num many, aI G (ad 1) 68 st, aI G (ad 5) 64 (((splitP st L, u_1)).1), aI G (ad 7) 8 (((splitP st L, u_1)).2)] := hD
  rw [hQQ]
  exact rt_d hx hb hr hlk  ((splitP st L, u_1)) dX9_zeroShare_9 hP hD hS (by first | exact Nat.le_of_ble_eq_true rfl | (simp only [rm_X9_zeroShare]; omega)) (by first | exact Nat.le_of_ble_eq_true rfl | (simp only [rm_X9_zeroShare]; omega)) (by rfl)
def rm_X9_levels : Room := ({ frames := 0, cells := 0, slots := 0, locals := 0 } : Room)
set_option maxHeartbeats 400000 in
set_option maxRecDepth 100000 in
theorem t_X9_levels (l : Launch) (G : GG) (b0 sz : Nat) (h : Nat) (ad : Nat → Nat) (thr sts : Nat) (hs : Bool) (len at_ num many : Nat) (st : Nat → Int32) : CT l yX9_levels cX9_levels 1 (some FieldType.int) (rm_X9_levels) G b0 [.ref h] [oM h ad thr sts hs len at_ num many, aI G (ad 1) 68 st] sz (Ri G (fun (r_ : Int32) (_ : Unit) => r_ = st 64) (fun (_ : Unit) => [oM h ad 0 sts hs len at_ num many, aI G (ad 1) 68 st])) := by
  refine CT.go (by decide) (Nat.le_of_ble_eq_true rfl) (fun p e s m below meth c A ls AR QQ hx hb hr hlk hml hown hnm hts hE hA hAb hsz hP hD hS hl hQQ => ?_)
  have hK := hE.1
  have hown : s.vm.findClass RX9 = some m.cls := hown
  have hl : lv_has ls 1 [(0, .ref h)] := hl
  clear hsz
  refine lv_aload_n hx hb dX9_levels_0 rfl (lv_at hl 0 rfl) ?_
  refine lv_iconst (v := nI 0) hx hb dX9_levels_1 (by decide) ?_
  refine va_put (D := G.1) (ci := 8) (v := .int (nI 0)) (ty := .int) (C := RX9) (T := TX9) (N := 21) hx hb hts in_X9 tyX9 tyX9_ok nmX9 hown hK hP hD hS 0 rfl rfl 0 (by decide) (hts _ q1667) (fun _ h9 => h9) rfl (by decide +kernel) rfl rfl (Nat.le_of_ble_eq_true rfl) dX9_levels_2 (fun H locs hP hD hS => ?_)
  have hP : va_P G.1 vwCl [oM h ad 0 sts hs len at_ num many, aI G (ad 1) 68 st] _ := hP
  have hD : va_D A [oM h ad 0 sts hs len at_ num many, aI G (ad 1) 68 st] := hD
  refine lv_aload_n hx hb dX9_levels_5 rfl (lv_at hl 0 rfl) ?_
  refine va_get (D := G.1) (ci := 8) (v := .ref (ad 1)) (C := RX9) (T := TX9) (N := 21) hx hb hts in_X9 hown hK hP 0 rfl rfl 1 (by decide) (hts _ q1668) (fun _ h9 => h9) rfl dX9_levels_6 ?_
  refine lv_bipush (v := nI 64) hx hb dX9_levels_9 (by decide) ?_
  refine N_iald hx hb dX9_levels_11 hK hP 1 0 rfl rfl (by omega) (by omega) ?_
  rw [hQQ]
  exact rt_i hx hb hr hlk  (()) dX9_levels_12 hP hD hS (by first | exact Nat.le_of_ble_eq_true rfl | (simp only [rm_X9_levels]; omega)) (by first | exact Nat.le_of_ble_eq_true rfl | (simp only [rm_X9_levels]; omega)) (by rfl)
def rm_X9_allShades : Room := ({ frames := 1, cells := 0, slots := 0, locals := 22 } : Room)
set_option maxHeartbeats 400000 in
set_option maxRecDepth 100000 in
theorem t_X9_allShades (l : Launch) (G : GG) (b0 sz : Nat) (h : Nat) (ad : Nat → Nat) (thr sts : Nat) (hs : Bool) (len at_ num many : Nat) (st : Nat → Int32) : CT l yX9_allShades cX9_allShades 1 (some FieldType.int) (rm_X9_allShades) G b0 [.ref h] [oM h ad thr sts hs len at_ num many, aI G (ad 1) 68 st] sz (Ri G (fun (r_ : Int32) (_ : Unit) => r_ = l_sum st 64) (fun (_ : Unit) => [oM h ad 0 sts hs len at_ num many, aI G (ad 1) 68 st])) := by
  refine CT.go (by decide) (Nat.le_of_ble_eq_true rfl) (fun p e s m below meth c A ls AR QQ hx hb hr hlk hml hown hnm hts hE hA hAb hsz hP hD hS hl hQQ => ?_)
  have hK := hE.1
  have hown : s.vm.findClass RX9 = some m.cls := hown
  have hl : lv_has ls 1 [(0, .ref h)] := hl
  clear hsz
  refine lv_aload_n hx hb dX9_allShades_0 rfl (lv_at hl 0 rfl) ?_
  refine lv_iconst (v := nI 0) hx hb dX9_allShades_1 (by decide) ?_
  refine va_put (D := G.1) (ci := 8) (v := .int (nI 0)) (ty := .int) (C := RX9) (T := TX9) (N := 21) hx hb hts in_X9 tyX9 tyX9_ok nmX9 hown hK hP hD hS 0 rfl rfl 0 (by decide) (hts _ q1667) (fun _ h9 => h9) rfl (by decide +kernel) rfl rfl (Nat.le_of_ble_eq_true rfl) dX9_allShades_2 (fun H locs hP hD hS => ?_)
  have hP : va_P G.1 vwCl [oM h ad 0 sts hs len at_ num many, aI G (ad 1) 68 st] _ := hP
  have hD : va_D A [oM h ad 0 sts hs len at_ num many, aI G (ad 1) 68 st] := hD
  refine lv_aload_n hx hb dX9_allShades_5 rfl (lv_at hl 0 rfl) ?_
  refine fin_i (ws' := (fun (_ : Unit) => [oM h ad 0 sts hs len at_ num many, aI G (ad 1) 68 st])) hA hS hP hD [0, 1] rfl [(true, 0), (true, 1)] (fun _ => rfl) (by decide) (run_V (As := []) (rest := []) (n9 := 0) hx hb hml hown hts hE hAb hl.1 hS hP hD [0, 1] rfl (by decide) (t_X9_sumOfShades l G b0 _ h ad 0 sts hs len at_ num many st ) (lw_V q1747 q1749 qs61 q129 q1750) 0 rfl rfl ⟨rfl, by decide, by decide, by decide +kernel⟩ ⟨Nat.le_of_ble_eq_true rfl, Nat.le_of_ble_eq_true rfl⟩ ⟨by first | exact Nat.le_of_ble_eq_true rfl | (simp only [rm_X9_allShades, rm_X9_sumOfShades]; omega), by first | exact Nat.le_of_ble_eq_true rfl | (simp only [rm_X9_allShades, rm_X9_sumOfShades]; omega)⟩ dX9_allShades_6 (Nat.le_of_ble_eq_true rfl) rfl rfl) (fun r_1 u_1 H locs h_1 hP hD hS => ?_)
  have hP : va_P G.1 vwCl [oM h ad 0 sts hs len at_ num many, aI G (ad 1) 68 st] _ := hP
  have hD : va_D A [oM h ad 0 sts hs len at_ num many, aI G (ad 1) 68 st] := hD
  have h_1 : r_1 = (l_sum st 64) := h_1
  rw [h_1]
  rw [hQQ]
  exact rt_i hx hb hr hlk  (()) dX9_allShades_9 hP hD hS (by first | exact Nat.le_of_ble_eq_true rfl | (simp only [rm_X9_allShades]; omega)) (by first | exact Nat.le_of_ble_eq_true rfl | (simp only [rm_X9_allShades]; omega)) (by rfl)
def rm_X9_codeBit_0 : Room := ({ frames := 6, cells := 0, slots := 0, locals := 150 } : Room)
set_option maxHeartbeats 400000 in
set_option maxRecDepth 100000 in
theorem t_X9_codeBit_0 (l : Launch) (G : GG) (b0 sz : Nat) (h : Nat) (ad : Nat → Nat) (thr sts : Nat) (hs : Bool) (len at_ num many : Nat) (st pa li od ot : Nat → Int32) (L w : Nat) (hL1 : 1 ≤ L) (hL : L ≤ 3) (hst : st 64 = nI L) (hw : w < 2147483648) (hbt : ¬ bitS (splitP st L) L w 0 = -1) : CT l yX9_codeBit cX9_codeBit 3 (some FieldType.int) (rm_X9_codeBit_0) G b0 [.ref h, .int (nI w)] [oM h ad thr sts hs len at_ num many, aI G (ad 1) 68 st, aI G (ad 5) 64 pa, aI G (ad 7) 8 li, aI G (ad 8) 64 od, aI G (ad 9) 64 ot] sz (Ri G (fun (r_ : Int32) (u : (Nat → Int32) × (Nat → Int32) × (Nat → Int32) × (Nat → Int32)) => r_ = bitS (splitP st L) L w 0) (fun (u : (Nat → Int32) × (Nat → Int32) × (Nat → Int32) × (Nat → Int32)) => [oM h ad 0 sts hs len at_ num many, aI G (ad 1) 68 st, aI G (ad 5) 64 u.1, aI G (ad 7) 8 u.2.1, aI G (ad 8) 64 u.2.2.1, aI G (ad 9) 64 u.2.2.2])) := by
  refine CT.go (by decide) (Nat.le_of_ble_eq_true rfl) (fun p e s m below meth c A ls AR QQ hx hb hr hlk hml hown hnm hts hE hA hAb hsz hP hD hS hl hQQ => ?_)
  have hK := hE.1
  have hown : s.vm.findClass RX9 = some m.cls := hown
  have hl : lv_has ls 3 [(0, .ref h), (1, .int (nI w))] := hl
  clear hsz
  refine lv_aload_n hx hb dX9_codeBit_0 rfl (lv_at hl 0 rfl) ?_
  refine lv_iconst (v := nI 0) hx hb dX9_codeBit_1 (by decide) ?_
  refine va_put (D := G.1) (ci := 8) (v := .int (nI 0)) (ty := .int) (C := RX9) (T := TX9) (N := 21) hx hb hts in_X9 tyX9 tyX9_ok nmX9 hown hK hP hD hS 0 rfl rfl 0 (by decide) (hts _ q1667) (fun _ h9 => h9) rfl (by decide +kernel) rfl rfl (Nat.le_of_ble_eq_true rfl) dX9_codeBit_2 (fun H locs hP hD hS => ?_)
  have hP : va_P G.1 vwCl [oM h ad 0 sts hs len at_ num many, aI G (ad 1) 68 st, aI G (ad 5) 64 pa, aI G (ad 7) 8 li, aI G (ad 8) 64 od, aI G (ad 9) 64 ot] _ := hP
  have hD : va_D A [oM h ad 0 sts hs len at_ num many, aI G (ad 1) 68 st, aI G (ad 5) 64 pa, aI G (ad 7) 8 li, aI G (ad 8) 64 od, aI G (ad 9) 64 ot] := hD
  refine lv_aload_n hx hb dX9_codeBit_5 rfl (lv_at hl 0 rfl) ?_
  refine fin_v (ws' := (fun (u_1 : Nat → Int32) => [oM h ad 0 sts hs len at_ num many, aI G (ad 1) 68 st, aI G (ad 5) 64 (splitP st L), aI G (ad 7) 8 u_1, aI G (ad 8) 64 (nF (orT L)), aI G (ad 9) 64 (nF (rnkM L))])) hA hS hP hD [0, 1, 2, 3, 4, 5] rfl [(true, 0), (true, 1), (true, 2), (true, 3), (true, 4), (true, 5)] (fun _ => rfl) (by decide) (run_V (As := []) (rest := []) (n9 := 0) hx hb hml hown hts hE hAb hl.1 hS hP hD [0, 1, 2, 3, 4, 5] rfl (by decide) (t_X9_layCode l G b0 _ h ad 0 sts hs len at_ num many st pa li od ot L (by omega) (by omega) (by omega)) (lw_V q1880 q1882 qs78 q129 q1883) 0 rfl rfl ⟨rfl, by decide, by decide, by decide +kernel⟩ ⟨Nat.le_of_ble_eq_true rfl, Nat.le_of_ble_eq_true rfl⟩ ⟨by first | exact Nat.le_of_ble_eq_true rfl | (simp only [rm_X9_codeBit_0, rm_X9_layCode]; omega), by first | exact Nat.le_of_ble_eq_true rfl | (simp only [rm_X9_codeBit_0, rm_X9_layCode]; omega)⟩ dX9_codeBit_6 (Nat.le_of_ble_eq_true rfl) rfl rfl) (fun u_1 H locs h_1 hP hD hS => ?_)
  have hP : va_P G.1 vwCl [oM h ad 0 sts hs len at_ num many, aI G (ad 1) 68 st, aI G (ad 5) 64 (splitP st L), aI G (ad 7) 8 u_1, aI G (ad 8) 64 (nF (orT L)), aI G (ad 9) 64 (nF (rnkM L))] _ := hP
  have hD : va_D A [oM h ad 0 sts hs len at_ num many, aI G (ad 1) 68 st, aI G (ad 5) 64 (splitP st L), aI G (ad 7) 8 u_1, aI G (ad 8) 64 (nF (orT L)), aI G (ad 9) 64 (nF (rnkM L))] := hD
  refine lv_iload_n hx hb dX9_codeBit_9 rfl (lv_at hl 1 rfl) ?_
  refine N_if_ge (tgt := 17) hx hb dX9_codeBit_10 (by decide) (by omega) ?_
  refine lv_aload_n hx hb dX9_codeBit_17 rfl (lv_at hl 0 rfl) ?_
  refine lv_iload_n hx hb dX9_codeBit_18 rfl (lv_at hl 1 rfl) ?_
  refine fin_i (ws' := (fun (_ : Unit) => [oM h ad 0 sts hs len at_ num many, aI G (ad 1) 68 st, aI G (ad 5) 64 (splitP st L), aI G (ad 7) 8 u_1, aI G (ad 8) 64 (nF (orT L)), aI G (ad 9) 64 (nF (rnkM L))])) hA hS hP hD [0, 2, 4] rfl [(true, 0), (false, 1), (true, 1), (false, 3), (true, 2), (false, 5)] (fun _ => rfl) (by decide) (run_V (As := [.int (nI w)]) (rest := []) (n9 := 1) hx hb hml hown hts hE hAb hl.1 hS hP hD [0, 2, 4] rfl (by decide) (t_X9_bitAt l G b0 _ h ad 0 sts hs len at_ num many (splitP st L) w L (by omega) (by omega) (by omega)) (lw_V q1906 q1908 qs82 q129 q1909) 0 rfl rfl ⟨rfl, by decide, by decide, by decide +kernel⟩ ⟨Nat.le_of_ble_eq_true rfl, Nat.le_of_ble_eq_true rfl⟩ ⟨by first | exact Nat.le_of_ble_eq_true rfl | (simp only [rm_X9_codeBit_0, rm_X9_bitAt]; omega), by first | exact Nat.le_of_ble_eq_true rfl | (simp only [rm_X9_codeBit_0, rm_X9_bitAt]; omega)⟩ dX9_codeBit_19 (Nat.le_of_ble_eq_true rfl) rfl rfl) (fun r_2 u_2 H locs h_2 hP hD hS => ?_)
  have hP : va_P G.1 vwCl [oM h ad 0 sts hs len at_ num many, aI G (ad 1) 68 st, aI G (ad 5) 64 (splitP st L), aI G (ad 7) 8 u_1, aI G (ad 8) 64 (nF (orT L)), aI G (ad 9) 64 (nF (rnkM L))] _ := hP
  have hD : va_D A [oM h ad 0 sts hs len at_ num many, aI G (ad 1) 68 st, aI G (ad 5) 64 (splitP st L), aI G (ad 7) 8 u_1, aI G (ad 8) 64 (nF (orT L)), aI G (ad 9) 64 (nF (rnkM L))] := hD
  have h_2 : r_2 = (bitS (splitP st L) L w 0) := h_2
  rw [h_2]
  refine lv_istore_n (lv' := [(2, .int (bitS (splitP st L) L w 0)), (0, .ref h), (1, .int (nI w))]) hx hb dX9_codeBit_22 rfl hl (by decide) rfl (fun ls hl => ?_)
  refine lv_iload_n hx hb dX9_codeBit_23 rfl (lv_at hl 0 rfl) ?_
  refine lv_iconst (v := (-1)) hx hb dX9_codeBit_24 (by decide) ?_
  refine lv_icmp_ne (tgt := 36) hx hb dX9_codeBit_25 (by decide) (fun c_25 => ?_) (fun c_25 => ?_)
  · skip
    refine lv_iload_n hx hb dX9_codeBit_36 rfl (lv_at hl 0 rfl) ?_
    have hP : va_P G.1 vwCl [oM h ad 0 sts hs len at_ num many, aI G (ad 1) 68 st, aI G (ad 5) 64 (((splitP st L, u_1, nF (orT L), nF (rnkM L))).1), aI G (ad 7) 8 (((splitP st L, u_1, nF (orT L), nF (rnkM L))).2.1), aI G (ad 8) 64 (((splitP st L, u_1, nF (orT L), nF (rnkM L))).2.2.1), aI G (ad 9) 64 (((splitP st L, u_1, nF (orT L), nF (rnkM L))).2.2.2)] _ := hP
    have hD : va_D A [oM h ad 0 sts hs len at_ num many, aI G (ad 1) 68 st, aI G (ad 5) 64 (((splitP st L, u_1, nF (orT L), nF (rnkM L))).1), aI G (ad 7) 8 (((splitP st L, u_1, nF (orT L), nF (rnkM L))).2.1), aI G (ad 8) 64 (((splitP st L, u_1, nF (orT L), nF (rnkM L))).2.2.1), aI G (ad 9) 64 (((splitP st L, u_1, nF (orT L), nF (rnkM L))).2.2.2)] := hD
    rw [hQQ]
    exact rt_i hx hb hr hlk  ((splitP st L, u_1, nF (orT L), nF (rnkM L))) dX9_codeBit_37 hP hD hS (by first | exact Nat.le_of_ble_eq_true rfl | (simp only [rm_X9_codeBit_0]; omega)) (by first | exact Nat.le_of_ble_eq_true rfl | (simp only [rm_X9_codeBit_0]; omega)) (by rfl)
  · skip
    exfalso; exact hbt c_25
def rm_X9_codeBit_1b : Room := ({ frames := 6, cells := 0, slots := 0, locals := 150 } : Room)
set_option maxHeartbeats 400000 in
set_option maxRecDepth 100000 in
theorem t_X9_codeBit_1b (l : Launch) (G : GG) (b0 sz : Nat) (h : Nat) (ad : Nat → Nat) (thr sts : Nat) (hs : Bool) (len at_ num many : Nat) (st pa li od ot : Nat → Int32) (L w : Nat) (hL1 : 1 ≤ L) (hL : L ≤ 3) (hst : st 64 = nI L) (hw : w < 2147483648) (hbt : bitS (splitP st L) L w 0 = -1) : CT l yX9_codeBit cX9_codeBit 3 (some FieldType.int) (rm_X9_codeBit_1b) G b0 [.ref h, .int (nI w)] [oM h ad thr sts hs len at_ num many, aI G (ad 1) 68 st, aI G (ad 5) 64 pa, aI G (ad 7) 8 li, aI G (ad 8) 64 od, aI G (ad 9) 64 ot] sz (Ri G (fun (r_ : Int32) (u : (Nat → Int32) × (Nat → Int32) × (Nat → Int32) × (Nat → Int32)) => r_ = nI 0) (fun (u : (Nat → Int32) × (Nat → Int32) × (Nat → Int32) × (Nat → Int32)) => [oM h ad 1 sts hs len at_ num many, aI G (ad 1) 68 st, aI G (ad 5) 64 u.1, aI G (ad 7) 8 u.2.1, aI G (ad 8) 64 u.2.2.1, aI G (ad 9) 64 u.2.2.2])) := by
  refine CT.go (by decide) (Nat.le_of_ble_eq_true rfl) (fun p e s m below meth c A ls AR QQ hx hb hr hlk hml hown hnm hts hE hA hAb hsz hP hD hS hl hQQ => ?_)
  have hK := hE.1
  have hown : s.vm.findClass RX9 = some m.cls := hown
  have hl : lv_has ls 3 [(0, .ref h), (1, .int (nI w))] := hl
  clear hsz
  refine lv_aload_n hx hb dX9_codeBit_0 rfl (lv_at hl 0 rfl) ?_
  refine lv_iconst (v := nI 0) hx hb dX9_codeBit_1 (by decide) ?_
  refine va_put (D := G.1) (ci := 8) (v := .int (nI 0)) (ty := .int) (C := RX9) (T := TX9) (N := 21) hx hb hts in_X9 tyX9 tyX9_ok nmX9 hown hK hP hD hS 0 rfl rfl 0 (by decide) (hts _ q1667) (fun _ h9 => h9) rfl (by decide +kernel) rfl rfl (Nat.le_of_ble_eq_true rfl) dX9_codeBit_2 (fun H locs hP hD hS => ?_)
  have hP : va_P G.1 vwCl [oM h ad 0 sts hs len at_ num many, aI G (ad 1) 68 st, aI G (ad 5) 64 pa, aI G (ad 7) 8 li, aI G (ad 8) 64 od, aI G (ad 9) 64 ot] _ := hP
  have hD : va_D A [oM h ad 0 sts hs len at_ num many, aI G (ad 1) 68 st, aI G (ad 5) 64 pa, aI G (ad 7) 8 li, aI G (ad 8) 64 od, aI G (ad 9) 64 ot] := hD
  refine lv_aload_n hx hb dX9_codeBit_5 rfl (lv_at hl 0 rfl) ?_
  refine fin_v (ws' := (fun (u_1 : Nat → Int32) => [oM h ad 0 sts hs len at_ num many, aI G (ad 1) 68 st, aI G (ad 5) 64 (splitP st L), aI G (ad 7) 8 u_1, aI G (ad 8) 64 (nF (orT L)), aI G (ad 9) 64 (nF (rnkM L))])) hA hS hP hD [0, 1, 2, 3, 4, 5] rfl [(true, 0), (true, 1), (true, 2), (true, 3), (true, 4), (true, 5)] (fun _ => rfl) (by decide) (run_V (As := []) (rest := []) (n9 := 0) hx hb hml hown hts hE hAb hl.1 hS hP hD [0, 1, 2, 3, 4, 5] rfl (by decide) (t_X9_layCode l G b0 _ h ad 0 sts hs len at_ num many st pa li od ot L (by omega) (by omega) (by omega)) (lw_V q1880 q1882 qs78 q129 q1883) 0 rfl rfl ⟨rfl, by decide, by decide, by decide +kernel⟩ ⟨Nat.le_of_ble_eq_true rfl, Nat.le_of_ble_eq_true rfl⟩ ⟨by first | exact Nat.le_of_ble_eq_true rfl | (simp only [rm_X9_codeBit_1b, rm_X9_layCode]; omega), by first | exact Nat.le_of_ble_eq_true rfl | (simp only [rm_X9_codeBit_1b, rm_X9_layCode]; omega)⟩ dX9_codeBit_6 (Nat.le_of_ble_eq_true rfl) rfl rfl) (fun u_1 H locs h_1 hP hD hS => ?_)
  have hP : va_P G.1 vwCl [oM h ad 0 sts hs len at_ num many, aI G (ad 1) 68 st, aI G (ad 5) 64 (splitP st L), aI G (ad 7) 8 u_1, aI G (ad 8) 64 (nF (orT L)), aI G (ad 9) 64 (nF (rnkM L))] _ := hP
  have hD : va_D A [oM h ad 0 sts hs len at_ num many, aI G (ad 1) 68 st, aI G (ad 5) 64 (splitP st L), aI G (ad 7) 8 u_1, aI G (ad 8) 64 (nF (orT L)), aI G (ad 9) 64 (nF (rnkM L))] := hD
  refine lv_iload_n hx hb dX9_codeBit_9 rfl (lv_at hl 1 rfl) ?_
  refine N_if_ge (tgt := 17) hx hb dX9_codeBit_10 (by decide) (by omega) ?_
  refine lv_aload_n hx hb dX9_codeBit_17 rfl (lv_at hl 0 rfl) ?_
  refine lv_iload_n hx hb dX9_codeBit_18 rfl (lv_at hl 1 rfl) ?_
  refine fin_i (ws' := (fun (_ : Unit) => [oM h ad 0 sts hs len at_ num many, aI G (ad 1) 68 st, aI G (ad 5) 64 (splitP st L), aI G (ad 7) 8 u_1, aI G (ad 8) 64 (nF (orT L)), aI G (ad 9) 64 (nF (rnkM L))])) hA hS hP hD [0, 2, 4] rfl [(true, 0), (false, 1), (true, 1), (false, 3), (true, 2), (false, 5)] (fun _ => rfl) (by decide) (run_V (As := [.int (nI w)]) (rest := []) (n9 := 1) hx hb hml hown hts hE hAb hl.1 hS hP hD [0, 2, 4] rfl (by decide) (t_X9_bitAt l G b0 _ h ad 0 sts hs len at_ num many (splitP st L) w L (by omega) (by omega) (by omega)) (lw_V q1906 q1908 qs82 q129 q1909) 0 rfl rfl ⟨rfl, by decide, by decide, by decide +kernel⟩ ⟨Nat.le_of_ble_eq_true rfl, Nat.le_of_ble_eq_true rfl⟩ ⟨by first | exact Nat.le_of_ble_eq_true rfl | (simp only [rm_X9_codeBit_1b, rm_X9_bitAt]; omega), by first | exact Nat.le_of_ble_eq_true rfl | (simp only [rm_X9_codeBit_1b, rm_X9_bitAt]; omega)⟩ dX9_codeBit_19 (Nat.le_of_ble_eq_true rfl) rfl rfl) (fun r_2 u_2 H locs h_2 hP hD hS => ?_)
  have hP : va_P G.1 vwCl [oM h ad 0 sts hs len at_ num many, aI G (ad 1) 68 st, aI G (ad 5) 64 (splitP st L), aI G (ad 7) 8 u_1, aI G (ad 8) 64 (nF (orT L)), aI G (ad 9) 64 (nF (rnkM L))] _ := hP
  have hD : va_D A [oM h ad 0 sts hs len at_ num many, aI G (ad 1) 68 st, aI G (ad 5) 64 (splitP st L), aI G (ad 7) 8 u_1, aI G (ad 8) 64 (nF (orT L)), aI G (ad 9) 64 (nF (rnkM L))] := hD
  have h_2 : r_2 = (bitS (splitP st L) L w 0) := h_2
  rw [h_2]
  refine lv_istore_n (lv' := [(2, .int (bitS (splitP st L) L w 0)), (0, .ref h), (1, .int (nI w))]) hx hb dX9_codeBit_22 rfl hl (by decide) rfl (fun ls hl => ?_)
  refine lv_iload_n hx hb dX9_codeBit_23 rfl (lv_at hl 0 rfl) ?_
  refine lv_iconst (v := (-1)) hx hb dX9_codeBit_24 (by decide) ?_
  refine lv_icmp_ne (tgt := 36) hx hb dX9_codeBit_25 (by decide) (fun c_25 => ?_) (fun c_25 => ?_)
  · skip
    exfalso; exact c_25 hbt
  · skip
    refine lv_aload_n hx hb dX9_codeBit_28 rfl (lv_at hl 1 rfl) ?_
    refine lv_iconst (v := nI 1) hx hb dX9_codeBit_29 (by decide) ?_
    refine fin_i (ws' := (fun (_ : Unit) => [oM h ad 1 sts hs len at_ num many, aI G (ad 1) 68 st, aI G (ad 5) 64 (splitP st L), aI G (ad 7) 8 u_1, aI G (ad 8) 64 (nF (orT L)), aI G (ad 9) 64 (nF (rnkM L))])) hA hS hP hD [0] rfl [(true, 0), (false, 1), (false, 2), (false, 3), (false, 4), (false, 5)] (fun _ => rfl) (by decide) (run_V (As := [.int (nI 1)]) (rest := []) (n9 := 1) hx hb hml hown hts hE hAb hl.1 hS hP hD [0] rfl (by decide) (t_X9_fails l G b0 _ h ad 0 sts hs len at_ num many 1 ) (lw_V q1739 q1741 qs60 q129 q1742) 0 rfl rfl ⟨rfl, by decide, by decide, by decide +kernel⟩ ⟨Nat.le_of_ble_eq_true rfl, Nat.le_of_ble_eq_true rfl⟩ ⟨by first | exact Nat.le_of_ble_eq_true rfl | (simp only [rm_X9_codeBit_1b, rm_X9_fails]; omega), by first | exact Nat.le_of_ble_eq_true rfl | (simp only [rm_X9_codeBit_1b, rm_X9_fails]; omega)⟩ dX9_codeBit_30 (Nat.le_of_ble_eq_true rfl) rfl rfl) (fun r_3 u_3 H locs h_3 hP hD hS => ?_)
    have hP : va_P G.1 vwCl [oM h ad 1 sts hs len at_ num many, aI G (ad 1) 68 st, aI G (ad 5) 64 (splitP st L), aI G (ad 7) 8 u_1, aI G (ad 8) 64 (nF (orT L)), aI G (ad 9) 64 (nF (rnkM L))] _ := hP
    have hD : va_D A [oM h ad 1 sts hs len at_ num many, aI G (ad 1) 68 st, aI G (ad 5) 64 (splitP st L), aI G (ad 7) 8 u_1, aI G (ad 8) 64 (nF (orT L)), aI G (ad 9) 64 (nF (rnkM L))] := hD
    have h_3 : r_3 = (nI 0) := h_3
    rw [h_3]
    refine lv_goto (tgt := 37) hx hb dX9_codeBit_33 (by decide) ?_
    have hP : va_P G.1 vwCl [oM h ad 1 sts hs len at_ num many, aI G (ad 1) 68 st, aI G (ad 5) 64 (((splitP st L, u_1, nF (orT L), nF (rnkM L))).1), aI G (ad 7) 8 (((splitP st L, u_1, nF (orT L), nF (rnkM L))).2.1), aI G (ad 8) 64 (((splitP st L, u_1, nF (orT L), nF (rnkM L))).2.2.1), aI G (ad 9) 64 (((splitP st L, u_1, nF (orT L), nF (rnkM L))).2.2.2)] _ := hP
    have hD : va_D A [oM h ad 1 sts hs len at_ num many, aI G (ad 1) 68 st, aI G (ad 5) 64 (((splitP st L, u_1, nF (orT L), nF (rnkM L))).1), aI G (ad 7) 8 (((splitP st L, u_1, nF (orT L), nF (rnkM L))).2.1), aI G (ad 8) 64 (((splitP st L, u_1, nF (orT L), nF (rnkM L))).2.2.1), aI G (ad 9) 64 (((splitP st L, u_1, nF (orT L), nF (rnkM L))).2.2.2)] := hD
    rw [hQQ]
    exact rt_i hx hb hr hlk  ((splitP st L, u_1, nF (orT L), nF (rnkM L))) dX9_codeBit_37 hP hD hS (by first | exact Nat.le_of_ble_eq_true rfl | (simp only [rm_X9_codeBit_1b]; omega)) (by first | exact Nat.le_of_ble_eq_true rfl | (simp only [rm_X9_codeBit_1b]; omega)) (by rfl)
def rm_X9_codeBit_1a : Room := ({ frames := 6, cells := 0, slots := 0, locals := 150 } : Room)
set_option maxHeartbeats 400000 in
set_option maxRecDepth 100000 in
theorem t_X9_codeBit_1a (l : Launch) (G : GG) (b0 sz : Nat) (h : Nat) (ad : Nat → Nat) (thr sts : Nat) (hs : Bool) (len at_ num many : Nat) (st pa li od ot : Nat → Int32) (L : Nat) (t : Int32) (hL1 : 1 ≤ L) (hL : L ≤ 3) (hst : st 64 = nI L) (htt : t < 0) : CT l yX9_codeBit cX9_codeBit 3 (some FieldType.int) (rm_X9_codeBit_1a) G b0 [.ref h, .int t] [oM h ad thr sts hs len at_ num many, aI G (ad 1) 68 st, aI G (ad 5) 64 pa, aI G (ad 7) 8 li, aI G (ad 8) 64 od, aI G (ad 9) 64 ot] sz (Ri G (fun (r_ : Int32) (u : (Nat → Int32) × (Nat → Int32) × (Nat → Int32) × (Nat → Int32)) => r_ = nI 0) (fun (u : (Nat → Int32) × (Nat → Int32) × (Nat → Int32) × (Nat → Int32)) => [oM h ad 1 sts hs len at_ num many, aI G (ad 1) 68 st, aI G (ad 5) 64 u.1, aI G (ad 7) 8 u.2.1, aI G (ad 8) 64 u.2.2.1, aI G (ad 9) 64 u.2.2.2])) := by
  refine CT.go (by decide) (Nat.le_of_ble_eq_true rfl) (fun p e s m below meth c A ls AR QQ hx hb hr hlk hml hown hnm hts hE hA hAb hsz hP hD hS hl hQQ => ?_)
  have hK := hE.1
  have hown : s.vm.findClass RX9 = some m.cls := hown
  have hl : lv_has ls 3 [(0, .ref h), (1, .int t)] := hl
  clear hsz
  refine lv_aload_n hx hb dX9_codeBit_0 rfl (lv_at hl 0 rfl) ?_
  refine lv_iconst (v := nI 0) hx hb dX9_codeBit_1 (by decide) ?_
  refine va_put (D := G.1) (ci := 8) (v := .int (nI 0)) (ty := .int) (C := RX9) (T := TX9) (N := 21) hx hb hts in_X9 tyX9 tyX9_ok nmX9 hown hK hP hD hS 0 rfl rfl 0 (by decide) (hts _ q1667) (fun _ h9 => h9) rfl (by decide +kernel) rfl rfl (Nat.le_of_ble_eq_true rfl) dX9_codeBit_2 (fun H locs hP hD hS => ?_)
  have hP : va_P G.1 vwCl [oM h ad 0 sts hs len at_ num many, aI G (ad 1) 68 st, aI G (ad 5) 64 pa, aI G (ad 7) 8 li, aI G (ad 8) 64 od, aI G (ad 9) 64 ot] _ := hP
  have hD : va_D A [oM h ad 0 sts hs len at_ num many, aI G (ad 1) 68 st, aI G (ad 5) 64 pa, aI G (ad 7) 8 li, aI G (ad 8) 64 od, aI G (ad 9) 64 ot] := hD
  refine lv_aload_n hx hb dX9_codeBit_5 rfl (lv_at hl 0 rfl) ?_
  refine fin_v (ws' := (fun (u_1 : Nat → Int32) => [oM h ad 0 sts hs len at_ num many, aI G (ad 1) 68 st, aI G (ad 5) 64 (splitP st L), aI G (ad 7) 8 u_1, aI G (ad 8) 64 (nF (orT L)), aI G (ad 9) 64 (nF (rnkM L))])) hA hS hP hD [0, 1, 2, 3, 4, 5] rfl [(true, 0), (true, 1), (true, 2), (true, 3), (true, 4), (true, 5)] (fun _ => rfl) (by decide) (run_V (As := []) (rest := []) (n9 := 0) hx hb hml hown hts hE hAb hl.1 hS hP hD [0, 1, 2, 3, 4, 5] rfl (by decide) (t_X9_layCode l G b0 _ h ad 0 sts hs len at_ num many st pa li od ot L (by omega) (by omega) (by omega)) (lw_V q1880 q1882 qs78 q129 q1883) 0 rfl rfl ⟨rfl, by decide, by decide, by decide +kernel⟩ ⟨Nat.le_of_ble_eq_true rfl, Nat.le_of_ble_eq_true rfl⟩ ⟨by first | exact Nat.le_of_ble_eq_true rfl | (simp only [rm_X9_codeBit_1a, rm_X9_layCode]; omega), by first | exact Nat.le_of_ble_eq_true rfl | (simp only [rm_X9_codeBit_1a, rm_X9_layCode]; omega)⟩ dX9_codeBit_6 (Nat.le_of_ble_eq_true rfl) rfl rfl) (fun u_1 H locs h_1 hP hD hS => ?_)
  have hP : va_P G.1 vwCl [oM h ad 0 sts hs len at_ num many, aI G (ad 1) 68 st, aI G (ad 5) 64 (splitP st L), aI G (ad 7) 8 u_1, aI G (ad 8) 64 (nF (orT L)), aI G (ad 9) 64 (nF (rnkM L))] _ := hP
  have hD : va_D A [oM h ad 0 sts hs len at_ num many, aI G (ad 1) 68 st, aI G (ad 5) 64 (splitP st L), aI G (ad 7) 8 u_1, aI G (ad 8) 64 (nF (orT L)), aI G (ad 9) 64 (nF (rnkM L))] := hD
  refine lv_iload_n hx hb dX9_codeBit_9 rfl (lv_at hl 1 rfl) ?_
  refine lv_if_ge (tgt := 17) hx hb dX9_codeBit_10 (by decide) (fun c_10 => ?_) (fun c_10 => ?_)
  · skip
    exfalso; exact absurd htt (Int32.not_lt.mpr c_10)
  · skip
    refine lv_iconst (v := (-1)) hx hb dX9_codeBit_13 (by decide) ?_
    refine lv_goto (tgt := 22) hx hb dX9_codeBit_14 (by decide) ?_
    refine lv_istore_n (lv' := [(2, .int ((-1))), (0, .ref h), (1, .int t)]) hx hb dX9_codeBit_22 rfl hl (by decide) rfl (fun ls hl => ?_)
    refine lv_iload_n hx hb dX9_codeBit_23 rfl (lv_at hl 0 rfl) ?_
    refine lv_iconst (v := (-1)) hx hb dX9_codeBit_24 (by decide) ?_
    refine lv_icmp_ne (tgt := 36) hx hb dX9_codeBit_25 (by decide) (fun c_25 => ?_) (fun c_25 => ?_)
    · skip
      exfalso; exact c_25 rfl
    · skip
      refine lv_aload_n hx hb dX9_codeBit_28 rfl (lv_at hl 1 rfl) ?_
      refine lv_iconst (v := nI 1) hx hb dX9_codeBit_29 (by decide) ?_
      refine fin_i (ws' := (fun (_ : Unit) => [oM h ad 1 sts hs len at_ num many, aI G (ad 1) 68 st, aI G (ad 5) 64 (splitP st L), aI G (ad 7) 8 u_1, aI G (ad 8) 64 (nF (orT L)), aI G (ad 9) 64 (nF (rnkM L))])) hA hS hP hD [0] rfl [(true, 0), (false, 1), (false, 2), (false, 3), (false, 4), (false, 5)] (fun _ => rfl) (by decide) (run_V (As := [.int (nI 1)]) (rest := []) (n9 := 1) hx hb hml hown hts hE hAb hl.1 hS hP hD [0] rfl (by decide) (t_X9_fails l G b0 _ h ad 0 sts hs len at_ num many 1 ) (lw_V q1739 q1741 qs60 q129 q1742) 0 rfl rfl ⟨rfl, by decide, by decide, by decide +kernel⟩ ⟨Nat.le_of_ble_eq_true rfl, Nat.le_of_ble_eq_true rfl⟩ ⟨by first | exact Nat.le_of_ble_eq_true rfl | (simp only [rm_X9_codeBit_1a, rm_X9_fails]; omega), by first | exact Nat.le_of_ble_eq_true rfl | (simp only [rm_X9_codeBit_1a, rm_X9_fails]; omega)⟩ dX9_codeBit_30 (Nat.le_of_ble_eq_true rfl) rfl rfl) (fun r_2 u_2 H locs h_2 hP hD hS => ?_)
      have hP : va_P G.1 vwCl [oM h ad 1 sts hs len at_ num many, aI G (ad 1) 68 st, aI G (ad 5) 64 (splitP st L), aI G (ad 7) 8 u_1, aI G (ad 8) 64 (nF (orT L)), aI G (ad 9) 64 (nF (rnkM L))] _ := hP
      have hD : va_D A [oM h ad 1 sts hs len at_ num many, aI G (ad 1) 68 st, aI G (ad 5) 64 (splitP st L), aI G (ad 7) 8 u_1, aI G (ad 8) 64 (nF (orT L)), aI G (ad 9) 64 (nF (rnkM L))] := hD
      have h_2 : r_2 = (nI 0) := h_2
      rw [h_2]
      refine lv_goto (tgt := 37) hx hb dX9_codeBit_33 (by decide) ?_
      have hP : va_P G.1 vwCl [oM h ad 1 sts hs len at_ num many, aI G (ad 1) 68 st, aI G (ad 5) 64 (((splitP st L, u_1, nF (orT L), nF (rnkM L))).1), aI G (ad 7) 8 (((splitP st L, u_1, nF (orT L), nF (rnkM L))).2.1), aI G (ad 8) 64 (((splitP st L, u_1, nF (orT L), nF (rnkM L))).2.2.1), aI G (ad 9) 64 (((splitP st L, u_1, nF (orT L), nF (rnkM L))).2.2.2)] _ := hP
      have hD : va_D A [oM h ad 1 sts hs len at_ num many, aI G (ad 1) 68 st, aI G (ad 5) 64 (((splitP st L, u_1, nF (orT L), nF (rnkM L))).1), aI G (ad 7) 8 (((splitP st L, u_1, nF (orT L), nF (rnkM L))).2.1), aI G (ad 8) 64 (((splitP st L, u_1, nF (orT L), nF (rnkM L))).2.2.1), aI G (ad 9) 64 (((splitP st L, u_1, nF (orT L), nF (rnkM L))).2.2.2)] := hD
      rw [hQQ]
      exact rt_i hx hb hr hlk  ((splitP st L, u_1, nF (orT L), nF (rnkM L))) dX9_codeBit_37 hP hD hS (by first | exact Nat.le_of_ble_eq_true rfl | (simp only [rm_X9_codeBit_1a]; omega)) (by first | exact Nat.le_of_ble_eq_true rfl | (simp only [rm_X9_codeBit_1a]; omega)) (by rfl)
def rm_X9_shade_0 : Room := ({ frames := 2, cells := 0, slots := 0, locals := 45 } : Room)
set_option maxHeartbeats 400000 in
set_option maxRecDepth 100000 in
theorem t_X9_shade_0 (l : Launch) (G : GG) (b0 sz : Nat) (h : Nat) (ad : Nat → Nat) (thr sts : Nat) (hs : Bool) (len at_ num many : Nat) (st : Nat → Int32) (r c_ : Nat) (hr_ : r < 8) (hc_ : c_ < 8) : CT l yX9_shade cX9_shade 3 (some FieldType.int) (rm_X9_shade_0) G b0 [.ref h, .int (nI r), .int (nI c_)] [oM h ad thr sts hs len at_ num many, aI G (ad 1) 68 st] sz (Ri G (fun (r_ : Int32) (_ : Unit) => r_ = st (8 * r + c_)) (fun (_ : Unit) => [oM h ad 0 sts hs len at_ num many, aI G (ad 1) 68 st])) := by
  refine CT.go (by decide) (Nat.le_of_ble_eq_true rfl) (fun p e s m below meth c A ls AR QQ hx hb hr hlk hml hown hnm hts hE hA hAb hsz hP hD hS hl hQQ => ?_)
  have hK := hE.1
  have hown : s.vm.findClass RX9 = some m.cls := hown
  have hl : lv_has ls 3 [(0, .ref h), (1, .int (nI r)), (2, .int (nI c_))] := hl
  clear hsz
  refine lv_aload_n hx hb dX9_shade_0 rfl (lv_at hl 0 rfl) ?_
  refine lv_iconst (v := nI 0) hx hb dX9_shade_1 (by decide) ?_
  refine va_put (D := G.1) (ci := 8) (v := .int (nI 0)) (ty := .int) (C := RX9) (T := TX9) (N := 21) hx hb hts in_X9 tyX9 tyX9_ok nmX9 hown hK hP hD hS 0 rfl rfl 0 (by decide) (hts _ q1667) (fun _ h9 => h9) rfl (by decide +kernel) rfl rfl (Nat.le_of_ble_eq_true rfl) dX9_shade_2 (fun H locs hP hD hS => ?_)
  have hP : va_P G.1 vwCl [oM h ad 0 sts hs len at_ num many, aI G (ad 1) 68 st] _ := hP
  have hD : va_D A [oM h ad 0 sts hs len at_ num many, aI G (ad 1) 68 st] := hD
  refine lv_iload_n hx hb dX9_shade_5 rfl (lv_at hl 1 rfl) ?_
  refine lv_iload_n hx hb dX9_shade_6 rfl (lv_at hl 2 rfl) ?_
  refine fin_i (ws' := (fun (_ : Unit) => [oM h ad 0 sts hs len at_ num many, aI G (ad 1) 68 st])) hA hS hP hD [] rfl [(false, 0), (false, 1)] (fun _ => rfl) (by decide) (run_S (As := [.int (nI r), .int (nI c_)]) (rest := []) (n9 := 2) hx hb hml hown hts hE hAb hl.1 hS hP hD [] rfl (by decide) (t_X9_isCell l G b0 _ (nI r) (nI c_) ) (lw_S q1873 q1874 q129 q1875) ⟨by decide, by decide, by decide +kernel⟩ ⟨Nat.le_of_ble_eq_true rfl, Nat.le_of_ble_eq_true rfl⟩ ⟨by first | exact Nat.le_of_ble_eq_true rfl | (simp only [rm_X9_shade_0, rm_X9_isCell]; omega), by first | exact Nat.le_of_ble_eq_true rfl | (simp only [rm_X9_shade_0, rm_X9_isCell]; omega)⟩ dX9_shade_7 (Nat.le_of_ble_eq_true rfl) rfl rfl) (fun r_1 u_1 H locs h_1 hP hD hS => ?_)
  have hP : va_P G.1 vwCl [oM h ad 0 sts hs len at_ num many, aI G (ad 1) 68 st] _ := hP
  have hD : va_D A [oM h ad 0 sts hs len at_ num many, aI G (ad 1) 68 st] := hD
  have h_1 : r_1 = (bI (isCe (nI r) (nI c_))) := h_1
  rw [h_1]
  refine B_if_eq (tgt := 27) hx hb dX9_shade_10 (by decide) (fun c_10 => ?_) (fun c_10 => ?_)
  · skip
    exfalso; exact absurd ((isCe_n hr_ hc_).symm.trans c_10) (by decide)
  · skip
    refine lv_aload_n hx hb dX9_shade_13 rfl (lv_at hl 0 rfl) ?_
    refine va_get (D := G.1) (ci := 8) (v := .ref (ad 1)) (C := RX9) (T := TX9) (N := 21) hx hb hts in_X9 hown hK hP 0 rfl rfl 1 (by decide) (hts _ q1668) (fun _ h9 => h9) rfl dX9_shade_14 ?_
    refine lv_bipush (v := nI 8) hx hb dX9_shade_17 (by decide) ?_
    refine lv_iload_n hx hb dX9_shade_19 rfl (lv_at hl 1 rfl) ?_
    refine N_imul hx hb dX9_shade_20 ?_
    refine lv_iload_n hx hb dX9_shade_21 rfl (lv_at hl 2 rfl) ?_
    refine N_iadd hx hb dX9_shade_22 ?_
    refine N_iald hx hb dX9_shade_23 hK hP 1 0 rfl rfl (by omega) (by omega) ?_
    refine lv_goto (tgt := 32) hx hb dX9_shade_24 (by decide) ?_
    rw [hQQ]
    exact rt_i hx hb hr hlk  (()) dX9_shade_32 hP hD hS (by first | exact Nat.le_of_ble_eq_true rfl | (simp only [rm_X9_shade_0]; omega)) (by first | exact Nat.le_of_ble_eq_true rfl | (simp only [rm_X9_shade_0]; omega)) (by rfl)
def rm_X9_shade_1 : Room := ({ frames := 2, cells := 0, slots := 0, locals := 45 } : Room)
set_option maxHeartbeats 400000 in
set_option maxRecDepth 100000 in
theorem t_X9_shade_1 (l : Launch) (G : GG) (b0 sz : Nat) (h : Nat) (ad : Nat → Nat) (thr sts : Nat) (hs : Bool) (len at_ num many : Nat) (st : Nat → Int32) (r c_ : Int32) (hce : isCe r c_ = false) : CT l yX9_shade cX9_shade 3 (some FieldType.int) (rm_X9_shade_1) G b0 [.ref h, .int r, .int c_] [oM h ad thr sts hs len at_ num many, aI G (ad 1) 68 st] sz (Ri G (fun (r_ : Int32) (_ : Unit) => r_ = nI 0) (fun (_ : Unit) => [oM h ad 1 sts hs len at_ num many, aI G (ad 1) 68 st])) := by
  refine CT.go (by decide) (Nat.le_of_ble_eq_true rfl) (fun p e s m below meth c A ls AR QQ hx hb hr hlk hml hown hnm hts hE hA hAb hsz hP hD hS hl hQQ => ?_)
  have hK := hE.1
  have hown : s.vm.findClass RX9 = some m.cls := hown
  have hl : lv_has ls 3 [(0, .ref h), (1, .int r), (2, .int c_)] := hl
  clear hsz
  refine lv_aload_n hx hb dX9_shade_0 rfl (lv_at hl 0 rfl) ?_
  refine lv_iconst (v := nI 0) hx hb dX9_shade_1 (by decide) ?_
  refine va_put (D := G.1) (ci := 8) (v := .int (nI 0)) (ty := .int) (C := RX9) (T := TX9) (N := 21) hx hb hts in_X9 tyX9 tyX9_ok nmX9 hown hK hP hD hS 0 rfl rfl 0 (by decide) (hts _ q1667) (fun _ h9 => h9) rfl (by decide +kernel) rfl rfl (Nat.le_of_ble_eq_true rfl) dX9_shade_2 (fun H locs hP hD hS => ?_)
  have hP : va_P G.1 vwCl [oM h ad 0 sts hs len at_ num many, aI G (ad 1) 68 st] _ := hP
  have hD : va_D A [oM h ad 0 sts hs len at_ num many, aI G (ad 1) 68 st] := hD
  refine lv_iload_n hx hb dX9_shade_5 rfl (lv_at hl 1 rfl) ?_
  refine lv_iload_n hx hb dX9_shade_6 rfl (lv_at hl 2 rfl) ?_
  refine fin_i (ws' := (fun (_ : Unit) => [oM h ad 0 sts hs len at_ num many, aI G (ad 1) 68 st])) hA hS hP hD [] rfl [(false, 0), (false, 1)] (fun _ => rfl) (by decide) (run_S (As := [.int r, .int c_]) (rest := []) (n9 := 2) hx hb hml hown hts hE hAb hl.1 hS hP hD [] rfl (by decide) (t_X9_isCell l G b0 _ r c_ ) (lw_S q1873 q1874 q129 q1875) ⟨by decide, by decide, by decide +kernel⟩ ⟨Nat.le_of_ble_eq_true rfl, Nat.le_of_ble_eq_true rfl⟩ ⟨by first | exact Nat.le_of_ble_eq_true rfl | (simp only [rm_X9_shade_1, rm_X9_isCell]; omega), by first | exact Nat.le_of_ble_eq_true rfl | (simp only [rm_X9_shade_1, rm_X9_isCell]; omega)⟩ dX9_shade_7 (Nat.le_of_ble_eq_true rfl) rfl rfl) (fun r_1 u_1 H locs h_1 hP hD hS => ?_)
  have hP : va_P G.1 vwCl [oM h ad 0 sts hs len at_ num many, aI G (ad 1) 68 st] _ := hP
  have hD : va_D A [oM h ad 0 sts hs len at_ num many, aI G (ad 1) 68 st] := hD
  have h_1 : r_1 = (bI (isCe r c_)) := h_1
  rw [h_1]
  refine B_if_eq (tgt := 27) hx hb dX9_shade_10 (by decide) (fun c_10 => ?_) (fun c_10 => ?_)
  · skip
    refine lv_aload_n hx hb dX9_shade_27 rfl (lv_at hl 0 rfl) ?_
    refine lv_iconst (v := nI 1) hx hb dX9_shade_28 (by decide) ?_
    refine fin_i (ws' := (fun (_ : Unit) => [oM h ad 1 sts hs len at_ num many, aI G (ad 1) 68 st])) hA hS hP hD [0] rfl [(true, 0), (false, 1)] (fun _ => rfl) (by decide) (run_V (As := [.int (nI 1)]) (rest := []) (n9 := 1) hx hb hml hown hts hE hAb hl.1 hS hP hD [0] rfl (by decide) (t_X9_fails l G b0 _ h ad 0 sts hs len at_ num many 1 ) (lw_V q1739 q1741 qs60 q129 q1742) 0 rfl rfl ⟨rfl, by decide, by decide, by decide +kernel⟩ ⟨Nat.le_of_ble_eq_true rfl, Nat.le_of_ble_eq_true rfl⟩ ⟨by first | exact Nat.le_of_ble_eq_true rfl | (simp only [rm_X9_shade_1, rm_X9_fails]; omega), by first | exact Nat.le_of_ble_eq_true rfl | (simp only [rm_X9_shade_1, rm_X9_fails]; omega)⟩ dX9_shade_29 (Nat.le_of_ble_eq_true rfl) rfl rfl) (fun r_2 u_2 H locs h_2 hP hD hS => ?_)
    have hP : va_P G.1 vwCl [oM h ad 1 sts hs len at_ num many, aI G (ad 1) 68 st] _ := hP
    have hD : va_D A [oM h ad 1 sts hs len at_ num many, aI G (ad 1) 68 st] := hD
    have h_2 : r_2 = (nI 0) := h_2
    rw [h_2]
    rw [hQQ]
    exact rt_i hx hb hr hlk  (()) dX9_shade_32 hP hD hS (by first | exact Nat.le_of_ble_eq_true rfl | (simp only [rm_X9_shade_1]; omega)) (by first | exact Nat.le_of_ble_eq_true rfl | (simp only [rm_X9_shade_1]; omega)) (by rfl)
  · skip
    exfalso; exact absurd (hce.symm.trans c_10) (by decide)
def rm_X9_part_0 : Room := ({ frames := 6, cells := 0, slots := 0, locals := 150 } : Room)
set_option maxHeartbeats 400000 in
set_option maxRecDepth 100000 in
theorem t_X9_part_0 (l : Launch) (G : GG) (b0 sz : Nat) (h : Nat) (ad : Nat → Nat) (thr sts : Nat) (hs : Bool) (len at_ num many : Nat) (st pa li : Nat → Int32) (r c_ : Nat) (L : Nat) (hr_ : r < 8) (hc_ : c_ < 8) (hL1 : 1 ≤ L) (hL : L ≤ 3) (hst : st 64 = nI L) : CT l yX9_part cX9_part 3 (some FieldType.int) (rm_X9_part_0) G b0 [.ref h, .int (nI r), .int (nI c_)] [oM h ad thr sts hs len at_ num many, aI G (ad 1) 68 st, aI G (ad 5) 64 pa, aI G (ad 7) 8 li] sz (Ri G (fun (r_ : Int32) (u : (Nat → Int32) × (Nat → Int32)) => r_ = splitP st L (8 * r + c_)) (fun (u : (Nat → Int32) × (Nat → Int32)) => [oM h ad 0 sts hs len at_ num many, aI G (ad 1) 68 st, aI G (ad 5) 64 u.1, aI G (ad 7) 8 u.2])) := by
  refine CT.go (by decide) (Nat.le_of_ble_eq_true rfl) (fun p e s m below meth c A ls AR QQ hx hb hr hlk hml hown hnm hts hE hA hAb hsz hP hD hS hl hQQ => ?_)
  have hK := hE.1
  have hown : s.vm.findClass RX9 = some m.cls := hown
  have hl : lv_has ls 3 [(0, .ref h), (1, .int (nI r)), (2, .int (nI c_))] := hl
  clear hsz
  refine lv_aload_n hx hb dX9_part_0 rfl (lv_at hl 0 rfl) ?_
  refine lv_iconst (v := nI 0) hx hb dX9_part_1 (by decide) ?_
  refine va_put (D := G.1) (ci := 8) (v := .int (nI 0)) (ty := .int) (C := RX9) (T := TX9) (N := 21) hx hb hts in_X9 tyX9 tyX9_ok nmX9 hown hK hP hD hS 0 rfl rfl 0 (by decide) (hts _ q1667) (fun _ h9 => h9) rfl (by decide +kernel) rfl rfl (Nat.le_of_ble_eq_true rfl) dX9_part_2 (fun H locs hP hD hS => ?_)
  have hP : va_P G.1 vwCl [oM h ad 0 sts hs len at_ num many, aI G (ad 1) 68 st, aI G (ad 5) 64 pa, aI G (ad 7) 8 li] _ := hP
  have hD : va_D A [oM h ad 0 sts hs len at_ num many, aI G (ad 1) 68 st, aI G (ad 5) 64 pa, aI G (ad 7) 8 li] := hD
  refine lv_aload_n hx hb dX9_part_5 rfl (lv_at hl 0 rfl) ?_
  refine fin_v (ws' := (fun (u_1 : Nat → Int32) => [oM h ad 0 sts hs len at_ num many, aI G (ad 1) 68 st, aI G (ad 5) 64 (splitP st L), aI G (ad 7) 8 u_1])) hA hS hP hD [0, 1, 2, 3] rfl [(true, 0), (true, 1), (true, 2), (true, 3)] (fun _ => rfl) (by decide) (run_V (As := []) (rest := []) (n9 := 0) hx hb hml hown hts hE hAb hl.1 hS hP hD [0, 1, 2, 3] rfl (by decide) (t_X9_split l G b0 _ h ad 0 sts hs len at_ num many st pa li L (by omega) (by omega) (by omega)) (lw_V q1777 q1779 qs64 q129 q1780) 0 rfl rfl ⟨rfl, by decide, by decide, by decide +kernel⟩ ⟨Nat.le_of_ble_eq_true rfl, Nat.le_of_ble_eq_true rfl⟩ ⟨by first | exact Nat.le_of_ble_eq_true rfl | (simp only [rm_X9_part_0, rm_X9_split]; omega), by first | exact Nat.le_of_ble_eq_true rfl | (simp only [rm_X9_part_0, rm_X9_split]; omega)⟩ dX9_part_6 (Nat.le_of_ble_eq_true rfl) rfl rfl) (fun u_1 H locs h_1 hP hD hS => ?_)
  have hP : va_P G.1 vwCl [oM h ad 0 sts hs len at_ num many, aI G (ad 1) 68 st, aI G (ad 5) 64 (splitP st L), aI G (ad 7) 8 u_1] _ := hP
  have hD : va_D A [oM h ad 0 sts hs len at_ num many, aI G (ad 1) 68 st, aI G (ad 5) 64 (splitP st L), aI G (ad 7) 8 u_1] := hD
  refine lv_iload_n hx hb dX9_part_9 rfl (lv_at hl 1 rfl) ?_
  refine lv_iload_n hx hb dX9_part_10 rfl (lv_at hl 2 rfl) ?_
  refine fin_i (ws' := (fun (_ : Unit) => [oM h ad 0 sts hs len at_ num many, aI G (ad 1) 68 st, aI G (ad 5) 64 (splitP st L), aI G (ad 7) 8 u_1])) hA hS hP hD [] rfl [(false, 0), (false, 1), (false, 2), (false, 3)] (fun _ => rfl) (by decide) (run_S (As := [.int (nI r), .int (nI c_)]) (rest := []) (n9 := 2) hx hb hml hown hts hE hAb hl.1 hS hP hD [] rfl (by decide) (t_X9_isCell l G b0 _ (nI r) (nI c_) ) (lw_S q1873 q1874 q129 q1875) ⟨by decide, by decide, by decide +kernel⟩ ⟨Nat.le_of_ble_eq_true rfl, Nat.le_of_ble_eq_true rfl⟩ ⟨by first | exact Nat.le_of_ble_eq_true rfl | (simp only [rm_X9_part_0, rm_X9_isCell]; omega), by first | exact Nat.le_of_ble_eq_true rfl | (simp only [rm_X9_part_0, rm_X9_isCell]; omega)⟩ dX9_part_11 (Nat.le_of_ble_eq_true rfl) rfl rfl) (fun r_2 u_2 H locs h_2 hP hD hS => ?_)
  have hP : va_P G.1 vwCl [oM h ad 0 sts hs len at_ num many, aI G (ad 1) 68 st, aI G (ad 5) 64 (splitP st L), aI G (ad 7) 8 u_1] _ := hP
  have hD : va_D A [oM h ad 0 sts hs len at_ num many, aI G (ad 1) 68 st, aI G (ad 5) 64 (splitP st L), aI G (ad 7) 8 u_1] := hD
  have h_2 : r_2 = (bI (isCe (nI r) (nI c_))) := h_2
  rw [h_2]
  refine B_if_eq (tgt := 31) hx hb dX9_part_14 (by decide) (fun c_14 => ?_) (fun c_14 => ?_)
  · skip
    exfalso; exact absurd ((isCe_n hr_ hc_).symm.trans c_14) (by decide)
  · skip
    refine lv_aload_n hx hb dX9_part_17 rfl (lv_at hl 0 rfl) ?_
    refine va_get (D := G.1) (ci := 8) (v := .ref (ad 5)) (C := RX9) (T := TX9) (N := 21) hx hb hts in_X9 hown hK hP 0 rfl rfl 8 (by decide) (hts _ q1675) (fun _ h9 => h9) rfl dX9_part_18 ?_
    refine lv_bipush (v := nI 8) hx hb dX9_part_21 (by decide) ?_
    refine lv_iload_n hx hb dX9_part_23 rfl (lv_at hl 1 rfl) ?_
    refine N_imul hx hb dX9_part_24 ?_
    refine lv_iload_n hx hb dX9_part_25 rfl (lv_at hl 2 rfl) ?_
    refine N_iadd hx hb dX9_part_26 ?_
    refine N_iald hx hb dX9_part_27 hK hP 2 0 rfl rfl (by omega) (by omega) ?_
    refine lv_goto (tgt := 36) hx hb dX9_part_28 (by decide) ?_
    have hP : va_P G.1 vwCl [oM h ad 0 sts hs len at_ num many, aI G (ad 1) 68 st, aI G (ad 5) 64 (((splitP st L, u_1)).1), aI G (ad 7) 8 (((splitP st L, u_1)).2)] _ := hP
    have hD : va_D A [oM h ad 0 sts hs len at_ num many, aI G (ad 1) 68 st, aI G (ad 5) 64 (((splitP st L, u_1)).1), aI G (ad 7) 8 (((splitP st L, u_1)).2)] := hD
    rw [hQQ]
    exact rt_i hx hb hr hlk  ((splitP st L, u_1)) dX9_part_36 hP hD hS (by first | exact Nat.le_of_ble_eq_true rfl | (simp only [rm_X9_part_0]; omega)) (by first | exact Nat.le_of_ble_eq_true rfl | (simp only [rm_X9_part_0]; omega)) (by rfl)
def rm_X9_part_1 : Room := ({ frames := 6, cells := 0, slots := 0, locals := 150 } : Room)
set_option maxHeartbeats 400000 in
set_option maxRecDepth 100000 in
theorem t_X9_part_1 (l : Launch) (G : GG) (b0 sz : Nat) (h : Nat) (ad : Nat → Nat) (thr sts : Nat) (hs : Bool) (len at_ num many : Nat) (st pa li : Nat → Int32) (r c_ : Int32) (L : Nat) (hce : isCe r c_ = false) (hL1 : 1 ≤ L) (hL : L ≤ 3) (hst : st 64 = nI L) : CT l yX9_part cX9_part 3 (some FieldType.int) (rm_X9_part_1) G b0 [.ref h, .int r, .int c_] [oM h ad thr sts hs len at_ num many, aI G (ad 1) 68 st, aI G (ad 5) 64 pa, aI G (ad 7) 8 li] sz (Ri G (fun (r_ : Int32) (u : (Nat → Int32) × (Nat → Int32)) => r_ = nI 0) (fun (u : (Nat → Int32) × (Nat → Int32)) => [oM h ad 1 sts hs len at_ num many, aI G (ad 1) 68 st, aI G (ad 5) 64 u.1, aI G (ad 7) 8 u.2])) := by
  refine CT.go (by decide) (Nat.le_of_ble_eq_true rfl) (fun p e s m below meth c A ls AR QQ hx hb hr hlk hml hown hnm hts hE hA hAb hsz hP hD hS hl hQQ => ?_)
  have hK := hE.1
  have hown : s.vm.findClass RX9 = some m.cls := hown
  have hl : lv_has ls 3 [(0, .ref h), (1, .int r), (2, .int c_)] := hl
  clear hsz
  refine lv_aload_n hx hb dX9_part_0 rfl (lv_at hl 0 rfl) ?_
  refine lv_iconst (v := nI 0) hx hb dX9_part_1 (by decide) ?_
  refine va_put (D := G.1) (ci := 8) (v := .int (nI 0)) (ty := .int) (C := RX9) (T := TX9) (N := 21) hx hb hts in_X9 tyX9 tyX9_ok nmX9 hown hK hP hD hS 0 rfl rfl 0 (by decide) (hts _ q1667) (fun _ h9 => h9) rfl (by decide +kernel) rfl rfl (Nat.le_of_ble_eq_true rfl) dX9_part_2 (fun H locs hP hD hS => ?_)
  have hP : va_P G.1 vwCl [oM h ad 0 sts hs len at_ num many, aI G (ad 1) 68 st, aI G (ad 5) 64 pa, aI G (ad 7) 8 li] _ := hP
  have hD : va_D A [oM h ad 0 sts hs len at_ num many, aI G (ad 1) 68 st, aI G (ad 5) 64 pa, aI G (ad 7) 8 li] := hD
  refine lv_aload_n hx hb dX9_part_5 rfl (lv_at hl 0 rfl) ?_
  refine fin_v (ws' := (fun (u_1 : Nat → Int32) => [oM h ad 0 sts hs len at_ num many, aI G (ad 1) 68 st, aI G (ad 5) 64 (splitP st L), aI G (ad 7) 8 u_1])) hA hS hP hD [0, 1, 2, 3] rfl [(true, 0), (true, 1), (true, 2), (true, 3)] (fun _ => rfl) (by decide) (run_V (As := []) (rest := []) (n9 := 0) hx hb hml hown hts hE hAb hl.1 hS hP hD [0, 1, 2, 3] rfl (by decide) (t_X9_split l G b0 _ h ad 0 sts hs len at_ num many st pa li L (by omega) (by omega) (by omega)) (lw_V q1777 q1779 qs64 q129 q1780) 0 rfl rfl ⟨rfl, by decide, by decide, by decide +kernel⟩ ⟨Nat.le_of_ble_eq_true rfl, Nat.le_of_ble_eq_true rfl⟩ ⟨by first | exact Nat.le_of_ble_eq_true rfl | (simp only [rm_X9_part_1, rm_X9_split]; omega), by first | exact Nat.le_of_ble_eq_true rfl | (simp only [rm_X9_part_1, rm_X9_split]; omega)⟩ dX9_part_6 (Nat.le_of_ble_eq_true rfl) rfl rfl) (fun u_1 H locs h_1 hP hD hS => ?_)
  have hP : va_P G.1 vwCl [oM h ad 0 sts hs len at_ num many, aI G (ad 1) 68 st, aI G (ad 5) 64 (splitP st L), aI G (ad 7) 8 u_1] _ := hP
  have hD : va_D A [oM h ad 0 sts hs len at_ num many, aI G (ad 1) 68 st, aI G (ad 5) 64 (splitP st L), aI G (ad 7) 8 u_1] := hD
  refine lv_iload_n hx hb dX9_part_9 rfl (lv_at hl 1 rfl) ?_
  refine lv_iload_n hx hb dX9_part_10 rfl (lv_at hl 2 rfl) ?_
  refine fin_i (ws' := (fun (_ : Unit) => [oM h ad 0 sts hs len at_ num many, aI G (ad 1) 68 st, aI G (ad 5) 64 (splitP st L), aI G (ad 7) 8 u_1])) hA hS hP hD [] rfl [(false, 0), (false, 1), (false, 2), (false, 3)] (fun _ => rfl) (by decide) (run_S (As := [.int r, .int c_]) (rest := []) (n9 := 2) hx hb hml hown hts hE hAb hl.1 hS hP hD [] rfl (by decide) (t_X9_isCell l G b0 _ r c_ ) (lw_S q1873 q1874 q129 q1875) ⟨by decide, by decide, by decide +kernel⟩ ⟨Nat.le_of_ble_eq_true rfl, Nat.le_of_ble_eq_true rfl⟩ ⟨by first | exact Nat.le_of_ble_eq_true rfl | (simp only [rm_X9_part_1, rm_X9_isCell]; omega), by first | exact Nat.le_of_ble_eq_true rfl | (simp only [rm_X9_part_1, rm_X9_isCell]; omega)⟩ dX9_part_11 (Nat.le_of_ble_eq_true rfl) rfl rfl) (fun r_2 u_2 H locs h_2 hP hD hS => ?_)
  have hP : va_P G.1 vwCl [oM h ad 0 sts hs len at_ num many, aI G (ad 1) 68 st, aI G (ad 5) 64 (splitP st L), aI G (ad 7) 8 u_1] _ := hP
  have hD : va_D A [oM h ad 0 sts hs len at_ num many, aI G (ad 1) 68 st, aI G (ad 5) 64 (splitP st L), aI G (ad 7) 8 u_1] := hD
  have h_2 : r_2 = (bI (isCe r c_)) := h_2
  rw [h_2]
  refine B_if_eq (tgt := 31) hx hb dX9_part_14 (by decide) (fun c_14 => ?_) (fun c_14 => ?_)
  · skip
    refine lv_aload_n hx hb dX9_part_31 rfl (lv_at hl 0 rfl) ?_
    refine lv_iconst (v := nI 1) hx hb dX9_part_32 (by decide) ?_
    refine fin_i (ws' := (fun (_ : Unit) => [oM h ad 1 sts hs len at_ num many, aI G (ad 1) 68 st, aI G (ad 5) 64 (splitP st L), aI G (ad 7) 8 u_1])) hA hS hP hD [0] rfl [(true, 0), (false, 1), (false, 2), (false, 3)] (fun _ => rfl) (by decide) (run_V (As := [.int (nI 1)]) (rest := []) (n9 := 1) hx hb hml hown hts hE hAb hl.1 hS hP hD [0] rfl (by decide) (t_X9_fails l G b0 _ h ad 0 sts hs len at_ num many 1 ) (lw_V q1739 q1741 qs60 q129 q1742) 0 rfl rfl ⟨rfl, by decide, by decide, by decide +kernel⟩ ⟨Nat.le_of_ble_eq_true rfl, Nat.le_of_ble_eq_true rfl⟩ ⟨by first | exact Nat.le_of_ble_eq_true rfl | (simp only [rm_X9_part_1, rm_X9_fails]; omega), by first | exact Nat.le_of_ble_eq_true rfl | (simp only [rm_X9_part_1, rm_X9_fails]; omega)⟩ dX9_part_33 (Nat.le_of_ble_eq_true rfl) rfl rfl) (fun r_3 u_3 H locs h_3 hP hD hS => ?_)
    have hP : va_P G.1 vwCl [oM h ad 1 sts hs len at_ num many, aI G (ad 1) 68 st, aI G (ad 5) 64 (splitP st L), aI G (ad 7) 8 u_1] _ := hP
    have hD : va_D A [oM h ad 1 sts hs len at_ num many, aI G (ad 1) 68 st, aI G (ad 5) 64 (splitP st L), aI G (ad 7) 8 u_1] := hD
    have h_3 : r_3 = (nI 0) := h_3
    rw [h_3]
    have hP : va_P G.1 vwCl [oM h ad 1 sts hs len at_ num many, aI G (ad 1) 68 st, aI G (ad 5) 64 (((splitP st L, u_1)).1), aI G (ad 7) 8 (((splitP st L, u_1)).2)] _ := hP
    have hD : va_D A [oM h ad 1 sts hs len at_ num many, aI G (ad 1) 68 st, aI G (ad 5) 64 (((splitP st L, u_1)).1), aI G (ad 7) 8 (((splitP st L, u_1)).2)] := hD
    rw [hQQ]
    exact rt_i hx hb hr hlk  ((splitP st L, u_1)) dX9_part_36 hP hD hS (by first | exact Nat.le_of_ble_eq_true rfl | (simp only [rm_X9_part_1]; omega)) (by first | exact Nat.le_of_ble_eq_true rfl | (simp only [rm_X9_part_1]; omega)) (by rfl)
  · skip
    exfalso; exact absurd (hce.symm.trans c_14) (by decide)
