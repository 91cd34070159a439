/-! ===== the component: parts, crumbs, costs ===== -/
abbrev oC (h : Nat) (ad : Nat → Nat) (sn : Value) (hsh : Int64) : Nat × va_E := oX h 0 [.ref (ad 1), .ref (ad 2), .ref (ad 3), .ref (ad 4), .ref (ad 5), .ref (ad 6), .ref (ad 7), .ref (ad 8), .ref (ad 9), sn, .ref (ad 10), .long hsh]
def orF (ad : Nat → Nat) : Nat → Option Nat := fun j => some (ad (16 + j))
theorem orF_at {ad : Nat → Nat} {L : Nat} (h : 1 ≤ L) : orF ad (L - 1) = some (ad (15 + L)) := by
  unfold orF
  rw [show 16 + (L - 1) = 15 + L by omega]
def bnT (L k : Nat) : Nat := bndM k L
theorem bnT_le {L k : Nat} (h1 : 1 ≤ L) (h3 : L ≤ 3) : bnT L k ≤ 9 := bndM_le h1 h3
def crmV (L : Nat) (t : Int32) (k : Nat) (v : Int32) : Bool := if isDf L k = true then (if v = 0 then false else (if t < sizI v then false else true)) else false
theorem crm_1 {L k : Nat} {t v : Int32} (a : 0 < bnT L k) (b : ¬ v = 0) (c : ¬ t < absI v) : nI 1 = bI (crmV L t k v) := by
  rw [absI_siz] at c
  unfold crmV isDf
  rw [if_pos (show decide (0 < bndM k L) = true from decide_eq_true a), if_neg b, if_neg c]
  rfl
theorem crm_a {L k : Nat} {t v : Int32} (a : bnT L k = 0) : nI 0 = bI (crmV L t k v) := by
  unfold crmV isDf
  rw [if_neg (by rw [decide_eq_true_eq]; show ¬ 0 < bnT L k; omega)]
  rfl
theorem crm_b {L k : Nat} {t v : Int32} (b : v = 0) : nI 0 = bI (crmV L t k v) := by
  unfold crmV
  rw [if_pos b]
  split <;> rfl
theorem crm_c {L k : Nat} {t v : Int32} (c : t < absI v) : nI 0 = bI (crmV L t k v) := by
  rw [absI_siz] at c
  unfold crmV
  rw [if_pos c]
  split
  · split <;> rfl
  · rfl
theorem clp {x : Int32} : maxI (nI 0) (minI (nI 255) x) = clampI x := by
  unfold maxI minI clampI
  by_cases c : x < nI 255
  · rw [if_pos c]
    by_cases d : nI 0 < x
    · rw [if_pos d, if_pos (show (0 : Int32) ≤ x from Int32.le_of_lt d), if_pos (Int32.le_of_lt c)]
    · rw [if_neg d]
      by_cases e : 0 ≤ x
      · rw [if_pos e, if_pos (Int32.le_of_lt c)]
        exact (Int32.le_antisymm (Int32.not_lt.mp d) e).symm
      · rw [if_neg e]
  · rw [if_neg c, if_pos (by decide)]
    have h1 : nI 255 ≤ x := Int32.not_lt.mp c
    have h0 : 0 ≤ x := Int32.le_trans (by decide) h1
    rw [if_pos h0]
    by_cases e : x ≤ nI 255
    · rw [if_pos e]
      exact Int32.le_antisymm h1 e
    · rw [if_neg e]
theorem cos_nx {b s : Nat → Int32} {k : Nat} : l_sum (cosF b s) k + absI (b k - s k) = l_sum (cosF b s) (k + 1) := by
  rw [absI_siz]
  rfl
theorem wrs_nx {b s : Nat → Int32} {k : Nat} : maxI (wrsI (cosF b s) k) (absI (b k - s k)) = wrsI (cosF b s) (k + 1) := by
  rw [absI_siz]
  show (if wrsI (cosF b s) k < cosF b s k then cosF b s k else wrsI (cosF b s) k) = (if cosF b s k ≤ wrsI (cosF b s) k then wrsI (cosF b s) k else cosF b s k)
  by_cases c : wrsI (cosF b s) k < cosF b s k
  · rw [if_pos c, if_neg (Int32.not_le.mpr c)]
  · rw [if_neg c, if_pos (Int32.not_lt.mp c)]
theorem crm_nx {p : Nat → Bool} {k : Nat} : cntN p k + (if p k = true then 1 else 0) = cntN p (k + 1) := rfl
theorem bst_nx {L : Nat} {b : Int32} {s : Nat → Int32} {k : Nat} (h : 1 ≤ k) (c : ¬ costI L (nI k) s ≤ b) : bstN L b s (k - 1 + 1) = bstN L b s (k + 1) := by
  rw [show k - 1 + 1 = k by omega]
  show _ = (if _ then _ else _)
  rw [if_pos (Int32.not_le.mp c)]
theorem bst_hit {L : Nat} {b : Int32} {s : Nat → Int32} {k : Nat} (c : costI L (nI k) s ≤ b) : bstN L b s (k + 1) = k := by
  show (if _ then _ else _) = k
  rw [if_neg (Int32.not_lt.mpr c)]
theorem pln_at {L pl k : Nat} {f : Nat → Int32} : (if bnT L k = 0 then f k else f k / nI (1 * 2 ^ pl) * nI (1 * 2 ^ pl)) = plnA L pl f k := by
  unfold plnA isDf bnT
  by_cases c : bndM k L = 0
  · rw [if_pos c, if_neg (by rw [decide_eq_true_eq]; omega)]
  · rw [if_neg c, if_pos (by rw [decide_eq_true_eq]; omega)]
def rm_X1_order : Room := ({ frames := 0, cells := 0, slots := 0, locals := 0 } : Room)
set_option maxHeartbeats 400000 in
set_option maxRecDepth 100000 in
theorem t_X1_order (l : Launch) (G : GG) (b0 sz : Nat) (h : Nat) (ad : Nat → Nat) (sn : Value) (hsh : Int64) (L : Nat) (stp why : Int32) (hL1 : 1 ≤ L) (hL : L ≤ 3) : CT l yX1_order cX1_order 1 (some (FieldType.object "CrumbPictures$Order")) (rm_X1_order) G b0 [.ref h] [oC h ad sn hsh, oX (ad 1) 1 [.ref (ad 11), .int (nI L), .int stp, .int why], aR G (ad 2) 3 (orF ad)] sz (Rr G (fun (_ : Unit) => True) (fun (_ : Unit) => ad (15 + L)) (fun (_ : Unit) => [oC h ad sn hsh, oX (ad 1) 1 [.ref (ad 11), .int (nI L), .int stp, .int why], aR G (ad 2) 3 (orF ad)])) := by
  refine CT.go (by decide) (Nat.le_of_ble_eq_true rfl) (fun p e s m below meth c A ls AR QQ hx hb hr hlk hml hown hnm hts hE hA hAb hsz hP hD hS hl hQQ => ?_)
  have hK := hE.1
  have hown : s.vm.findClass RX1 = some m.cls := hown
  have hl : lv_has ls 1 [(0, .ref h)] := hl
  clear hsz
  refine lv_aload_n hx hb dX1_order_0 rfl (lv_at hl 0 rfl) ?_
  refine va_get (D := G.1) (ci := 0) (v := .ref (ad 2)) (C := RX1) (T := TX1) (N := 12) hx hb hts in_X1 hown hK hP 0 rfl rfl 1 (by decide) (hts _ q495) (fun _ h9 => h9) rfl dX1_order_1 ?_
  refine lv_aload_n hx hb dX1_order_4 rfl (lv_at hl 0 rfl) ?_
  refine va_get (D := G.1) (ci := 0) (v := .ref (ad 1)) (C := RX1) (T := TX1) (N := 12) hx hb hts in_X1 hown hK hP 0 rfl rfl 0 (by decide) (hts _ q494) (fun _ h9 => h9) rfl dX1_order_5 ?_
  refine va_getN (D := G.1) (ci := 1) (v := .int (nI L)) (C := RX2) (T := TX2) (N := 4) hx hb hts in_X2 hown hK hP 1 rfl rfl 1 (by decide) (hE.nb q161 rfl) (fun _ h9 => h9) rfl dX1_order_8 ?_
  refine lv_iconst (v := nI 1) hx hb dX1_order_11 (by decide) ?_
  refine N_isub hx hb dX1_order_12 (by omega) ?_
  refine N_aald hx hb dX1_order_13 hK hP 2 5 rfl rfl (by omega) (by omega) ?_
  refine top_q (y := some (ad (15 + L))) (by exact orF_at hL1) ?_
  refine W.eq (g2 := F0 m 14 ls [.ref (ad (15 + L))]) rfl ?_
  rw [hQQ]
  exact rt_r hx hb hr hlk (by first | exact Or.inl ⟨_, rfl⟩ | exact Or.inr ⟨_, rfl⟩) ((())) dX1_order_14 hP hD hS (by first | exact Nat.le_of_ble_eq_true rfl | (simp only [rm_X1_order]; omega) | omega) (by first | exact Nat.le_of_ble_eq_true rfl | (simp only [rm_X1_order]; omega) | omega) (by rfl) trivial
def rm_X1_parted : Room := ({ frames := 3, cells := 0, slots := 0, locals := 82 } : Room)
set_option maxHeartbeats 400000 in
set_option maxRecDepth 100000 in
theorem t_X1_parted (l : Launch) (G : GG) (b0 sz : Nat) (h : Nat) (ad : Nat → Nat) (sn : Value) (hsh : Int64) (L : Nat) (stp why : Int32) (st : Nat → Int32) (li : Nat → Int32) (pa : Nat → Int32) (hL1 : 1 ≤ L) (hL : L ≤ 3) : CT l yX1_parted cX1_parted 1 (some (FieldType.array FieldType.int)) (rm_X1_parted) G b0 [.ref h] [oC h ad sn hsh, oX (ad 1) 1 [.ref (ad 11), .int (nI L), .int stp, .int why], aI G (ad 11) 64 st, oX (ad 3) 5 [.ref (ad 12)], aI G (ad 12) 8 li, aI G (ad 6) 64 pa] sz (Rr G (fun (u : Nat → Int32) => True) (fun (u : Nat → Int32) => ad 6) (fun (u : Nat → Int32) => [oC h ad sn hsh, oX (ad 1) 1 [.ref (ad 11), .int (nI L), .int stp, .int why], aI G (ad 11) 64 st, oX (ad 3) 5 [.ref (ad 12)], aI G (ad 12) 8 u, aI G (ad 6) 64 (splitP st L)])) := by
  refine CT.go (by decide) (Nat.le_of_ble_eq_true rfl) (fun p e s m below meth c A ls AR QQ hx hb hr hlk hml hown hnm hts hE hA hAb hsz hP hD hS hl hQQ => ?_)
  have hK := hE.1
  have hown : s.vm.findClass RX1 = some m.cls := hown
  have hl : lv_has ls 1 [(0, .ref h)] := hl
  clear hsz
  refine lv_aload_n hx hb dX1_parted_0 rfl (lv_at hl 0 rfl) ?_
  refine va_get (D := G.1) (ci := 0) (v := .ref (ad 3)) (C := RX1) (T := TX1) (N := 12) hx hb hts in_X1 hown hK hP 0 rfl rfl 2 (by decide) (hts _ q496) (fun _ h9 => h9) rfl dX1_parted_1 ?_
  refine lv_aload_n hx hb dX1_parted_4 rfl (lv_at hl 0 rfl) ?_
  refine va_get (D := G.1) (ci := 0) (v := .ref (ad 1)) (C := RX1) (T := TX1) (N := 12) hx hb hts in_X1 hown hK hP 0 rfl rfl 0 (by decide) (hts _ q494) (fun _ h9 => h9) rfl dX1_parted_5 ?_
  refine va_getN (D := G.1) (ci := 1) (v := .ref (ad 11)) (C := RX2) (T := TX2) (N := 4) hx hb hts in_X2 hown hK hP 1 rfl rfl 0 (by decide) (hE.nb q159 rfl) (fun _ h9 => h9) rfl dX1_parted_8 ?_
  refine lv_aload_n hx hb dX1_parted_11 rfl (lv_at hl 0 rfl) ?_
  refine va_get (D := G.1) (ci := 0) (v := .ref (ad 6)) (C := RX1) (T := TX1) (N := 12) hx hb hts in_X1 hown hK hP 0 rfl rfl 5 (by decide) (hts _ q499) (fun _ h9 => h9) rfl dX1_parted_12 ?_
  refine lv_aload_n hx hb dX1_parted_15 rfl (lv_at hl 0 rfl) ?_
  refine va_get (D := G.1) (ci := 0) (v := .ref (ad 1)) (C := RX1) (T := TX1) (N := 12) hx hb hts in_X1 hown hK hP 0 rfl rfl 0 (by decide) (hts _ q494) (fun _ h9 => h9) rfl dX1_parted_16 ?_
  refine va_getN (D := G.1) (ci := 1) (v := .int (nI L)) (C := RX2) (T := TX2) (N := 4) hx hb hts in_X2 hown hK hP 1 rfl rfl 1 (by decide) (hE.nb q161 rfl) (fun _ h9 => h9) rfl dX1_parted_19 ?_
  refine fin_r (ws' := (fun (u_1 : Nat → Int32) => [oC h ad sn hsh, oX (ad 1) 1 [.ref (ad 11), .int (nI L), .int stp, .int why], aI G (ad 11) 64 st, oX (ad 3) 5 [.ref (ad 12)], aI G (ad 12) 8 u_1, aI G (ad 6) 64 (splitP st L)])) hA hS hP hD [3, 4, 2, 5] rfl [(false, 0), (false, 1), (true, 2), (true, 0), (true, 1), (true, 3)] (fun _ => rfl) (by decide) (run_V (As := [.ref (ad 11), .ref (ad 6), .int (nI L)]) (rest := []) (n9 := 3) hx hb hml hown hts hE hAb hl.1 hS hP hD [3, 4, 2, 5] rfl (by decide) (t_X6_split l G b0 _ (ad 3) (ad 12) (ad 11) (ad 6) li st pa L (by omega)) (lw_V q1067 q1068 q1069 q118 q1070) 3 rfl rfl ⟨rfl, by decide, by decide, by decide +kernel⟩ ⟨Nat.le_of_ble_eq_true rfl, Nat.le_of_ble_eq_true rfl⟩ ⟨by first | exact Nat.le_of_ble_eq_true rfl | (simp only [rm_X1_parted, rm_X6_split]; omega), by first | exact Nat.le_of_ble_eq_true rfl | (simp only [rm_X1_parted, rm_X6_split]; omega)⟩ dX1_parted_22 (Nat.le_of_ble_eq_true rfl) rfl rfl) (fun u_1 H locs h_1 hP hD hS => ?_)
  have hP : va_P G.1 vwCl [oC h ad sn hsh, oX (ad 1) 1 [.ref (ad 11), .int (nI L), .int stp, .int why], aI G (ad 11) 64 st, oX (ad 3) 5 [.ref (ad 12)], aI G (ad 12) 8 u_1, aI G (ad 6) 64 (splitP st L)] _ := hP
  have hD : va_D A [oC h ad sn hsh, oX (ad 1) 1 [.ref (ad 11), .int (nI L), .int stp, .int why], aI G (ad 11) 64 st, oX (ad 3) 5 [.ref (ad 12)], aI G (ad 12) 8 u_1, aI G (ad 6) 64 (splitP st L)] := hD
  refine W.eq (g2 := F0 m 25 ls [.ref (ad 6)]) rfl ?_
  rw [hQQ]
  exact rt_r hx hb hr hlk (by first | exact Or.inl ⟨_, rfl⟩ | exact Or.inr ⟨_, rfl⟩) u_1 dX1_parted_25 hP hD hS (by first | exact Nat.le_of_ble_eq_true rfl | (simp only [rm_X1_parted, rm_X6_split]; omega) | omega) (by first | exact Nat.le_of_ble_eq_true rfl | (simp only [rm_X1_parted, rm_X6_split]; omega) | omega) (by rfl) trivial
def rm_X1_isCrumb : Room := ({ frames := 1, cells := 0, slots := 0, locals := 30 } : Room)
set_option maxHeartbeats 400000 in
set_option maxRecDepth 100000 in
theorem t_X1_isCrumb (l : Launch) (G : GG) (b0 sz : Nat) (h : Nat) (ad : Nat → Nat) (sn : Value) (hsh : Int64) (L : Nat) (stp why : Int32) (k : Nat) (v t : Int32) (hL1 : 1 ≤ L) (hL : L ≤ 3) (hk : k < 64) : CT l yX1_isCrumb cX1_isCrumb 4 (some FieldType.boolean) (rm_X1_isCrumb) G b0 [.ref h, .int (nI k), .int v, .int t] [oC h ad sn hsh, oX (ad 1) 1 [.ref (ad 11), .int (nI L), .int stp, .int why], aR G (ad 2) 3 (orF ad), oX (ad (15 + L)) 2 [.ref (ad (16 + 3 * L)), .ref (ad (17 + 3 * L)), .ref (ad (18 + 3 * L)), .int (nI 64)], aI G (ad (18 + 3 * L)) 64 (nF (bnT L))] sz (Ri G (fun (r_ : Int32) (_ : Unit) => r_ = bI (crmV L t k v)) (fun (_ : Unit) => [oC h ad sn hsh, oX (ad 1) 1 [.ref (ad 11), .int (nI L), .int stp, .int why], aR G (ad 2) 3 (orF ad), oX (ad (15 + L)) 2 [.ref (ad (16 + 3 * L)), .ref (ad (17 + 3 * L)), .ref (ad (18 + 3 * L)), .int (nI 64)], aI G (ad (18 + 3 * L)) 64 (nF (bnT L))])) := by
  refine CT.go (by decide) (Nat.le_of_ble_eq_true rfl) (fun p e s m below meth c A ls AR QQ hx hb hr hlk hml hown hnm hts hE hA hAb hsz hP hD hS hl hQQ => ?_)
  have hK := hE.1
  have hown : s.vm.findClass RX1 = some m.cls := hown
  have hl : lv_has ls 4 [(0, .ref h), (1, .int (nI k)), (2, .int v), (3, .int t)] := hl
  clear hsz
  have hbn := bnT_le (k := k) hL1 hL
  refine lv_aload_n hx hb dX1_isCrumb_0 rfl (lv_at hl 0 rfl) ?_
  refine fin_r (ws' := (fun (_ : Unit) => [oC h ad sn hsh, oX (ad 1) 1 [.ref (ad 11), .int (nI L), .int stp, .int why], aR G (ad 2) 3 (orF ad), oX (ad (15 + L)) 2 [.ref (ad (16 + 3 * L)), .ref (ad (17 + 3 * L)), .ref (ad (18 + 3 * L)), .int (nI 64)], aI G (ad (18 + 3 * L)) 64 (nF (bnT L))])) hA hS hP hD [0, 1, 2] rfl [(true, 0), (true, 1), (true, 2), (false, 3), (false, 4)] (fun _ => rfl) (by decide) (run_V (As := []) (rest := []) (n9 := 0) hx hb hml hown hts hE hAb hl.1 hS hP hD [0, 1, 2] rfl (by decide) (t_X1_order l G b0 _ h ad sn hsh L stp why (by omega) (by omega)) (lw_V q1083 q1085 qs22 q106 q1086) 0 rfl rfl ⟨rfl, by decide, by decide, by decide +kernel⟩ ⟨Nat.le_of_ble_eq_true rfl, Nat.le_of_ble_eq_true rfl⟩ ⟨by first | exact Nat.le_of_ble_eq_true rfl | (simp only [rm_X1_isCrumb, rm_X1_order]; omega), by first | exact Nat.le_of_ble_eq_true rfl | (simp only [rm_X1_isCrumb, rm_X1_order]; omega)⟩ dX1_isCrumb_1 (Nat.le_of_ble_eq_true rfl) rfl rfl) (fun u_1 H locs h_1 hP hD hS => ?_)
  have hP : va_P G.1 vwCl [oC h ad sn hsh, oX (ad 1) 1 [.ref (ad 11), .int (nI L), .int stp, .int why], aR G (ad 2) 3 (orF ad), oX (ad (15 + L)) 2 [.ref (ad (16 + 3 * L)), .ref (ad (17 + 3 * L)), .ref (ad (18 + 3 * L)), .int (nI 64)], aI G (ad (18 + 3 * L)) 64 (nF (bnT L))] _ := hP
  have hD : va_D A [oC h ad sn hsh, oX (ad 1) 1 [.ref (ad 11), .int (nI L), .int stp, .int why], aR G (ad 2) 3 (orF ad), oX (ad (15 + L)) 2 [.ref (ad (16 + 3 * L)), .ref (ad (17 + 3 * L)), .ref (ad (18 + 3 * L)), .int (nI 64)], aI G (ad (18 + 3 * L)) 64 (nF (bnT L))] := hD
  refine W.eq (g2 := F0 m 4 ls [.ref (ad (15 + L))]) rfl ?_
  refine va_getN (D := G.1) (ci := 2) (v := .ref (ad (18 + 3 * L))) (C := RX3) (T := TX3) (N := 4) hx hb hts in_X3 hown hK hP 3 rfl rfl 2 (by decide) (hE.nb q349 rfl) (fun _ h9 => h9) rfl dX1_isCrumb_4 ?_
  refine lv_iload_n hx hb dX1_isCrumb_7 rfl (lv_at hl 1 rfl) ?_
  refine N_iald hx hb dX1_isCrumb_8 hK hP 4 0 rfl rfl (by omega) (by omega) ?_
  refine top_i (y := nI ((bnT L) k)) rfl ?_
  refine N_if_le (tgt := 28) hx hb dX1_isCrumb_9 (by decide) (by omega) (fun c_9 => ?_) (fun c_9 => ?_)
  · skip
    refine lv_iconst (v := nI 0) hx hb dX1_isCrumb_28 (by decide) ?_
    rw [hQQ]
    exact rt_z hx hb hr hlk (by first | exact bI_nar _ | rfl) ((())) dX1_isCrumb_29 hP hD hS (by first | exact Nat.le_of_ble_eq_true rfl | (simp only [rm_X1_isCrumb, rm_X1_order]; omega) | omega) (by first | exact Nat.le_of_ble_eq_true rfl | (simp only [rm_X1_isCrumb, rm_X1_order]; omega) | omega) (by first | exact crm_a (by omega) | exact crm_b c_13 | exact crm_c c_21 | exact crm_1 (by omega) c_13 c_21)
  · skip
    refine lv_iload_n hx hb dX1_isCrumb_12 rfl (lv_at hl 2 rfl) ?_
    refine lv_if_eq (tgt := 28) hx hb dX1_isCrumb_13 (by decide) (fun c_13 => ?_) (fun c_13 => ?_)
    · skip
      refine lv_iconst (v := nI 0) hx hb dX1_isCrumb_28 (by decide) ?_
      rw [hQQ]
      exact rt_z hx hb hr hlk (by first | exact bI_nar _ | rfl) ((())) dX1_isCrumb_29 hP hD hS (by first | exact Nat.le_of_ble_eq_true rfl | (simp only [rm_X1_isCrumb, rm_X1_order]; omega) | omega) (by first | exact Nat.le_of_ble_eq_true rfl | (simp only [rm_X1_isCrumb, rm_X1_order]; omega) | omega) (by first | exact crm_a (by omega) | exact crm_b c_13 | exact crm_c c_21 | exact crm_1 (by omega) c_13 c_21)
    · skip
      refine lv_iload_n hx hb dX1_isCrumb_16 rfl (lv_at hl 2 rfl) ?_
      refine M_abs hx hb (hml.trans hl.1.symm) hown hts q1239 q1169 q137 q1170 (Nat.le_of_ble_eq_true rfl) (Nat.le_of_ble_eq_true rfl) (by first | exact Nat.le_of_ble_eq_true rfl | omega | (simp only [rm_X1_isCrumb, rm_X1_order]; omega)) (by first | exact Nat.le_of_ble_eq_true rfl | omega | (simp only [rm_X1_isCrumb, rm_X1_order]; omega)) dX1_isCrumb_17 ?_
      refine lv_iload_n hx hb dX1_isCrumb_20 rfl (lv_at hl 3 rfl) ?_
      refine lv_icmp_gt (tgt := 28) hx hb dX1_isCrumb_21 (by decide) (fun c_21 => ?_) (fun c_21 => ?_)
      · skip
        refine lv_iconst (v := nI 0) hx hb dX1_isCrumb_28 (by decide) ?_
        rw [hQQ]
        exact rt_z hx hb hr hlk (by first | exact bI_nar _ | rfl) ((())) dX1_isCrumb_29 hP hD hS (by first | exact Nat.le_of_ble_eq_true rfl | (simp only [rm_X1_isCrumb, rm_X1_order]; omega) | omega) (by first | exact Nat.le_of_ble_eq_true rfl | (simp only [rm_X1_isCrumb, rm_X1_order]; omega) | omega) (by first | exact crm_a (by omega) | exact crm_b c_13 | exact crm_c c_21 | exact crm_1 (by omega) c_13 c_21)
      · skip
        refine lv_iconst (v := nI 1) hx hb dX1_isCrumb_24 (by decide) ?_
        refine lv_goto (tgt := 29) hx hb dX1_isCrumb_25 (by decide) ?_
        rw [hQQ]
        exact rt_z hx hb hr hlk (by first | exact bI_nar _ | rfl) ((())) dX1_isCrumb_29 hP hD hS (by first | exact Nat.le_of_ble_eq_true rfl | (simp only [rm_X1_isCrumb, rm_X1_order]; omega) | omega) (by first | exact Nat.le_of_ble_eq_true rfl | (simp only [rm_X1_isCrumb, rm_X1_order]; omega) | omega) (by first | exact crm_a (by omega) | exact crm_b c_13 | exact crm_c c_21 | exact crm_1 (by omega) c_13 c_21)
def rm_X1_drop : Room := ({ frames := 4, cells := 0, slots := 0, locals := 110 } : Room)
set_option maxHeartbeats 400000 in
set_option maxRecDepth 100000 in
theorem t_X1_drop (l : Launch) (G : GG) (b0 sz : Nat) (h : Nat) (ad : Nat → Nat) (sn : Value) (hsh : Int64) (L : Nat) (stp why : Int32) (st : Nat → Int32) (li : Nat → Int32) (pa : Nat → Int32) (ot : Nat → Int32) (t : Int32) (hL1 : 1 ≤ L) (hL : L ≤ 3) : CT l yX1_drop cX1_drop 5 (some FieldType.int) (rm_X1_drop) G b0 [.ref h, .int t] [oC h ad sn hsh, oX (ad 1) 1 [.ref (ad 11), .int (nI L), .int stp, .int why], aI G (ad 11) 64 st, oX (ad 3) 5 [.ref (ad 12)], aI G (ad 12) 8 li, aI G (ad 6) 64 pa, aI G (ad 7) 64 ot, aR G (ad 2) 3 (orF ad), oX (ad (15 + L)) 2 [.ref (ad (16 + 3 * L)), .ref (ad (17 + 3 * L)), .ref (ad (18 + 3 * L)), .int (nI 64)], aI G (ad (18 + 3 * L)) 64 (nF (bnT L))] sz (Ri G (fun (r_ : Int32) (u : Nat → Int32) => r_ = nI (cntN (crmB L t (splitP st L)) 64)) (fun (u : Nat → Int32) => [oC h ad sn hsh, oX (ad 1) 1 [.ref (ad 11), .int (nI L), .int stp, .int why], aI G (ad 11) 64 st, oX (ad 3) 5 [.ref (ad 12)], aI G (ad 12) 8 u, aI G (ad 6) 64 (splitP st L), aI G (ad 7) 64 (drpA L t (splitP st L)), aR G (ad 2) 3 (orF ad), oX (ad (15 + L)) 2 [.ref (ad (16 + 3 * L)), .ref (ad (17 + 3 * L)), .ref (ad (18 + 3 * L)), .int (nI 64)], aI G (ad (18 + 3 * L)) 64 (nF (bnT L))])) := by
  refine CT.go (by decide) (Nat.le_of_ble_eq_true rfl) (fun p e s m below meth c A ls AR QQ hx hb hr hlk hml hown hnm hts hE hA hAb hsz hP hD hS hl hQQ => ?_)
  have hK := hE.1
  have hown : s.vm.findClass RX1 = some m.cls := hown
  have hl : lv_has ls 5 [(0, .ref h), (1, .int t)] := hl
  clear hsz
  refine lv_aload_n hx hb dX1_drop_0 rfl (lv_at hl 0 rfl) ?_
  refine fin_r (ws' := (fun (u_1 : Nat → Int32) => [oC h ad sn hsh, oX (ad 1) 1 [.ref (ad 11), .int (nI L), .int stp, .int why], aI G (ad 11) 64 st, oX (ad 3) 5 [.ref (ad 12)], aI G (ad 12) 8 u_1, aI G (ad 6) 64 (splitP st L), aI G (ad 7) 64 ot, aR G (ad 2) 3 (orF ad), oX (ad (15 + L)) 2 [.ref (ad (16 + 3 * L)), .ref (ad (17 + 3 * L)), .ref (ad (18 + 3 * L)), .int (nI 64)], aI G (ad (18 + 3 * L)) 64 (nF (bnT L))])) hA hS hP hD [0, 1, 2, 3, 4, 5] rfl [(true, 0), (true, 1), (true, 2), (true, 3), (true, 4), (true, 5), (false, 6), (false, 7), (false, 8), (false, 9)] (fun _ => rfl) (by decide) (run_V (As := []) (rest := []) (n9 := 0) hx hb hml hown hts hE hAb hl.1 hS hP hD [0, 1, 2, 3, 4, 5] rfl (by decide) (t_X1_parted l G b0 _ h ad sn hsh L stp why st li pa (by omega) (by omega)) (lw_V q1063 q1065 qs19 q106 q1066) 0 rfl rfl ⟨rfl, by decide, by decide, by decide +kernel⟩ ⟨Nat.le_of_ble_eq_true rfl, Nat.le_of_ble_eq_true rfl⟩ ⟨by first | exact Nat.le_of_ble_eq_true rfl | (simp only [rm_X1_drop, rm_X1_parted]; omega), by first | exact Nat.le_of_ble_eq_true rfl | (simp only [rm_X1_drop, rm_X1_parted]; omega)⟩ dX1_drop_1 (Nat.le_of_ble_eq_true rfl) rfl rfl) (fun u_1 H locs h_1 hP hD hS => ?_)
  have hP : va_P G.1 vwCl [oC h ad sn hsh, oX (ad 1) 1 [.ref (ad 11), .int (nI L), .int stp, .int why], aI G (ad 11) 64 st, oX (ad 3) 5 [.ref (ad 12)], aI G (ad 12) 8 u_1, aI G (ad 6) 64 (splitP st L), aI G (ad 7) 64 ot, aR G (ad 2) 3 (orF ad), oX (ad (15 + L)) 2 [.ref (ad (16 + 3 * L)), .ref (ad (17 + 3 * L)), .ref (ad (18 + 3 * L)), .int (nI 64)], aI G (ad (18 + 3 * L)) 64 (nF (bnT L))] _ := hP
  have hD : va_D A [oC h ad sn hsh, oX (ad 1) 1 [.ref (ad 11), .int (nI L), .int stp, .int why], aI G (ad 11) 64 st, oX (ad 3) 5 [.ref (ad 12)], aI G (ad 12) 8 u_1, aI G (ad 6) 64 (splitP st L), aI G (ad 7) 64 ot, aR G (ad 2) 3 (orF ad), oX (ad (15 + L)) 2 [.ref (ad (16 + 3 * L)), .ref (ad (17 + 3 * L)), .ref (ad (18 + 3 * L)), .int (nI 64)], aI G (ad (18 + 3 * L)) 64 (nF (bnT L))] := hD
  refine W.eq (g2 := F0 m 4 ls [.ref (ad 6)]) rfl ?_
  refine lv_pop hx hb dX1_drop_4 rfl ?_
  refine lv_iconst (v := nI 0) hx hb dX1_drop_5 (by decide) ?_
  refine lv_istore_n (lv' := [(2, .int (nI 0)), (0, .ref h), (1, .int t)]) hx hb dX1_drop_6 rfl hl (by decide) rfl (fun ls hl => ?_)
  refine lv_iconst (v := nI 0) hx hb dX1_drop_7 (by decide) ?_
  refine lv_istore_n (lv' := [(3, .int (nI 0)), (2, .int (nI 0)), (0, .ref h), (1, .int t)]) hx hb dX1_drop_8 rfl hl (by decide) rfl (fun ls hl => ?_)
  have lp_9 : ∀ (n_9 : Nat) (k : Nat), (k ≤ 64) → (64 - k) < n_9 → ∀ (H : Heap) (locs : List Loc) (ls : Array Slot), va_P G.1 vwCl [oC h ad sn hsh, oX (ad 1) 1 [.ref (ad 11), .int (nI L), .int stp, .int why], aI G (ad 11) 64 st, oX (ad 3) 5 [.ref (ad 12)], aI G (ad 12) 8 u_1, aI G (ad 6) 64 (splitP st L), aI G (ad 7) 64 (fillTo k (drpA L t (splitP st L)) ot), aR G (ad 2) 3 (orF ad), oX (ad (15 + L)) 2 [.ref (ad (16 + 3 * L)), .ref (ad (17 + 3 * L)), .ref (ad (18 + 3 * L)), .int (nI 64)], aI G (ad (18 + 3 * L)) 64 (nF (bnT L))] H → va_D A [oC h ad sn hsh, oX (ad 1) 1 [.ref (ad 11), .int (nI L), .int stp, .int why], aI G (ad 11) 64 st, oX (ad 3) 5 [.ref (ad 12)], aI G (ad 12) 8 u_1, aI G (ad 6) 64 (splitP st L), aI G (ad 7) 64 (fillTo k (drpA L t (splitP st L)) ot), aR G (ad 2) 3 (orF ad), oX (ad (15 + L)) 2 [.ref (ad (16 + 3 * L)), .ref (ad (17 + 3 * L)), .ref (ad (18 + 3 * L)), .int (nI 64)], aI G (ad (18 + 3 * L)) 64 (nF (bnT L))] → va_S A s.heap H locs → lv_has ls 5 [(0, .ref h), (1, .int t), (2, .int (nI (cntN (crmB L t (splitP st L)) k))), (3, .int (nI k))] → W p l e (rm_X1_drop) s m AR below meth c H locs 0 0 QQ (F0 m 9 ls []) := by
    intro n_9
    induction n_9 with
    | zero => intro k hk hn_; exact absurd hn_ (Nat.not_lt_zero _)
    | succ n_9 ih_9 =>
      intro k hk hn_9 H locs ls hP hD hS hl
      refine lv_iload_n hx hb dX1_drop_9 rfl (lv_at hl 3 rfl) ?_
      refine lv_bipush (v := nI 64) hx hb dX1_drop_10 (by decide) ?_
      refine N_icmp_ge (tgt := 69) hx hb dX1_drop_12 (by decide) (by omega) (by omega) (fun c_12 => ?_) (fun c_12 => ?_)
      · skip
        obtain rfl : k = 64 := by omega
        have e_2 : ∀ j, j < 64 → (fillTo 64 (drpA L t (splitP st L)) ot) j = (drpA L t (splitP st L)) j := by exact fill_pt
        have hP : va_P G.1 vwCl [oC h ad sn hsh, oX (ad 1) 1 [.ref (ad 11), .int (nI L), .int stp, .int why], aI G (ad 11) 64 st, oX (ad 3) 5 [.ref (ad 12)], aI G (ad 12) 8 u_1, aI G (ad 6) 64 (splitP st L), aI G (ad 7) 64 (drpA L t (splitP st L)), aR G (ad 2) 3 (orF ad), oX (ad (15 + L)) 2 [.ref (ad (16 + 3 * L)), .ref (ad (17 + 3 * L)), .ref (ad (18 + 3 * L)), .int (nI 64)], aI G (ad (18 + 3 * L)) 64 (nF (bnT L))] _ := cong_P (q0 := 6) e_2 rfl rfl hP
        have hD : va_D A [oC h ad sn hsh, oX (ad 1) 1 [.ref (ad 11), .int (nI L), .int stp, .int why], aI G (ad 11) 64 st, oX (ad 3) 5 [.ref (ad 12)], aI G (ad 12) 8 u_1, aI G (ad 6) 64 (splitP st L), aI G (ad 7) 64 (drpA L t (splitP st L)), aR G (ad 2) 3 (orF ad), oX (ad (15 + L)) 2 [.ref (ad (16 + 3 * L)), .ref (ad (17 + 3 * L)), .ref (ad (18 + 3 * L)), .int (nI 64)], aI G (ad (18 + 3 * L)) 64 (nF (bnT L))] := cong_D (q0 := 6) rfl rfl hD
        have hP : va_P G.1 vwCl [oC h ad sn hsh, oX (ad 1) 1 [.ref (ad 11), .int (nI L), .int stp, .int why], aI G (ad 11) 64 st, oX (ad 3) 5 [.ref (ad 12)], aI G (ad 12) 8 u_1, aI G (ad 6) 64 (splitP st L), aI G (ad 7) 64 (drpA L t (splitP st L)), aR G (ad 2) 3 (orF ad), oX (ad (15 + L)) 2 [.ref (ad (16 + 3 * L)), .ref (ad (17 + 3 * L)), .ref (ad (18 + 3 * L)), .int (nI 64)], aI G (ad (18 + 3 * L)) 64 (nF (bnT L))] _ := hP
        have hD : va_D A [oC h ad sn hsh, oX (ad 1) 1 [.ref (ad 11), .int (nI L), .int stp, .int why], aI G (ad 11) 64 st, oX (ad 3) 5 [.ref (ad 12)], aI G (ad 12) 8 u_1, aI G (ad 6) 64 (splitP st L), aI G (ad 7) 64 (drpA L t (splitP st L)), aR G (ad 2) 3 (orF ad), oX (ad (15 + L)) 2 [.ref (ad (16 + 3 * L)), .ref (ad (17 + 3 * L)), .ref (ad (18 + 3 * L)), .int (nI 64)], aI G (ad (18 + 3 * L)) 64 (nF (bnT L))] := hD
        refine lv_iload_n hx hb dX1_drop_69 rfl (lv_at hl 2 rfl) ?_
        rw [hQQ]
        exact rt_i hx hb hr hlk  u_1 dX1_drop_70 hP hD hS (by first | exact Nat.le_of_ble_eq_true rfl | (simp only [rm_X1_drop, rm_X1_parted]; omega) | omega) (by first | exact Nat.le_of_ble_eq_true rfl | (simp only [rm_X1_drop, rm_X1_parted]; omega) | omega) (by rfl)
      · skip
        refine lv_aload_n hx hb dX1_drop_15 rfl (lv_at hl 0 rfl) ?_
        refine lv_iload_n hx hb dX1_drop_16 rfl (lv_at hl 3 rfl) ?_
        refine lv_aload_n hx hb dX1_drop_17 rfl (lv_at hl 0 rfl) ?_
        refine va_get (D := G.1) (ci := 0) (v := .ref (ad 6)) (C := RX1) (T := TX1) (N := 12) hx hb hts in_X1 hown hK hP 0 rfl rfl 5 (by decide) (hts _ q499) (fun _ h9 => h9) rfl dX1_drop_18 ?_
        refine lv_iload_n hx hb dX1_drop_21 rfl (lv_at hl 3 rfl) ?_
        refine N_iald hx hb dX1_drop_22 hK hP 5 0 rfl rfl (by omega) (by omega) ?_
        refine lv_iload_n hx hb dX1_drop_23 rfl (lv_at hl 1 rfl) ?_
        refine fin_i (ws' := (fun (_ : Unit) => [oC h ad sn hsh, oX (ad 1) 1 [.ref (ad 11), .int (nI L), .int stp, .int why], aI G (ad 11) 64 st, oX (ad 3) 5 [.ref (ad 12)], aI G (ad 12) 8 u_1, aI G (ad 6) 64 (splitP st L), aI G (ad 7) 64 (fillTo k (drpA L t (splitP st L)) ot), aR G (ad 2) 3 (orF ad), oX (ad (15 + L)) 2 [.ref (ad (16 + 3 * L)), .ref (ad (17 + 3 * L)), .ref (ad (18 + 3 * L)), .int (nI 64)], aI G (ad (18 + 3 * L)) 64 (nF (bnT L))])) hA hS hP hD [0, 1, 7, 8, 9] rfl [(true, 0), (true, 1), (false, 2), (false, 3), (false, 4), (false, 5), (false, 6), (true, 2), (true, 3), (true, 4)] (fun _ => rfl) (by decide) (run_V (As := [.int (nI k), .int ((splitP st L) k), .int t]) (rest := []) (n9 := 3) hx hb hml hown hts hE hAb hl.1 hS hP hD [0, 1, 7, 8, 9] rfl (by decide) (t_X1_isCrumb l G b0 _ h ad sn hsh L stp why k ((splitP st L) k) t (by omega) (by omega) (by omega)) (lw_V q1235 q1237 qs38 q106 q1238) 0 rfl rfl ⟨rfl, by decide, by decide, by decide +kernel⟩ ⟨Nat.le_of_ble_eq_true rfl, Nat.le_of_ble_eq_true rfl⟩ ⟨by first | exact Nat.le_of_ble_eq_true rfl | (simp only [rm_X1_drop, rm_X1_isCrumb, rm_X1_parted]; omega), by first | exact Nat.le_of_ble_eq_true rfl | (simp only [rm_X1_drop, rm_X1_isCrumb, rm_X1_parted]; omega)⟩ dX1_drop_24 (Nat.le_of_ble_eq_true rfl) rfl rfl) (fun r_3 u_3 H locs h_3 hP hD hS => ?_)
        have hP : va_P G.1 vwCl [oC h ad sn hsh, oX (ad 1) 1 [.ref (ad 11), .int (nI L), .int stp, .int why], aI G (ad 11) 64 st, oX (ad 3) 5 [.ref (ad 12)], aI G (ad 12) 8 u_1, aI G (ad 6) 64 (splitP st L), aI G (ad 7) 64 (fillTo k (drpA L t (splitP st L)) ot), aR G (ad 2) 3 (orF ad), oX (ad (15 + L)) 2 [.ref (ad (16 + 3 * L)), .ref (ad (17 + 3 * L)), .ref (ad (18 + 3 * L)), .int (nI 64)], aI G (ad (18 + 3 * L)) 64 (nF (bnT L))] _ := hP
        have hD : va_D A [oC h ad sn hsh, oX (ad 1) 1 [.ref (ad 11), .int (nI L), .int stp, .int why], aI G (ad 11) 64 st, oX (ad 3) 5 [.ref (ad 12)], aI G (ad 12) 8 u_1, aI G (ad 6) 64 (splitP st L), aI G (ad 7) 64 (fillTo k (drpA L t (splitP st L)) ot), aR G (ad 2) 3 (orF ad), oX (ad (15 + L)) 2 [.ref (ad (16 + 3 * L)), .ref (ad (17 + 3 * L)), .ref (ad (18 + 3 * L)), .int (nI 64)], aI G (ad (18 + 3 * L)) 64 (nF (bnT L))] := hD
        have h_3 : r_3 = (bI (crmV L t k ((splitP st L) k))) := h_3
        rw [h_3]
        refine lv_istore (lv' := [(4, .int (bI (crmV L t k ((splitP st L) k)))), (0, .ref h), (1, .int t), (2, .int (nI (cntN (crmB L t (splitP st L)) k))), (3, .int (nI k))]) hx hb dX1_drop_27 hl (by decide) rfl (fun ls hl => ?_)
        refine lv_aload_n hx hb dX1_drop_29 rfl (lv_at hl 1 rfl) ?_
        refine va_get (D := G.1) (ci := 0) (v := .ref (ad 7)) (C := RX1) (T := TX1) (N := 12) hx hb hts in_X1 hown hK hP 0 rfl rfl 6 (by decide) (hts _ q500) (fun _ h9 => h9) rfl dX1_drop_30 ?_
        refine lv_iload_n hx hb dX1_drop_33 rfl (lv_at hl 4 rfl) ?_
        refine lv_iload hx hb dX1_drop_34 (lv_at hl 0 rfl) ?_
        have K_36 : ∀ (v_4 : Int32) (_ : v_4 = if (crmV L t k ((splitP st L) k)) = true then (nI 0) else ((splitP st L) k)) (H : Heap) (locs : List Loc) (ls : Array Slot), va_P G.1 vwCl [oC h ad sn hsh, oX (ad 1) 1 [.ref (ad 11), .int (nI L), .int stp, .int why], aI G (ad 11) 64 st, oX (ad 3) 5 [.ref (ad 12)], aI G (ad 12) 8 u_1, aI G (ad 6) 64 (splitP st L), aI G (ad 7) 64 (fillTo k (drpA L t (splitP st L)) ot), aR G (ad 2) 3 (orF ad), oX (ad (15 + L)) 2 [.ref (ad (16 + 3 * L)), .ref (ad (17 + 3 * L)), .ref (ad (18 + 3 * L)), .int (nI 64)], aI G (ad (18 + 3 * L)) 64 (nF (bnT L))] H → va_D A [oC h ad sn hsh, oX (ad 1) 1 [.ref (ad 11), .int (nI L), .int stp, .int why], aI G (ad 11) 64 st, oX (ad 3) 5 [.ref (ad 12)], aI G (ad 12) 8 u_1, aI G (ad 6) 64 (splitP st L), aI G (ad 7) 64 (fillTo k (drpA L t (splitP st L)) ot), aR G (ad 2) 3 (orF ad), oX (ad (15 + L)) 2 [.ref (ad (16 + 3 * L)), .ref (ad (17 + 3 * L)), .ref (ad (18 + 3 * L)), .int (nI 64)], aI G (ad (18 + 3 * L)) 64 (nF (bnT L))] → va_S A s.heap H locs → lv_has ls 5 [(4, .int (bI (crmV L t k ((splitP st L) k)))), (0, .ref h), (1, .int t), (2, .int (nI (cntN (crmB L t (splitP st L)) k))), (3, .int (nI k))] → W p l e (rm_X1_drop) s m AR below meth c H locs 0 0 QQ (F0 m 49 ls [.int v_4, .int (nI k), .ref (ad 7)]) := by
          intro v_4 e_v_4 H locs ls hP hD hS hl
          subst e_v_4
          refine N_iast (ws' := [oC h ad sn hsh, oX (ad 1) 1 [.ref (ad 11), .int (nI L), .int stp, .int why], aI G (ad 11) 64 st, oX (ad 3) 5 [.ref (ad 12)], aI G (ad 12) 8 u_1, aI G (ad 6) 64 (splitP st L), aI G (ad 7) 64 (upd (fillTo k (drpA L t (splitP st L)) ot) k (if (crmV L t k ((splitP st L) k)) = true then (nI 0) else ((splitP st L) k))), aR G (ad 2) 3 (orF ad), oX (ad (15 + L)) 2 [.ref (ad (16 + 3 * L)), .ref (ad (17 + 3 * L)), .ref (ad (18 + 3 * L)), .int (nI 64)], aI G (ad (18 + 3 * L)) 64 (nF (bnT L))]) hx hb dX1_drop_49 hK hP hD hS 6 0 rfl rfl (by omega) (by omega) rfl (fun H locs hP hD hS => ?_)
          refine lv_iload_n hx hb dX1_drop_50 rfl (lv_at hl 3 rfl) ?_
          refine lv_iload hx hb dX1_drop_51 (lv_at hl 0 rfl) ?_
          have K_53 : ∀ (v_5 : Nat) (_ : v_5 = if (crmV L t k ((splitP st L) k)) = true then 1 else 0) (H : Heap) (locs : List Loc) (ls : Array Slot), va_P G.1 vwCl [oC h ad sn hsh, oX (ad 1) 1 [.ref (ad 11), .int (nI L), .int stp, .int why], aI G (ad 11) 64 st, oX (ad 3) 5 [.ref (ad 12)], aI G (ad 12) 8 u_1, aI G (ad 6) 64 (splitP st L), aI G (ad 7) 64 (upd (fillTo k (drpA L t (splitP st L)) ot) k (if (crmV L t k ((splitP st L) k)) = true then (nI 0) else ((splitP st L) k))), aR G (ad 2) 3 (orF ad), oX (ad (15 + L)) 2 [.ref (ad (16 + 3 * L)), .ref (ad (17 + 3 * L)), .ref (ad (18 + 3 * L)), .int (nI 64)], aI G (ad (18 + 3 * L)) 64 (nF (bnT L))] H → va_D A [oC h ad sn hsh, oX (ad 1) 1 [.ref (ad 11), .int (nI L), .int stp, .int why], aI G (ad 11) 64 st, oX (ad 3) 5 [.ref (ad 12)], aI G (ad 12) 8 u_1, aI G (ad 6) 64 (splitP st L), aI G (ad 7) 64 (upd (fillTo k (drpA L t (splitP st L)) ot) k (if (crmV L t k ((splitP st L) k)) = true then (nI 0) else ((splitP st L) k))), aR G (ad 2) 3 (orF ad), oX (ad (15 + L)) 2 [.ref (ad (16 + 3 * L)), .ref (ad (17 + 3 * L)), .ref (ad (18 + 3 * L)), .int (nI 64)], aI G (ad (18 + 3 * L)) 64 (nF (bnT L))] → va_S A s.heap H locs → lv_has ls 5 [(4, .int (bI (crmV L t k ((splitP st L) k)))), (0, .ref h), (1, .int t), (2, .int (nI (cntN (crmB L t (splitP st L)) k))), (3, .int (nI k))] → W p l e (rm_X1_drop) s m AR below meth c H locs 0 0 QQ (F0 m 61 ls [.int (nI v_5), .int (nI (cntN (crmB L t (splitP st L)) k))]) := by
            intro v_5 e_v_5 H locs ls hP hD hS hl
            subst e_v_5
            refine N_iadd hx hb dX1_drop_61 ?_
            refine lv_istore_n (lv' := [(2, .int (nI ((cntN (crmB L t (splitP st L)) k) + (if (crmV L t k ((splitP st L) k)) = true then 1 else 0)))), (4, .int (bI (crmV L t k ((splitP st L) k)))), (0, .ref h), (1, .int t), (3, .int (nI k))]) hx hb dX1_drop_62 rfl hl (by decide) rfl (fun ls hl => ?_)
            refine N_iinc (a := k) (b := 1) (k9 := 4) (lv' := [(3, .int (nI (k + 1))), (2, .int (nI ((cntN (crmB L t (splitP st L)) k) + (if (crmV L t k ((splitP st L) k)) = true then 1 else 0)))), (4, .int (bI (crmV L t k ((splitP st L) k)))), (0, .ref h), (1, .int t)]) hx hb dX1_drop_63 hl rfl rfl (by decide) rfl (fun ls hl => ?_)
            refine lv_goto (tgt := 9) hx hb dX1_drop_66 (by decide) ?_
            have e_6 : (upd (fillTo k (drpA L t (splitP st L)) ot) k (if (crmV L t k ((splitP st L) k)) = true then (nI 0) else ((splitP st L) k))) = (fillTo (k + 1) (drpA L t (splitP st L)) ot) := by exact fill_step (g := drpA L t (splitP st L))
            have hP : va_P G.1 vwCl [oC h ad sn hsh, oX (ad 1) 1 [.ref (ad 11), .int (nI L), .int stp, .int why], aI G (ad 11) 64 st, oX (ad 3) 5 [.ref (ad 12)], aI G (ad 12) 8 u_1, aI G (ad 6) 64 (splitP st L), aI G (ad 7) 64 (fillTo (k + 1) (drpA L t (splitP st L)) ot), aR G (ad 2) 3 (orF ad), oX (ad (15 + L)) 2 [.ref (ad (16 + 3 * L)), .ref (ad (17 + 3 * L)), .ref (ad (18 + 3 * L)), .int (nI 64)], aI G (ad (18 + 3 * L)) 64 (nF (bnT L))] _ := cong_P (q0 := 6) (fun j _ => congrFun e_6 j) rfl rfl hP
            have hD : va_D A [oC h ad sn hsh, oX (ad 1) 1 [.ref (ad 11), .int (nI L), .int stp, .int why], aI G (ad 11) 64 st, oX (ad 3) 5 [.ref (ad 12)], aI G (ad 12) 8 u_1, aI G (ad 6) 64 (splitP st L), aI G (ad 7) 64 (fillTo (k + 1) (drpA L t (splitP st L)) ot), aR G (ad 2) 3 (orF ad), oX (ad (15 + L)) 2 [.ref (ad (16 + 3 * L)), .ref (ad (17 + 3 * L)), .ref (ad (18 + 3 * L)), .int (nI 64)], aI G (ad (18 + 3 * L)) 64 (nF (bnT L))] := cong_D (q0 := 6) rfl rfl hD
            have hP : va_P G.1 vwCl [oC h ad sn hsh, oX (ad 1) 1 [.ref (ad 11), .int (nI L), .int stp, .int why], aI G (ad 11) 64 st, oX (ad 3) 5 [.ref (ad 12)], aI G (ad 12) 8 u_1, aI G (ad 6) 64 (splitP st L), aI G (ad 7) 64 (fillTo (k + 1) (drpA L t (splitP st L)) ot), aR G (ad 2) 3 (orF ad), oX (ad (15 + L)) 2 [.ref (ad (16 + 3 * L)), .ref (ad (17 + 3 * L)), .ref (ad (18 + 3 * L)), .int (nI 64)], aI G (ad (18 + 3 * L)) 64 (nF (bnT L))] _ := hP
            have hD : va_D A [oC h ad sn hsh, oX (ad 1) 1 [.ref (ad 11), .int (nI L), .int stp, .int why], aI G (ad 11) 64 st, oX (ad 3) 5 [.ref (ad 12)], aI G (ad 12) 8 u_1, aI G (ad 6) 64 (splitP st L), aI G (ad 7) 64 (fillTo (k + 1) (drpA L t (splitP st L)) ot), aR G (ad 2) 3 (orF ad), oX (ad (15 + L)) 2 [.ref (ad (16 + 3 * L)), .ref (ad (17 + 3 * L)), .ref (ad (18 + 3 * L)), .int (nI 64)], aI G (ad (18 + 3 * L)) 64 (nF (bnT L))] := hD
            have hl : lv_has ls 5 [(0, .ref h), (1, .int t), (2, .int (nI ((cntN (crmB L t (splitP st L)) k) + (if (crmV L t k ((splitP st L) k)) = true then 1 else 0)))), (3, .int (nI (k + 1)))] := lv_sub hl [3, 4, 1, 0] rfl
            have e_7 : (nI ((cntN (crmB L t (splitP st L)) k) + (if (crmV L t k ((splitP st L) k)) = true then 1 else 0))) = (nI (cntN (crmB L t (splitP st L)) (k + 1))) := by rfl
            rw [e_7] at hl
            have hl : lv_has ls 5 [(0, .ref h), (1, .int t), (2, .int (nI (cntN (crmB L t (splitP st L)) (k + 1)))), (3, .int (nI (k + 1)))] := hl
            exact ih_9 (k + 1) (by omega) (by omega) _ _ _ hP hD hS hl
          refine B_if_eq (tgt := 60) hx hb dX1_drop_53 (by decide) (fun c_53 => ?_) (fun c_53 => ?_)
          · skip
            refine lv_iconst (v := nI 0) hx hb dX1_drop_60 (by decide) ?_
            exact K_53 0 (by first | rfl | (try rw [if_neg (ne_true_of_eq_false c_53)]) | simp_all) _ _ _ hP hD hS (lv_sub hl [0, 1, 2, 3, 4] rfl)
          · skip
            refine lv_iconst (v := nI 1) hx hb dX1_drop_56 (by decide) ?_
            refine lv_goto (tgt := 61) hx hb dX1_drop_57 (by decide) ?_
            exact K_53 1 (by first | rfl | (try rw [if_pos c_53]) | simp_all) _ _ _ hP hD hS (lv_sub hl [0, 1, 2, 3, 4] rfl)
        refine B_if_eq (tgt := 43) hx hb dX1_drop_36 (by decide) (fun c_36 => ?_) (fun c_36 => ?_)
        · skip
          refine lv_aload_n hx hb dX1_drop_43 rfl (lv_at hl 1 rfl) ?_
          refine va_get (D := G.1) (ci := 0) (v := .ref (ad 6)) (C := RX1) (T := TX1) (N := 12) hx hb hts in_X1 hown hK hP 0 rfl rfl 5 (by decide) (hts _ q499) (fun _ h9 => h9) rfl dX1_drop_44 ?_
          refine lv_iload_n hx hb dX1_drop_47 rfl (lv_at hl 4 rfl) ?_
          refine N_iald hx hb dX1_drop_48 hK hP 5 0 rfl rfl (by omega) (by omega) ?_
          exact K_36 ((splitP st L) k) (by first | rfl | (try rw [if_neg (ne_true_of_eq_false c_36)]) | simp_all) _ _ _ hP hD hS (lv_sub hl [0, 1, 2, 3, 4] rfl)
        · skip
          refine lv_iconst (v := nI 0) hx hb dX1_drop_39 (by decide) ?_
          refine lv_goto (tgt := 49) hx hb dX1_drop_40 (by decide) ?_
          exact K_36 (nI 0) (by first | rfl | (try rw [if_pos c_36]) | simp_all) _ _ _ hP hD hS (lv_sub hl [0, 1, 2, 3, 4] rfl)
  have e_8 : (ot) = (fillTo 0 (drpA L t (splitP st L)) ot) := by exact (fill0 _ _).symm
  have hP : va_P G.1 vwCl [oC h ad sn hsh, oX (ad 1) 1 [.ref (ad 11), .int (nI L), .int stp, .int why], aI G (ad 11) 64 st, oX (ad 3) 5 [.ref (ad 12)], aI G (ad 12) 8 u_1, aI G (ad 6) 64 (splitP st L), aI G (ad 7) 64 (fillTo 0 (drpA L t (splitP st L)) ot), aR G (ad 2) 3 (orF ad), oX (ad (15 + L)) 2 [.ref (ad (16 + 3 * L)), .ref (ad (17 + 3 * L)), .ref (ad (18 + 3 * L)), .int (nI 64)], aI G (ad (18 + 3 * L)) 64 (nF (bnT L))] _ := cong_P (q0 := 6) (fun j _ => congrFun e_8 j) rfl rfl hP
  have hD : va_D A [oC h ad sn hsh, oX (ad 1) 1 [.ref (ad 11), .int (nI L), .int stp, .int why], aI G (ad 11) 64 st, oX (ad 3) 5 [.ref (ad 12)], aI G (ad 12) 8 u_1, aI G (ad 6) 64 (splitP st L), aI G (ad 7) 64 (fillTo 0 (drpA L t (splitP st L)) ot), aR G (ad 2) 3 (orF ad), oX (ad (15 + L)) 2 [.ref (ad (16 + 3 * L)), .ref (ad (17 + 3 * L)), .ref (ad (18 + 3 * L)), .int (nI 64)], aI G (ad (18 + 3 * L)) 64 (nF (bnT L))] := cong_D (q0 := 6) rfl rfl hD
  have hP : va_P G.1 vwCl [oC h ad sn hsh, oX (ad 1) 1 [.ref (ad 11), .int (nI L), .int stp, .int why], aI G (ad 11) 64 st, oX (ad 3) 5 [.ref (ad 12)], aI G (ad 12) 8 u_1, aI G (ad 6) 64 (splitP st L), aI G (ad 7) 64 (fillTo 0 (drpA L t (splitP st L)) ot), aR G (ad 2) 3 (orF ad), oX (ad (15 + L)) 2 [.ref (ad (16 + 3 * L)), .ref (ad (17 + 3 * L)), .ref (ad (18 + 3 * L)), .int (nI 64)], aI G (ad (18 + 3 * L)) 64 (nF (bnT L))] _ := hP
  have hD : va_D A [oC h ad sn hsh, oX (ad 1) 1 [.ref (ad 11), .int (nI L), .int stp, .int why], aI G (ad 11) 64 st, oX (ad 3) 5 [.ref (ad 12)], aI G (ad 12) 8 u_1, aI G (ad 6) 64 (splitP st L), aI G (ad 7) 64 (fillTo 0 (drpA L t (splitP st L)) ot), aR G (ad 2) 3 (orF ad), oX (ad (15 + L)) 2 [.ref (ad (16 + 3 * L)), .ref (ad (17 + 3 * L)), .ref (ad (18 + 3 * L)), .int (nI 64)], aI G (ad (18 + 3 * L)) 64 (nF (bnT L))] := hD
  have hl : lv_has ls 5 [(0, .ref h), (1, .int t), (2, .int (nI 0)), (3, .int (nI 0))] := lv_sub hl [2, 3, 1, 0] rfl
  have e_9 : (nI 0) = (nI (cntN (crmB L t (splitP st L)) 0)) := by rfl
  rw [e_9] at hl
  have hl : lv_has ls 5 [(0, .ref h), (1, .int t), (2, .int (nI (cntN (crmB L t (splitP st L)) 0))), (3, .int (nI 0))] := hl
  exact lp_9 _ 0 (by omega) (Nat.lt_succ_self _) _ _ _ hP hD hS hl
def rm_X1_backOfOthers : Room := ({ frames := 3, cells := 0, slots := 0, locals := 82 } : Room)
set_option maxHeartbeats 400000 in
set_option maxRecDepth 100000 in
theorem t_X1_backOfOthers (l : Launch) (G : GG) (b0 sz : Nat) (h : Nat) (ad : Nat → Nat) (sn : Value) (hsh : Int64) (L : Nat) (stp why : Int32) (li : Nat → Int32) (ot : Nat → Int32) (rm : Nat → Int32) (hL1 : 1 ≤ L) (hL : L ≤ 3) : CT l yX1_backOfOthers cX1_backOfOthers 2 (some (FieldType.array FieldType.int)) (rm_X1_backOfOthers) G b0 [.ref h] [oC h ad sn hsh, oX (ad 1) 1 [.ref (ad 11), .int (nI L), .int stp, .int why], oX (ad 3) 5 [.ref (ad 12)], aI G (ad 12) 8 li, aI G (ad 7) 64 ot, aI G (ad 8) 64 rm] sz (Rr G (fun (u : Nat → Int32) => True) (fun (u : Nat → Int32) => ad 8) (fun (u : Nat → Int32) => [oC h ad sn hsh, oX (ad 1) 1 [.ref (ad 11), .int (nI L), .int stp, .int why], oX (ad 3) 5 [.ref (ad 12)], aI G (ad 12) 8 u, aI G (ad 7) 64 ot, aI G (ad 8) 64 (clmF (joinP L ot))])) := by
  refine CT.go (by decide) (Nat.le_of_ble_eq_true rfl) (fun p e s m below meth c A ls AR QQ hx hb hr hlk hml hown hnm hts hE hA hAb hsz hP hD hS hl hQQ => ?_)
  have hK := hE.1
  have hown : s.vm.findClass RX1 = some m.cls := hown
  have hl : lv_has ls 2 [(0, .ref h)] := hl
  clear hsz
  refine lv_aload_n hx hb dX1_backOfOthers_0 rfl (lv_at hl 0 rfl) ?_
  refine va_get (D := G.1) (ci := 0) (v := .ref (ad 3)) (C := RX1) (T := TX1) (N := 12) hx hb hts in_X1 hown hK hP 0 rfl rfl 2 (by decide) (hts _ q496) (fun _ h9 => h9) rfl dX1_backOfOthers_1 ?_
  refine lv_aload_n hx hb dX1_backOfOthers_4 rfl (lv_at hl 0 rfl) ?_
  refine va_get (D := G.1) (ci := 0) (v := .ref (ad 7)) (C := RX1) (T := TX1) (N := 12) hx hb hts in_X1 hown hK hP 0 rfl rfl 6 (by decide) (hts _ q500) (fun _ h9 => h9) rfl dX1_backOfOthers_5 ?_
  refine lv_aload_n hx hb dX1_backOfOthers_8 rfl (lv_at hl 0 rfl) ?_
  refine va_get (D := G.1) (ci := 0) (v := .ref (ad 8)) (C := RX1) (T := TX1) (N := 12) hx hb hts in_X1 hown hK hP 0 rfl rfl 7 (by decide) (hts _ q501) (fun _ h9 => h9) rfl dX1_backOfOthers_9 ?_
  refine lv_aload_n hx hb dX1_backOfOthers_12 rfl (lv_at hl 0 rfl) ?_
  refine va_get (D := G.1) (ci := 0) (v := .ref (ad 1)) (C := RX1) (T := TX1) (N := 12) hx hb hts in_X1 hown hK hP 0 rfl rfl 0 (by decide) (hts _ q494) (fun _ h9 => h9) rfl dX1_backOfOthers_13 ?_
  refine va_getN (D := G.1) (ci := 1) (v := .int (nI L)) (C := RX2) (T := TX2) (N := 4) hx hb hts in_X2 hown hK hP 1 rfl rfl 1 (by decide) (hE.nb q161 rfl) (fun _ h9 => h9) rfl dX1_backOfOthers_16 ?_
  refine fin_r (ws' := (fun (u_1 : Nat → Int32) => [oC h ad sn hsh, oX (ad 1) 1 [.ref (ad 11), .int (nI L), .int stp, .int why], oX (ad 3) 5 [.ref (ad 12)], aI G (ad 12) 8 u_1, aI G (ad 7) 64 ot, aI G (ad 8) 64 (joinP L ot)])) hA hS hP hD [2, 3, 4, 5] rfl [(false, 0), (false, 1), (true, 0), (true, 1), (true, 2), (true, 3)] (fun _ => rfl) (by decide) (run_V (As := [.ref (ad 7), .ref (ad 8), .int (nI L)]) (rest := []) (n9 := 3) hx hb hml hown hts hE hAb hl.1 hS hP hD [2, 3, 4, 5] rfl (by decide) (t_X6_join l G b0 _ (ad 3) (ad 12) (ad 7) (ad 8) li ot rm L (by omega)) (lw_V q1205 q1206 q1207 q118 q1208) 2 rfl rfl ⟨rfl, by decide, by decide, by decide +kernel⟩ ⟨Nat.le_of_ble_eq_true rfl, Nat.le_of_ble_eq_true rfl⟩ ⟨by first | exact Nat.le_of_ble_eq_true rfl | (simp only [rm_X1_backOfOthers, rm_X6_join]; omega), by first | exact Nat.le_of_ble_eq_true rfl | (simp only [rm_X1_backOfOthers, rm_X6_join]; omega)⟩ dX1_backOfOthers_19 (Nat.le_of_ble_eq_true rfl) rfl rfl) (fun u_1 H locs h_1 hP hD hS => ?_)
  have hP : va_P G.1 vwCl [oC h ad sn hsh, oX (ad 1) 1 [.ref (ad 11), .int (nI L), .int stp, .int why], oX (ad 3) 5 [.ref (ad 12)], aI G (ad 12) 8 u_1, aI G (ad 7) 64 ot, aI G (ad 8) 64 (joinP L ot)] _ := hP
  have hD : va_D A [oC h ad sn hsh, oX (ad 1) 1 [.ref (ad 11), .int (nI L), .int stp, .int why], oX (ad 3) 5 [.ref (ad 12)], aI G (ad 12) 8 u_1, aI G (ad 7) 64 ot, aI G (ad 8) 64 (joinP L ot)] := hD
  refine W.eq (g2 := F0 m 22 ls [.ref (ad 8)]) rfl ?_
  refine lv_pop hx hb dX1_backOfOthers_22 rfl ?_
  refine lv_iconst (v := nI 0) hx hb dX1_backOfOthers_23 (by decide) ?_
  refine lv_istore_n (lv' := [(1, .int (nI 0)), (0, .ref h)]) hx hb dX1_backOfOthers_24 rfl hl (by decide) rfl (fun ls hl => ?_)
  have lp_25 : ∀ (n_25 : Nat) (k : Nat), (k ≤ 64) → (64 - k) < n_25 → ∀ (H : Heap) (locs : List Loc) (ls : Array Slot), va_P G.1 vwCl [oC h ad sn hsh, oX (ad 1) 1 [.ref (ad 11), .int (nI L), .int stp, .int why], oX (ad 3) 5 [.ref (ad 12)], aI G (ad 12) 8 u_1, aI G (ad 7) 64 ot, aI G (ad 8) 64 (fillTo k (clmF (joinP L ot)) (joinP L ot))] H → va_D A [oC h ad sn hsh, oX (ad 1) 1 [.ref (ad 11), .int (nI L), .int stp, .int why], oX (ad 3) 5 [.ref (ad 12)], aI G (ad 12) 8 u_1, aI G (ad 7) 64 ot, aI G (ad 8) 64 (fillTo k (clmF (joinP L ot)) (joinP L ot))] → va_S A s.heap H locs → lv_has ls 2 [(0, .ref h), (1, .int (nI k))] → W p l e (rm_X1_backOfOthers) s m AR below meth c H locs 0 0 QQ (F0 m 25 ls []) := by
    intro n_25
    induction n_25 with
    | zero => intro k hk hn_; exact absurd hn_ (Nat.not_lt_zero _)
    | succ n_25 ih_25 =>
      intro k hk hn_25 H locs ls hP hD hS hl
      refine lv_iload_n hx hb dX1_backOfOthers_25 rfl (lv_at hl 1 rfl) ?_
      refine lv_bipush (v := nI 64) hx hb dX1_backOfOthers_26 (by decide) ?_
      refine N_icmp_ge (tgt := 59) hx hb dX1_backOfOthers_28 (by decide) (by omega) (by omega) (fun c_28 => ?_) (fun c_28 => ?_)
      · skip
        obtain rfl : k = 64 := by omega
        have e_2 : ∀ j, j < 64 → (fillTo 64 (clmF (joinP L ot)) (joinP L ot)) j = (clmF (joinP L ot)) j := by exact fill_pt
        have hP : va_P G.1 vwCl [oC h ad sn hsh, oX (ad 1) 1 [.ref (ad 11), .int (nI L), .int stp, .int why], oX (ad 3) 5 [.ref (ad 12)], aI G (ad 12) 8 u_1, aI G (ad 7) 64 ot, aI G (ad 8) 64 (clmF (joinP L ot))] _ := cong_P (q0 := 5) e_2 rfl rfl hP
        have hD : va_D A [oC h ad sn hsh, oX (ad 1) 1 [.ref (ad 11), .int (nI L), .int stp, .int why], oX (ad 3) 5 [.ref (ad 12)], aI G (ad 12) 8 u_1, aI G (ad 7) 64 ot, aI G (ad 8) 64 (clmF (joinP L ot))] := cong_D (q0 := 5) rfl rfl hD
        have hP : va_P G.1 vwCl [oC h ad sn hsh, oX (ad 1) 1 [.ref (ad 11), .int (nI L), .int stp, .int why], oX (ad 3) 5 [.ref (ad 12)], aI G (ad 12) 8 u_1, aI G (ad 7) 64 ot, aI G (ad 8) 64 (clmF (joinP L ot))] _ := hP
        have hD : va_D A [oC h ad sn hsh, oX (ad 1) 1 [.ref (ad 11), .int (nI L), .int stp, .int why], oX (ad 3) 5 [.ref (ad 12)], aI G (ad 12) 8 u_1, aI G (ad 7) 64 ot, aI G (ad 8) 64 (clmF (joinP L ot))] := hD
        refine lv_aload_n hx hb dX1_backOfOthers_59 rfl (lv_at hl 0 rfl) ?_
        refine va_get (D := G.1) (ci := 0) (v := .ref (ad 8)) (C := RX1) (T := TX1) (N := 12) hx hb hts in_X1 hown hK hP 0 rfl rfl 7 (by decide) (hts _ q501) (fun _ h9 => h9) rfl dX1_backOfOthers_60 ?_
        rw [hQQ]
        exact rt_r hx hb hr hlk (by first | exact Or.inl ⟨_, rfl⟩ | exact Or.inr ⟨_, rfl⟩) u_1 dX1_backOfOthers_63 hP hD hS (by first | exact Nat.le_of_ble_eq_true rfl | (simp only [rm_X1_backOfOthers, rm_X6_join]; omega) | omega) (by first | exact Nat.le_of_ble_eq_true rfl | (simp only [rm_X1_backOfOthers, rm_X6_join]; omega) | omega) (by rfl) trivial
      · skip
        refine lv_aload_n hx hb dX1_backOfOthers_31 rfl (lv_at hl 0 rfl) ?_
        refine va_get (D := G.1) (ci := 0) (v := .ref (ad 8)) (C := RX1) (T := TX1) (N := 12) hx hb hts in_X1 hown hK hP 0 rfl rfl 7 (by decide) (hts _ q501) (fun _ h9 => h9) rfl dX1_backOfOthers_32 ?_
        refine lv_iload_n hx hb dX1_backOfOthers_35 rfl (lv_at hl 1 rfl) ?_
        refine lv_iconst (v := nI 0) hx hb dX1_backOfOthers_36 (by decide) ?_
        refine lv_sipush (v := nI 255) hx hb dX1_backOfOthers_37 (by decide) ?_
        refine lv_aload_n hx hb dX1_backOfOthers_40 rfl (lv_at hl 0 rfl) ?_
        refine va_get (D := G.1) (ci := 0) (v := .ref (ad 8)) (C := RX1) (T := TX1) (N := 12) hx hb hts in_X1 hown hK hP 0 rfl rfl 7 (by decide) (hts _ q501) (fun _ h9 => h9) rfl dX1_backOfOthers_41 ?_
        refine lv_iload_n hx hb dX1_backOfOthers_44 rfl (lv_at hl 1 rfl) ?_
        refine N_iald hx hb dX1_backOfOthers_45 hK hP 5 0 rfl rfl (by omega) (by omega) ?_
        refine top_i (y := (joinP L ot) k) (by first | exact fill_ge (Nat.le_refl _) | exact congrArg nI (fill_ge (Nat.le_refl _)) | exact congrArg bI (fill_ge (Nat.le_refl _))) ?_
        refine M_min hx hb (hml.trans hl.1.symm) hown hts q1248 q627 q137 q628 (Nat.le_of_ble_eq_true rfl) (Nat.le_of_ble_eq_true rfl) (by first | exact Nat.le_of_ble_eq_true rfl | omega | (simp only [rm_X1_backOfOthers, rm_X6_join]; omega)) (by first | exact Nat.le_of_ble_eq_true rfl | omega | (simp only [rm_X1_backOfOthers, rm_X6_join]; omega)) dX1_backOfOthers_46 ?_
        refine M_max hx hb (hml.trans hl.1.symm) hown hts q1181 q586 q137 q587 (Nat.le_of_ble_eq_true rfl) (Nat.le_of_ble_eq_true rfl) (by first | exact Nat.le_of_ble_eq_true rfl | omega | (simp only [rm_X1_backOfOthers, rm_X6_join]; omega)) (by first | exact Nat.le_of_ble_eq_true rfl | omega | (simp only [rm_X1_backOfOthers, rm_X6_join]; omega)) dX1_backOfOthers_49 ?_
        refine W.eq (g2 := F0 m 52 ls [.int (clampI ((joinP L ot) k)), .int (nI k), .ref (ad 8)]) (by rw [clp]) ?_
        refine N_iast (ws' := [oC h ad sn hsh, oX (ad 1) 1 [.ref (ad 11), .int (nI L), .int stp, .int why], oX (ad 3) 5 [.ref (ad 12)], aI G (ad 12) 8 u_1, aI G (ad 7) 64 ot, aI G (ad 8) 64 (upd (fillTo k (clmF (joinP L ot)) (joinP L ot)) k (clampI ((joinP L ot) k)))]) hx hb dX1_backOfOthers_52 hK hP hD hS 5 0 rfl rfl (by omega) (by omega) rfl (fun H locs hP hD hS => ?_)
        refine N_iinc (a := k) (b := 1) (k9 := 1) (lv' := [(1, .int (nI (k + 1))), (0, .ref h)]) hx hb dX1_backOfOthers_53 hl rfl rfl (by decide) rfl (fun ls hl => ?_)
        refine lv_goto (tgt := 25) hx hb dX1_backOfOthers_56 (by decide) ?_
        have e_3 : (upd (fillTo k (clmF (joinP L ot)) (joinP L ot)) k (clampI ((joinP L ot) k))) = (fillTo (k + 1) (clmF (joinP L ot)) (joinP L ot)) := by exact fill_step (g := clmF (joinP L ot))
        have hP : va_P G.1 vwCl [oC h ad sn hsh, oX (ad 1) 1 [.ref (ad 11), .int (nI L), .int stp, .int why], oX (ad 3) 5 [.ref (ad 12)], aI G (ad 12) 8 u_1, aI G (ad 7) 64 ot, aI G (ad 8) 64 (fillTo (k + 1) (clmF (joinP L ot)) (joinP L ot))] _ := cong_P (q0 := 5) (fun j _ => congrFun e_3 j) rfl rfl hP
        have hD : va_D A [oC h ad sn hsh, oX (ad 1) 1 [.ref (ad 11), .int (nI L), .int stp, .int why], oX (ad 3) 5 [.ref (ad 12)], aI G (ad 12) 8 u_1, aI G (ad 7) 64 ot, aI G (ad 8) 64 (fillTo (k + 1) (clmF (joinP L ot)) (joinP L ot))] := cong_D (q0 := 5) rfl rfl hD
        have hP : va_P G.1 vwCl [oC h ad sn hsh, oX (ad 1) 1 [.ref (ad 11), .int (nI L), .int stp, .int why], oX (ad 3) 5 [.ref (ad 12)], aI G (ad 12) 8 u_1, aI G (ad 7) 64 ot, aI G (ad 8) 64 (fillTo (k + 1) (clmF (joinP L ot)) (joinP L ot))] _ := hP
        have hD : va_D A [oC h ad sn hsh, oX (ad 1) 1 [.ref (ad 11), .int (nI L), .int stp, .int why], oX (ad 3) 5 [.ref (ad 12)], aI G (ad 12) 8 u_1, aI G (ad 7) 64 ot, aI G (ad 8) 64 (fillTo (k + 1) (clmF (joinP L ot)) (joinP L ot))] := hD
        have hl : lv_has ls 2 [(0, .ref h), (1, .int (nI (k + 1)))] := lv_sub hl [1, 0] rfl
        exact ih_25 (k + 1) (by omega) (by omega) _ _ _ hP hD hS hl
  have e_4 : (joinP L ot) = (fillTo 0 (clmF (joinP L ot)) (joinP L ot)) := by exact (fill0 _ _).symm
  have hP : va_P G.1 vwCl [oC h ad sn hsh, oX (ad 1) 1 [.ref (ad 11), .int (nI L), .int stp, .int why], oX (ad 3) 5 [.ref (ad 12)], aI G (ad 12) 8 u_1, aI G (ad 7) 64 ot, aI G (ad 8) 64 (fillTo 0 (clmF (joinP L ot)) (joinP L ot))] _ := cong_P (q0 := 5) (fun j _ => congrFun e_4 j) rfl rfl hP
  have hD : va_D A [oC h ad sn hsh, oX (ad 1) 1 [.ref (ad 11), .int (nI L), .int stp, .int why], oX (ad 3) 5 [.ref (ad 12)], aI G (ad 12) 8 u_1, aI G (ad 7) 64 ot, aI G (ad 8) 64 (fillTo 0 (clmF (joinP L ot)) (joinP L ot))] := cong_D (q0 := 5) rfl rfl hD
  have hP : va_P G.1 vwCl [oC h ad sn hsh, oX (ad 1) 1 [.ref (ad 11), .int (nI L), .int stp, .int why], oX (ad 3) 5 [.ref (ad 12)], aI G (ad 12) 8 u_1, aI G (ad 7) 64 ot, aI G (ad 8) 64 (fillTo 0 (clmF (joinP L ot)) (joinP L ot))] _ := hP
  have hD : va_D A [oC h ad sn hsh, oX (ad 1) 1 [.ref (ad 11), .int (nI L), .int stp, .int why], oX (ad 3) 5 [.ref (ad 12)], aI G (ad 12) 8 u_1, aI G (ad 7) 64 ot, aI G (ad 8) 64 (fillTo 0 (clmF (joinP L ot)) (joinP L ot))] := hD
  have hl : lv_has ls 2 [(0, .ref h), (1, .int (nI 0))] := lv_sub hl [1, 0] rfl
  exact lp_25 _ 0 (by omega) (Nat.lt_succ_self _) _ _ _ hP hD hS hl
def rm_X1_apart : Room := ({ frames := 1, cells := 0, slots := 0, locals := 30 } : Room)
set_option maxHeartbeats 400000 in
set_option maxRecDepth 100000 in
theorem t_X1_apart (l : Launch) (G : GG) (b0 sz : Nat) (h : Nat) (ad : Nat → Nat) (sn : Value) (hsh : Int64) (L : Nat) (stp why : Int32) (st : Nat → Int32) (rm : Nat → Int32) : CT l yX1_apart cX1_apart 3 (some FieldType.int) (rm_X1_apart) G b0 [.ref h] [oC h ad sn hsh, oX (ad 1) 1 [.ref (ad 11), .int (nI L), .int stp, .int why], aI G (ad 11) 64 st, aI G (ad 8) 64 rm] sz (Ri G (fun (r_ : Int32) (_ : Unit) => r_ = l_sum (cosF rm st) 64) (fun (_ : Unit) => [oC h ad sn hsh, oX (ad 1) 1 [.ref (ad 11), .int (nI L), .int stp, .int why], aI G (ad 11) 64 st, aI G (ad 8) 64 rm])) := by
  refine CT.go (by decide) (Nat.le_of_ble_eq_true rfl) (fun p e s m below meth c A ls AR QQ hx hb hr hlk hml hown hnm hts hE hA hAb hsz hP hD hS hl hQQ => ?_)
  have hK := hE.1
  have hown : s.vm.findClass RX1 = some m.cls := hown
  have hl : lv_has ls 3 [(0, .ref h)] := hl
  clear hsz
  refine lv_iconst (v := nI 0) hx hb dX1_apart_0 (by decide) ?_
  refine lv_istore_n (lv' := [(1, .int (nI 0)), (0, .ref h)]) hx hb dX1_apart_1 rfl hl (by decide) rfl (fun ls hl => ?_)
  refine lv_iconst (v := nI 0) hx hb dX1_apart_2 (by decide) ?_
  refine lv_istore_n (lv' := [(2, .int (nI 0)), (1, .int (nI 0)), (0, .ref h)]) hx hb dX1_apart_3 rfl hl (by decide) rfl (fun ls hl => ?_)
  have lp_4 : ∀ (n_4 : Nat) (k : Nat), (k ≤ 64) → (64 - k) < n_4 → ∀ (H : Heap) (locs : List Loc) (ls : Array Slot), va_P G.1 vwCl [oC h ad sn hsh, oX (ad 1) 1 [.ref (ad 11), .int (nI L), .int stp, .int why], aI G (ad 11) 64 st, aI G (ad 8) 64 rm] H → va_D A [oC h ad sn hsh, oX (ad 1) 1 [.ref (ad 11), .int (nI L), .int stp, .int why], aI G (ad 11) 64 st, aI G (ad 8) 64 rm] → va_S A s.heap H locs → lv_has ls 3 [(0, .ref h), (1, .int (l_sum (cosF rm st) k)), (2, .int (nI k))] → W p l e (rm_X1_apart) s m AR below meth c H locs 0 0 QQ (F0 m 4 ls []) := by
    intro n_4
    induction n_4 with
    | zero => intro k hk hn_; exact absurd hn_ (Nat.not_lt_zero _)
    | succ n_4 ih_4 =>
      intro k hk hn_4 H locs ls hP hD hS hl
      refine lv_iload_n hx hb dX1_apart_4 rfl (lv_at hl 2 rfl) ?_
      refine lv_bipush (v := nI 64) hx hb dX1_apart_5 (by decide) ?_
      refine N_icmp_ge (tgt := 38) hx hb dX1_apart_7 (by decide) (by omega) (by omega) (fun c_7 => ?_) (fun c_7 => ?_)
      · skip
        obtain rfl : k = 64 := by omega
        refine lv_iload_n hx hb dX1_apart_38 rfl (lv_at hl 1 rfl) ?_
        rw [hQQ]
        exact rt_i hx hb hr hlk  ((())) dX1_apart_39 hP hD hS (by first | exact Nat.le_of_ble_eq_true rfl | (simp only [rm_X1_apart]; omega) | omega) (by first | exact Nat.le_of_ble_eq_true rfl | (simp only [rm_X1_apart]; omega) | omega) (by rfl)
      · skip
        refine lv_iload_n hx hb dX1_apart_10 rfl (lv_at hl 1 rfl) ?_
        refine lv_aload_n hx hb dX1_apart_11 rfl (lv_at hl 0 rfl) ?_
        refine va_get (D := G.1) (ci := 0) (v := .ref (ad 8)) (C := RX1) (T := TX1) (N := 12) hx hb hts in_X1 hown hK hP 0 rfl rfl 7 (by decide) (hts _ q501) (fun _ h9 => h9) rfl dX1_apart_12 ?_
        refine lv_iload_n hx hb dX1_apart_15 rfl (lv_at hl 2 rfl) ?_
        refine N_iald hx hb dX1_apart_16 hK hP 3 0 rfl rfl (by omega) (by omega) ?_
        refine lv_aload_n hx hb dX1_apart_17 rfl (lv_at hl 0 rfl) ?_
        refine va_get (D := G.1) (ci := 0) (v := .ref (ad 1)) (C := RX1) (T := TX1) (N := 12) hx hb hts in_X1 hown hK hP 0 rfl rfl 0 (by decide) (hts _ q494) (fun _ h9 => h9) rfl dX1_apart_18 ?_
        refine va_getN (D := G.1) (ci := 1) (v := .ref (ad 11)) (C := RX2) (T := TX2) (N := 4) hx hb hts in_X2 hown hK hP 1 rfl rfl 0 (by decide) (hE.nb q159 rfl) (fun _ h9 => h9) rfl dX1_apart_21 ?_
        refine lv_iload_n hx hb dX1_apart_24 rfl (lv_at hl 2 rfl) ?_
        refine N_iald hx hb dX1_apart_25 hK hP 2 0 rfl rfl (by omega) (by omega) ?_
        refine lv_isub hx hb dX1_apart_26 ?_
        refine M_abs hx hb (hml.trans hl.1.symm) hown hts q1239 q1169 q137 q1170 (Nat.le_of_ble_eq_true rfl) (Nat.le_of_ble_eq_true rfl) (by first | exact Nat.le_of_ble_eq_true rfl | omega | (simp only [rm_X1_apart]; omega)) (by first | exact Nat.le_of_ble_eq_true rfl | omega | (simp only [rm_X1_apart]; omega)) dX1_apart_27 ?_
        refine lv_iadd hx hb dX1_apart_30 ?_
        refine lv_istore_n (lv' := [(1, .int ((l_sum (cosF rm st) k) + (absI ((rm k) - (st k))))), (0, .ref h), (2, .int (nI k))]) hx hb dX1_apart_31 rfl hl (by decide) rfl (fun ls hl => ?_)
        refine N_iinc (a := k) (b := 1) (k9 := 2) (lv' := [(2, .int (nI (k + 1))), (1, .int ((l_sum (cosF rm st) k) + (absI ((rm k) - (st k))))), (0, .ref h)]) hx hb dX1_apart_32 hl rfl rfl (by decide) rfl (fun ls hl => ?_)
        refine lv_goto (tgt := 4) hx hb dX1_apart_35 (by decide) ?_
        have hl : lv_has ls 3 [(0, .ref h), (1, .int ((l_sum (cosF rm st) k) + (absI ((rm k) - (st k))))), (2, .int (nI (k + 1)))] := lv_sub hl [2, 1, 0] rfl
        have e_1 : ((l_sum (cosF rm st) k) + (absI ((rm k) - (st k)))) = (l_sum (cosF rm st) (k + 1)) := by exact cos_nx
        rw [e_1] at hl
        have hl : lv_has ls 3 [(0, .ref h), (1, .int (l_sum (cosF rm st) (k + 1))), (2, .int (nI (k + 1)))] := hl
        exact ih_4 (k + 1) (by omega) (by omega) _ _ _ hP hD hS hl
  have hl : lv_has ls 3 [(0, .ref h), (1, .int (nI 0)), (2, .int (nI 0))] := lv_sub hl [2, 1, 0] rfl
  have e_2 : (nI 0) = (l_sum (cosF rm st) 0) := by rfl
  rw [e_2] at hl
  have hl : lv_has ls 3 [(0, .ref h), (1, .int (l_sum (cosF rm st) 0)), (2, .int (nI 0))] := hl
  exact lp_4 _ 0 (by omega) (Nat.lt_succ_self _) _ _ _ hP hD hS hl
def rm_X1_costTold : Room := ({ frames := 5, cells := 0, slots := 0, locals := 140 } : Room)
set_option maxHeartbeats 400000 in
set_option maxRecDepth 100000 in
theorem t_X1_costTold (l : Launch) (G : GG) (b0 sz : Nat) (h : Nat) (ad : Nat → Nat) (sn : Value) (hsh : Int64) (L : Nat) (stp why : Int32) (st : Nat → Int32) (li : Nat → Int32) (pa : Nat → Int32) (ot : Nat → Int32) (rm : Nat → Int32) (t : Int32) (hL1 : 1 ≤ L) (hL : L ≤ 3) : CT l yX1_costTold cX1_costTold 2 (some FieldType.int) (rm_X1_costTold) G b0 [.ref h, .int t] [oC h ad sn hsh, oX (ad 1) 1 [.ref (ad 11), .int (nI L), .int stp, .int why], aI G (ad 11) 64 st, oX (ad 3) 5 [.ref (ad 12)], aI G (ad 12) 8 li, aI G (ad 6) 64 pa, aI G (ad 7) 64 ot, aI G (ad 8) 64 rm, aR G (ad 2) 3 (orF ad), oX (ad (15 + L)) 2 [.ref (ad (16 + 3 * L)), .ref (ad (17 + 3 * L)), .ref (ad (18 + 3 * L)), .int (nI 64)], aI G (ad (18 + 3 * L)) 64 (nF (bnT L))] sz (Ri G (fun (r_ : Int32) (u : Nat → Int32) => r_ = costI L t st) (fun (u : Nat → Int32) => [oC h ad sn hsh, oX (ad 1) 1 [.ref (ad 11), .int (nI L), .int stp, .int why], aI G (ad 11) 64 st, oX (ad 3) 5 [.ref (ad 12)], aI G (ad 12) 8 u, aI G (ad 6) 64 (splitP st L), aI G (ad 7) 64 (drpA L t (splitP st L)), aI G (ad 8) 64 (bkD L t st), aR G (ad 2) 3 (orF ad), oX (ad (15 + L)) 2 [.ref (ad (16 + 3 * L)), .ref (ad (17 + 3 * L)), .ref (ad (18 + 3 * L)), .int (nI 64)], aI G (ad (18 + 3 * L)) 64 (nF (bnT L))])) := by
  refine CT.go (by decide) (Nat.le_of_ble_eq_true rfl) (fun p e s m below meth c A ls AR QQ hx hb hr hlk hml hown hnm hts hE hA hAb hsz hP hD hS hl hQQ => ?_)
  have hK := hE.1
  have hown : s.vm.findClass RX1 = some m.cls := hown
  have hl : lv_has ls 2 [(0, .ref h), (1, .int t)] := hl
  clear hsz
  refine lv_aload_n hx hb dX1_costTold_0 rfl (lv_at hl 0 rfl) ?_
  refine lv_iload_n hx hb dX1_costTold_1 rfl (lv_at hl 1 rfl) ?_
  refine fin_i (ws' := (fun (u_1 : Nat → Int32) => [oC h ad sn hsh, oX (ad 1) 1 [.ref (ad 11), .int (nI L), .int stp, .int why], aI G (ad 11) 64 st, oX (ad 3) 5 [.ref (ad 12)], aI G (ad 12) 8 u_1, aI G (ad 6) 64 (splitP st L), aI G (ad 7) 64 (drpA L t (splitP st L)), aI G (ad 8) 64 rm, aR G (ad 2) 3 (orF ad), oX (ad (15 + L)) 2 [.ref (ad (16 + 3 * L)), .ref (ad (17 + 3 * L)), .ref (ad (18 + 3 * L)), .int (nI 64)], aI G (ad (18 + 3 * L)) 64 (nF (bnT L))])) hA hS hP hD [0, 1, 2, 3, 4, 5, 6, 8, 9, 10] rfl [(true, 0), (true, 1), (true, 2), (true, 3), (true, 4), (true, 5), (true, 6), (false, 7), (true, 7), (true, 8), (true, 9)] (fun _ => rfl) (by decide) (run_V (As := [.int t]) (rest := []) (n9 := 1) hx hb hml hown hts hE hAb hl.1 hS hP hD [0, 1, 2, 3, 4, 5, 6, 8, 9, 10] rfl (by decide) (t_X1_drop l G b0 _ h ad sn hsh L stp why st li pa ot t (by omega) (by omega)) (lw_V q1231 q1233 qs37 q106 q1234) 0 rfl rfl ⟨rfl, by decide, by decide, by decide +kernel⟩ ⟨Nat.le_of_ble_eq_true rfl, Nat.le_of_ble_eq_true rfl⟩ ⟨by first | exact Nat.le_of_ble_eq_true rfl | (simp only [rm_X1_costTold, rm_X1_drop]; omega), by first | exact Nat.le_of_ble_eq_true rfl | (simp only [rm_X1_costTold, rm_X1_drop]; omega)⟩ dX1_costTold_2 (Nat.le_of_ble_eq_true rfl) rfl rfl) (fun r_1 u_1 H locs h_1 hP hD hS => ?_)
  have hP : va_P G.1 vwCl [oC h ad sn hsh, oX (ad 1) 1 [.ref (ad 11), .int (nI L), .int stp, .int why], aI G (ad 11) 64 st, oX (ad 3) 5 [.ref (ad 12)], aI G (ad 12) 8 u_1, aI G (ad 6) 64 (splitP st L), aI G (ad 7) 64 (drpA L t (splitP st L)), aI G (ad 8) 64 rm, aR G (ad 2) 3 (orF ad), oX (ad (15 + L)) 2 [.ref (ad (16 + 3 * L)), .ref (ad (17 + 3 * L)), .ref (ad (18 + 3 * L)), .int (nI 64)], aI G (ad (18 + 3 * L)) 64 (nF (bnT L))] _ := hP
  have hD : va_D A [oC h ad sn hsh, oX (ad 1) 1 [.ref (ad 11), .int (nI L), .int stp, .int why], aI G (ad 11) 64 st, oX (ad 3) 5 [.ref (ad 12)], aI G (ad 12) 8 u_1, aI G (ad 6) 64 (splitP st L), aI G (ad 7) 64 (drpA L t (splitP st L)), aI G (ad 8) 64 rm, aR G (ad 2) 3 (orF ad), oX (ad (15 + L)) 2 [.ref (ad (16 + 3 * L)), .ref (ad (17 + 3 * L)), .ref (ad (18 + 3 * L)), .int (nI 64)], aI G (ad (18 + 3 * L)) 64 (nF (bnT L))] := hD
  have h_1 : r_1 = (nI (cntN (crmB L t (splitP st L)) 64)) := h_1
  rw [h_1]
  refine lv_pop hx hb dX1_costTold_5 rfl ?_
  refine lv_aload_n hx hb dX1_costTold_6 rfl (lv_at hl 0 rfl) ?_
  refine fin_r (ws' := (fun (u_2 : Nat → Int32) => [oC h ad sn hsh, oX (ad 1) 1 [.ref (ad 11), .int (nI L), .int stp, .int why], aI G (ad 11) 64 st, oX (ad 3) 5 [.ref (ad 12)], aI G (ad 12) 8 u_2, aI G (ad 6) 64 (splitP st L), aI G (ad 7) 64 (drpA L t (splitP st L)), aI G (ad 8) 64 (clmF (joinP L (drpA L t (splitP st L)))), aR G (ad 2) 3 (orF ad), oX (ad (15 + L)) 2 [.ref (ad (16 + 3 * L)), .ref (ad (17 + 3 * L)), .ref (ad (18 + 3 * L)), .int (nI 64)], aI G (ad (18 + 3 * L)) 64 (nF (bnT L))])) hA hS hP hD [0, 1, 3, 4, 6, 7] rfl [(true, 0), (true, 1), (false, 2), (true, 2), (true, 3), (false, 5), (true, 4), (true, 5), (false, 8), (false, 9), (false, 10)] (fun _ => rfl) (by decide) (run_V (As := []) (rest := []) (n9 := 0) hx hb hml hown hts hE hAb hl.1 hS hP hD [0, 1, 3, 4, 6, 7] rfl (by decide) (t_X1_backOfOthers l G b0 _ h ad sn hsh L stp why u_1 (drpA L t (splitP st L)) rm (by omega) (by omega)) (lw_V q1244 q1246 qs40 q106 q1247) 0 rfl rfl ⟨rfl, by decide, by decide, by decide +kernel⟩ ⟨Nat.le_of_ble_eq_true rfl, Nat.le_of_ble_eq_true rfl⟩ ⟨by first | exact Nat.le_of_ble_eq_true rfl | (simp only [rm_X1_costTold, rm_X1_backOfOthers, rm_X1_drop]; omega), by first | exact Nat.le_of_ble_eq_true rfl | (simp only [rm_X1_costTold, rm_X1_backOfOthers, rm_X1_drop]; omega)⟩ dX1_costTold_7 (Nat.le_of_ble_eq_true rfl) rfl rfl) (fun u_2 H locs h_2 hP hD hS => ?_)
  have hP : va_P G.1 vwCl [oC h ad sn hsh, oX (ad 1) 1 [.ref (ad 11), .int (nI L), .int stp, .int why], aI G (ad 11) 64 st, oX (ad 3) 5 [.ref (ad 12)], aI G (ad 12) 8 u_2, aI G (ad 6) 64 (splitP st L), aI G (ad 7) 64 (drpA L t (splitP st L)), aI G (ad 8) 64 (clmF (joinP L (drpA L t (splitP st L)))), aR G (ad 2) 3 (orF ad), oX (ad (15 + L)) 2 [.ref (ad (16 + 3 * L)), .ref (ad (17 + 3 * L)), .ref (ad (18 + 3 * L)), .int (nI 64)], aI G (ad (18 + 3 * L)) 64 (nF (bnT L))] _ := hP
  have hD : va_D A [oC h ad sn hsh, oX (ad 1) 1 [.ref (ad 11), .int (nI L), .int stp, .int why], aI G (ad 11) 64 st, oX (ad 3) 5 [.ref (ad 12)], aI G (ad 12) 8 u_2, aI G (ad 6) 64 (splitP st L), aI G (ad 7) 64 (drpA L t (splitP st L)), aI G (ad 8) 64 (clmF (joinP L (drpA L t (splitP st L)))), aR G (ad 2) 3 (orF ad), oX (ad (15 + L)) 2 [.ref (ad (16 + 3 * L)), .ref (ad (17 + 3 * L)), .ref (ad (18 + 3 * L)), .int (nI 64)], aI G (ad (18 + 3 * L)) 64 (nF (bnT L))] := hD
  refine W.eq (g2 := F0 m 10 ls [.ref (ad 8)]) rfl ?_
  refine lv_pop hx hb dX1_costTold_10 rfl ?_
  refine lv_aload_n hx hb dX1_costTold_11 rfl (lv_at hl 0 rfl) ?_
  refine fin_i (ws' := (fun (_ : Unit) => [oC h ad sn hsh, oX (ad 1) 1 [.ref (ad 11), .int (nI L), .int stp, .int why], aI G (ad 11) 64 st, oX (ad 3) 5 [.ref (ad 12)], aI G (ad 12) 8 u_2, aI G (ad 6) 64 (splitP st L), aI G (ad 7) 64 (drpA L t (splitP st L)), aI G (ad 8) 64 (clmF (joinP L (drpA L t (splitP st L)))), aR G (ad 2) 3 (orF ad), oX (ad (15 + L)) 2 [.ref (ad (16 + 3 * L)), .ref (ad (17 + 3 * L)), .ref (ad (18 + 3 * L)), .int (nI 64)], aI G (ad (18 + 3 * L)) 64 (nF (bnT L))])) hA hS hP hD [0, 1, 2, 7] rfl [(true, 0), (true, 1), (true, 2), (false, 3), (false, 4), (false, 5), (false, 6), (true, 3), (false, 8), (false, 9), (false, 10)] (fun _ => rfl) (by decide) (run_V (As := []) (rest := []) (n9 := 0) hx hb hml hown hts hE hAb hl.1 hS hP hD [0, 1, 2, 7] rfl (by decide) (t_X1_apart l G b0 _ h ad sn hsh L stp why st (clmF (joinP L (drpA L t (splitP st L)))) ) (lw_V q1249 q1251 qs41 q106 q1252) 0 rfl rfl ⟨rfl, by decide, by decide, by decide +kernel⟩ ⟨Nat.le_of_ble_eq_true rfl, Nat.le_of_ble_eq_true rfl⟩ ⟨by first | exact Nat.le_of_ble_eq_true rfl | (simp only [rm_X1_costTold, rm_X1_apart, rm_X1_drop, rm_X1_backOfOthers]; omega), by first | exact Nat.le_of_ble_eq_true rfl | (simp only [rm_X1_costTold, rm_X1_apart, rm_X1_drop, rm_X1_backOfOthers]; omega)⟩ dX1_costTold_12 (Nat.le_of_ble_eq_true rfl) rfl rfl) (fun r_3 u_3 H locs h_3 hP hD hS => ?_)
  have hP : va_P G.1 vwCl [oC h ad sn hsh, oX (ad 1) 1 [.ref (ad 11), .int (nI L), .int stp, .int why], aI G (ad 11) 64 st, oX (ad 3) 5 [.ref (ad 12)], aI G (ad 12) 8 u_2, aI G (ad 6) 64 (splitP st L), aI G (ad 7) 64 (drpA L t (splitP st L)), aI G (ad 8) 64 (clmF (joinP L (drpA L t (splitP st L)))), aR G (ad 2) 3 (orF ad), oX (ad (15 + L)) 2 [.ref (ad (16 + 3 * L)), .ref (ad (17 + 3 * L)), .ref (ad (18 + 3 * L)), .int (nI 64)], aI G (ad (18 + 3 * L)) 64 (nF (bnT L))] _ := hP
  have hD : va_D A [oC h ad sn hsh, oX (ad 1) 1 [.ref (ad 11), .int (nI L), .int stp, .int why], aI G (ad 11) 64 st, oX (ad 3) 5 [.ref (ad 12)], aI G (ad 12) 8 u_2, aI G (ad 6) 64 (splitP st L), aI G (ad 7) 64 (drpA L t (splitP st L)), aI G (ad 8) 64 (clmF (joinP L (drpA L t (splitP st L)))), aR G (ad 2) 3 (orF ad), oX (ad (15 + L)) 2 [.ref (ad (16 + 3 * L)), .ref (ad (17 + 3 * L)), .ref (ad (18 + 3 * L)), .int (nI 64)], aI G (ad (18 + 3 * L)) 64 (nF (bnT L))] := hD
  have h_3 : r_3 = (l_sum (cosF (clmF (joinP L (drpA L t (splitP st L)))) st) 64) := h_3
  rw [h_3]
  have hP : va_P G.1 vwCl [oC h ad sn hsh, oX (ad 1) 1 [.ref (ad 11), .int (nI L), .int stp, .int why], aI G (ad 11) 64 st, oX (ad 3) 5 [.ref (ad 12)], aI G (ad 12) 8 u_2, aI G (ad 6) 64 (splitP st L), aI G (ad 7) 64 (drpA L t (splitP st L)), aI G (ad 8) 64 (bkD L t st), aR G (ad 2) 3 (orF ad), oX (ad (15 + L)) 2 [.ref (ad (16 + 3 * L)), .ref (ad (17 + 3 * L)), .ref (ad (18 + 3 * L)), .int (nI 64)], aI G (ad (18 + 3 * L)) 64 (nF (bnT L))] _ := hP
  have hD : va_D A [oC h ad sn hsh, oX (ad 1) 1 [.ref (ad 11), .int (nI L), .int stp, .int why], aI G (ad 11) 64 st, oX (ad 3) 5 [.ref (ad 12)], aI G (ad 12) 8 u_2, aI G (ad 6) 64 (splitP st L), aI G (ad 7) 64 (drpA L t (splitP st L)), aI G (ad 8) 64 (bkD L t st), aR G (ad 2) 3 (orF ad), oX (ad (15 + L)) 2 [.ref (ad (16 + 3 * L)), .ref (ad (17 + 3 * L)), .ref (ad (18 + 3 * L)), .int (nI 64)], aI G (ad (18 + 3 * L)) 64 (nF (bnT L))] := hD
  rw [hQQ]
  exact rt_i hx hb hr hlk  u_2 dX1_costTold_15 hP hD hS (by first | exact Nat.le_of_ble_eq_true rfl | (simp only [rm_X1_costTold, rm_X1_drop, rm_X1_backOfOthers, rm_X1_apart]; omega) | omega) (by first | exact Nat.le_of_ble_eq_true rfl | (simp only [rm_X1_costTold, rm_X1_drop, rm_X1_backOfOthers, rm_X1_apart]; omega) | omega) (by rfl)
def rm_X1_worstTold : Room := ({ frames := 5, cells := 0, slots := 0, locals := 140 } : Room)
set_option maxHeartbeats 400000 in
set_option maxRecDepth 100000 in
theorem t_X1_worstTold (l : Launch) (G : GG) (b0 sz : Nat) (h : Nat) (ad : Nat → Nat) (sn : Value) (hsh : Int64) (L : Nat) (stp why : Int32) (st : Nat → Int32) (li : Nat → Int32) (pa : Nat → Int32) (ot : Nat → Int32) (rm : Nat → Int32) (t : Int32) (hL1 : 1 ≤ L) (hL : L ≤ 3) : CT l yX1_worstTold cX1_worstTold 4 (some FieldType.int) (rm_X1_worstTold) G b0 [.ref h, .int t] [oC h ad sn hsh, oX (ad 1) 1 [.ref (ad 11), .int (nI L), .int stp, .int why], aI G (ad 11) 64 st, oX (ad 3) 5 [.ref (ad 12)], aI G (ad 12) 8 li, aI G (ad 6) 64 pa, aI G (ad 7) 64 ot, aI G (ad 8) 64 rm, aR G (ad 2) 3 (orF ad), oX (ad (15 + L)) 2 [.ref (ad (16 + 3 * L)), .ref (ad (17 + 3 * L)), .ref (ad (18 + 3 * L)), .int (nI 64)], aI G (ad (18 + 3 * L)) 64 (nF (bnT L))] sz (Ri G (fun (r_ : Int32) (u : Nat → Int32) => r_ = wrsI (cosF (bkD L t st) st) 64) (fun (u : Nat → Int32) => [oC h ad sn hsh, oX (ad 1) 1 [.ref (ad 11), .int (nI L), .int stp, .int why], aI G (ad 11) 64 st, oX (ad 3) 5 [.ref (ad 12)], aI G (ad 12) 8 u, aI G (ad 6) 64 (splitP st L), aI G (ad 7) 64 (drpA L t (splitP st L)), aI G (ad 8) 64 (bkD L t st), aR G (ad 2) 3 (orF ad), oX (ad (15 + L)) 2 [.ref (ad (16 + 3 * L)), .ref (ad (17 + 3 * L)), .ref (ad (18 + 3 * L)), .int (nI 64)], aI G (ad (18 + 3 * L)) 64 (nF (bnT L))])) := by
  refine CT.go (by decide) (Nat.le_of_ble_eq_true rfl) (fun p e s m below meth c A ls AR QQ hx hb hr hlk hml hown hnm hts hE hA hAb hsz hP hD hS hl hQQ => ?_)
  have hK := hE.1
  have hown : s.vm.findClass RX1 = some m.cls := hown
  have hl : lv_has ls 4 [(0, .ref h), (1, .int t)] := hl
  clear hsz
  refine lv_aload_n hx hb dX1_worstTold_0 rfl (lv_at hl 0 rfl) ?_
  refine lv_iload_n hx hb dX1_worstTold_1 rfl (lv_at hl 1 rfl) ?_
  refine fin_i (ws' := (fun (u_1 : Nat → Int32) => [oC h ad sn hsh, oX (ad 1) 1 [.ref (ad 11), .int (nI L), .int stp, .int why], aI G (ad 11) 64 st, oX (ad 3) 5 [.ref (ad 12)], aI G (ad 12) 8 u_1, aI G (ad 6) 64 (splitP st L), aI G (ad 7) 64 (drpA L t (splitP st L)), aI G (ad 8) 64 rm, aR G (ad 2) 3 (orF ad), oX (ad (15 + L)) 2 [.ref (ad (16 + 3 * L)), .ref (ad (17 + 3 * L)), .ref (ad (18 + 3 * L)), .int (nI 64)], aI G (ad (18 + 3 * L)) 64 (nF (bnT L))])) hA hS hP hD [0, 1, 2, 3, 4, 5, 6, 8, 9, 10] rfl [(true, 0), (true, 1), (true, 2), (true, 3), (true, 4), (true, 5), (true, 6), (false, 7), (true, 7), (true, 8), (true, 9)] (fun _ => rfl) (by decide) (run_V (As := [.int t]) (rest := []) (n9 := 1) hx hb hml hown hts hE hAb hl.1 hS hP hD [0, 1, 2, 3, 4, 5, 6, 8, 9, 10] rfl (by decide) (t_X1_drop l G b0 _ h ad sn hsh L stp why st li pa ot t (by omega) (by omega)) (lw_V q1231 q1233 qs37 q106 q1234) 0 rfl rfl ⟨rfl, by decide, by decide, by decide +kernel⟩ ⟨Nat.le_of_ble_eq_true rfl, Nat.le_of_ble_eq_true rfl⟩ ⟨by first | exact Nat.le_of_ble_eq_true rfl | (simp only [rm_X1_worstTold, rm_X1_drop]; omega), by first | exact Nat.le_of_ble_eq_true rfl | (simp only [rm_X1_worstTold, rm_X1_drop]; omega)⟩ dX1_worstTold_2 (Nat.le_of_ble_eq_true rfl) rfl rfl) (fun r_1 u_1 H locs h_1 hP hD hS => ?_)
  have hP : va_P G.1 vwCl [oC h ad sn hsh, oX (ad 1) 1 [.ref (ad 11), .int (nI L), .int stp, .int why], aI G (ad 11) 64 st, oX (ad 3) 5 [.ref (ad 12)], aI G (ad 12) 8 u_1, aI G (ad 6) 64 (splitP st L), aI G (ad 7) 64 (drpA L t (splitP st L)), aI G (ad 8) 64 rm, aR G (ad 2) 3 (orF ad), oX (ad (15 + L)) 2 [.ref (ad (16 + 3 * L)), .ref (ad (17 + 3 * L)), .ref (ad (18 + 3 * L)), .int (nI 64)], aI G (ad (18 + 3 * L)) 64 (nF (bnT L))] _ := hP
  have hD : va_D A [oC h ad sn hsh, oX (ad 1) 1 [.ref (ad 11), .int (nI L), .int stp, .int why], aI G (ad 11) 64 st, oX (ad 3) 5 [.ref (ad 12)], aI G (ad 12) 8 u_1, aI G (ad 6) 64 (splitP st L), aI G (ad 7) 64 (drpA L t (splitP st L)), aI G (ad 8) 64 rm, aR G (ad 2) 3 (orF ad), oX (ad (15 + L)) 2 [.ref (ad (16 + 3 * L)), .ref (ad (17 + 3 * L)), .ref (ad (18 + 3 * L)), .int (nI 64)], aI G (ad (18 + 3 * L)) 64 (nF (bnT L))] := hD
  have h_1 : r_1 = (nI (cntN (crmB L t (splitP st L)) 64)) := h_1
  rw [h_1]
  refine lv_pop hx hb dX1_worstTold_5 rfl ?_
  refine lv_aload_n hx hb dX1_worstTold_6 rfl (lv_at hl 0 rfl) ?_
  refine fin_r (ws' := (fun (u_2 : Nat → Int32) => [oC h ad sn hsh, oX (ad 1) 1 [.ref (ad 11), .int (nI L), .int stp, .int why], aI G (ad 11) 64 st, oX (ad 3) 5 [.ref (ad 12)], aI G (ad 12) 8 u_2, aI G (ad 6) 64 (splitP st L), aI G (ad 7) 64 (drpA L t (splitP st L)), aI G (ad 8) 64 (clmF (joinP L (drpA L t (splitP st L)))), aR G (ad 2) 3 (orF ad), oX (ad (15 + L)) 2 [.ref (ad (16 + 3 * L)), .ref (ad (17 + 3 * L)), .ref (ad (18 + 3 * L)), .int (nI 64)], aI G (ad (18 + 3 * L)) 64 (nF (bnT L))])) hA hS hP hD [0, 1, 3, 4, 6, 7] rfl [(true, 0), (true, 1), (false, 2), (true, 2), (true, 3), (false, 5), (true, 4), (true, 5), (false, 8), (false, 9), (false, 10)] (fun _ => rfl) (by decide) (run_V (As := []) (rest := []) (n9 := 0) hx hb hml hown hts hE hAb hl.1 hS hP hD [0, 1, 3, 4, 6, 7] rfl (by decide) (t_X1_backOfOthers l G b0 _ h ad sn hsh L stp why u_1 (drpA L t (splitP st L)) rm (by omega) (by omega)) (lw_V q1244 q1246 qs40 q106 q1247) 0 rfl rfl ⟨rfl, by decide, by decide, by decide +kernel⟩ ⟨Nat.le_of_ble_eq_true rfl, Nat.le_of_ble_eq_true rfl⟩ ⟨by first | exact Nat.le_of_ble_eq_true rfl | (simp only [rm_X1_worstTold, rm_X1_backOfOthers, rm_X1_drop]; omega), by first | exact Nat.le_of_ble_eq_true rfl | (simp only [rm_X1_worstTold, rm_X1_backOfOthers, rm_X1_drop]; omega)⟩ dX1_worstTold_7 (Nat.le_of_ble_eq_true rfl) rfl rfl) (fun u_2 H locs h_2 hP hD hS => ?_)
  have hP : va_P G.1 vwCl [oC h ad sn hsh, oX (ad 1) 1 [.ref (ad 11), .int (nI L), .int stp, .int why], aI G (ad 11) 64 st, oX (ad 3) 5 [.ref (ad 12)], aI G (ad 12) 8 u_2, aI G (ad 6) 64 (splitP st L), aI G (ad 7) 64 (drpA L t (splitP st L)), aI G (ad 8) 64 (clmF (joinP L (drpA L t (splitP st L)))), aR G (ad 2) 3 (orF ad), oX (ad (15 + L)) 2 [.ref (ad (16 + 3 * L)), .ref (ad (17 + 3 * L)), .ref (ad (18 + 3 * L)), .int (nI 64)], aI G (ad (18 + 3 * L)) 64 (nF (bnT L))] _ := hP
  have hD : va_D A [oC h ad sn hsh, oX (ad 1) 1 [.ref (ad 11), .int (nI L), .int stp, .int why], aI G (ad 11) 64 st, oX (ad 3) 5 [.ref (ad 12)], aI G (ad 12) 8 u_2, aI G (ad 6) 64 (splitP st L), aI G (ad 7) 64 (drpA L t (splitP st L)), aI G (ad 8) 64 (clmF (joinP L (drpA L t (splitP st L)))), aR G (ad 2) 3 (orF ad), oX (ad (15 + L)) 2 [.ref (ad (16 + 3 * L)), .ref (ad (17 + 3 * L)), .ref (ad (18 + 3 * L)), .int (nI 64)], aI G (ad (18 + 3 * L)) 64 (nF (bnT L))] := hD
  refine W.eq (g2 := F0 m 10 ls [.ref (ad 8)]) rfl ?_
  refine lv_pop hx hb dX1_worstTold_10 rfl ?_
  refine lv_iconst (v := nI 0) hx hb dX1_worstTold_11 (by decide) ?_
  refine lv_istore_n (lv' := [(2, .int (nI 0)), (0, .ref h), (1, .int t)]) hx hb dX1_worstTold_12 rfl hl (by decide) rfl (fun ls hl => ?_)
  refine lv_iconst (v := nI 0) hx hb dX1_worstTold_13 (by decide) ?_
  refine lv_istore_n (lv' := [(3, .int (nI 0)), (2, .int (nI 0)), (0, .ref h), (1, .int t)]) hx hb dX1_worstTold_14 rfl hl (by decide) rfl (fun ls hl => ?_)
  have lp_15 : ∀ (n_15 : Nat) (k : Nat), (k ≤ 64) → (64 - k) < n_15 → ∀ (H : Heap) (locs : List Loc) (ls : Array Slot), va_P G.1 vwCl [oC h ad sn hsh, oX (ad 1) 1 [.ref (ad 11), .int (nI L), .int stp, .int why], aI G (ad 11) 64 st, oX (ad 3) 5 [.ref (ad 12)], aI G (ad 12) 8 u_2, aI G (ad 6) 64 (splitP st L), aI G (ad 7) 64 (drpA L t (splitP st L)), aI G (ad 8) 64 (bkD L t st), aR G (ad 2) 3 (orF ad), oX (ad (15 + L)) 2 [.ref (ad (16 + 3 * L)), .ref (ad (17 + 3 * L)), .ref (ad (18 + 3 * L)), .int (nI 64)], aI G (ad (18 + 3 * L)) 64 (nF (bnT L))] H → va_D A [oC h ad sn hsh, oX (ad 1) 1 [.ref (ad 11), .int (nI L), .int stp, .int why], aI G (ad 11) 64 st, oX (ad 3) 5 [.ref (ad 12)], aI G (ad 12) 8 u_2, aI G (ad 6) 64 (splitP st L), aI G (ad 7) 64 (drpA L t (splitP st L)), aI G (ad 8) 64 (bkD L t st), aR G (ad 2) 3 (orF ad), oX (ad (15 + L)) 2 [.ref (ad (16 + 3 * L)), .ref (ad (17 + 3 * L)), .ref (ad (18 + 3 * L)), .int (nI 64)], aI G (ad (18 + 3 * L)) 64 (nF (bnT L))] → va_S A s.heap H locs → lv_has ls 4 [(0, .ref h), (2, .int (wrsI (cosF (bkD L t st) st) k)), (3, .int (nI k))] → W p l e (rm_X1_worstTold) s m AR below meth c H locs 0 0 QQ (F0 m 15 ls []) := by
    intro n_15
    induction n_15 with
    | zero => intro k hk hn_; exact absurd hn_ (Nat.not_lt_zero _)
    | succ n_15 ih_15 =>
      intro k hk hn_15 H locs ls hP hD hS hl
      refine lv_iload_n hx hb dX1_worstTold_15 rfl (lv_at hl 2 rfl) ?_
      refine lv_bipush (v := nI 64) hx hb dX1_worstTold_16 (by decide) ?_
      refine N_icmp_ge (tgt := 51) hx hb dX1_worstTold_18 (by decide) (by omega) (by omega) (fun c_18 => ?_) (fun c_18 => ?_)
      · skip
        obtain rfl : k = 64 := by omega
        refine lv_iload_n hx hb dX1_worstTold_51 rfl (lv_at hl 1 rfl) ?_
        rw [hQQ]
        exact rt_i hx hb hr hlk  u_2 dX1_worstTold_52 hP hD hS (by first | exact Nat.le_of_ble_eq_true rfl | (simp only [rm_X1_worstTold, rm_X1_drop, rm_X1_backOfOthers]; omega) | omega) (by first | exact Nat.le_of_ble_eq_true rfl | (simp only [rm_X1_worstTold, rm_X1_drop, rm_X1_backOfOthers]; omega) | omega) (by rfl)
      · skip
        refine lv_iload_n hx hb dX1_worstTold_21 rfl (lv_at hl 1 rfl) ?_
        refine lv_aload_n hx hb dX1_worstTold_22 rfl (lv_at hl 0 rfl) ?_
        refine va_get (D := G.1) (ci := 0) (v := .ref (ad 8)) (C := RX1) (T := TX1) (N := 12) hx hb hts in_X1 hown hK hP 0 rfl rfl 7 (by decide) (hts _ q501) (fun _ h9 => h9) rfl dX1_worstTold_23 ?_
        refine lv_iload_n hx hb dX1_worstTold_26 rfl (lv_at hl 2 rfl) ?_
        refine N_iald hx hb dX1_worstTold_27 hK hP 7 0 rfl rfl (by omega) (by omega) ?_
        refine lv_aload_n hx hb dX1_worstTold_28 rfl (lv_at hl 0 rfl) ?_
        refine va_get (D := G.1) (ci := 0) (v := .ref (ad 1)) (C := RX1) (T := TX1) (N := 12) hx hb hts in_X1 hown hK hP 0 rfl rfl 0 (by decide) (hts _ q494) (fun _ h9 => h9) rfl dX1_worstTold_29 ?_
        refine va_getN (D := G.1) (ci := 1) (v := .ref (ad 11)) (C := RX2) (T := TX2) (N := 4) hx hb hts in_X2 hown hK hP 1 rfl rfl 0 (by decide) (hE.nb q159 rfl) (fun _ h9 => h9) rfl dX1_worstTold_32 ?_
        refine lv_iload_n hx hb dX1_worstTold_35 rfl (lv_at hl 2 rfl) ?_
        refine N_iald hx hb dX1_worstTold_36 hK hP 2 0 rfl rfl (by omega) (by omega) ?_
        refine lv_isub hx hb dX1_worstTold_37 ?_
        refine M_abs hx hb (hml.trans hl.1.symm) hown hts q1239 q1169 q137 q1170 (Nat.le_of_ble_eq_true rfl) (Nat.le_of_ble_eq_true rfl) (by first | exact Nat.le_of_ble_eq_true rfl | omega | (simp only [rm_X1_worstTold, rm_X1_drop, rm_X1_backOfOthers]; omega)) (by first | exact Nat.le_of_ble_eq_true rfl | omega | (simp only [rm_X1_worstTold, rm_X1_drop, rm_X1_backOfOthers]; omega)) dX1_worstTold_38 ?_
        refine M_max hx hb (hml.trans hl.1.symm) hown hts q1181 q586 q137 q587 (Nat.le_of_ble_eq_true rfl) (Nat.le_of_ble_eq_true rfl) (by first | exact Nat.le_of_ble_eq_true rfl | omega | (simp only [rm_X1_worstTold, rm_X1_drop, rm_X1_backOfOthers]; omega)) (by first | exact Nat.le_of_ble_eq_true rfl | omega | (simp only [rm_X1_worstTold, rm_X1_drop, rm_X1_backOfOthers]; omega)) dX1_worstTold_41 ?_
        refine lv_istore_n (lv' := [(2, .int (maxI (wrsI (cosF (bkD L t st) st) k) (absI (((bkD L t st) k) - (st k))))), (0, .ref h), (3, .int (nI k))]) hx hb dX1_worstTold_44 rfl hl (by decide) rfl (fun ls hl => ?_)
        refine N_iinc (a := k) (b := 1) (k9 := 2) (lv' := [(3, .int (nI (k + 1))), (2, .int (maxI (wrsI (cosF (bkD L t st) st) k) (absI (((bkD L t st) k) - (st k))))), (0, .ref h)]) hx hb dX1_worstTold_45 hl rfl rfl (by decide) rfl (fun ls hl => ?_)
        refine lv_goto (tgt := 15) hx hb dX1_worstTold_48 (by decide) ?_
        have hl : lv_has ls 4 [(0, .ref h), (2, .int (maxI (wrsI (cosF (bkD L t st) st) k) (absI (((bkD L t st) k) - (st k))))), (3, .int (nI (k + 1)))] := lv_sub hl [2, 1, 0] rfl
        have e_3 : (maxI (wrsI (cosF (bkD L t st) st) k) (absI (((bkD L t st) k) - (st k)))) = (wrsI (cosF (bkD L t st) st) (k + 1)) := by exact wrs_nx
        rw [e_3] at hl
        have hl : lv_has ls 4 [(0, .ref h), (2, .int (wrsI (cosF (bkD L t st) st) (k + 1))), (3, .int (nI (k + 1)))] := hl
        exact ih_15 (k + 1) (by omega) (by omega) _ _ _ hP hD hS hl
  have hP : va_P G.1 vwCl [oC h ad sn hsh, oX (ad 1) 1 [.ref (ad 11), .int (nI L), .int stp, .int why], aI G (ad 11) 64 st, oX (ad 3) 5 [.ref (ad 12)], aI G (ad 12) 8 u_2, aI G (ad 6) 64 (splitP st L), aI G (ad 7) 64 (drpA L t (splitP st L)), aI G (ad 8) 64 (bkD L t st), aR G (ad 2) 3 (orF ad), oX (ad (15 + L)) 2 [.ref (ad (16 + 3 * L)), .ref (ad (17 + 3 * L)), .ref (ad (18 + 3 * L)), .int (nI 64)], aI G (ad (18 + 3 * L)) 64 (nF (bnT L))] _ := hP
  have hD : va_D A [oC h ad sn hsh, oX (ad 1) 1 [.ref (ad 11), .int (nI L), .int stp, .int why], aI G (ad 11) 64 st, oX (ad 3) 5 [.ref (ad 12)], aI G (ad 12) 8 u_2, aI G (ad 6) 64 (splitP st L), aI G (ad 7) 64 (drpA L t (splitP st L)), aI G (ad 8) 64 (bkD L t st), aR G (ad 2) 3 (orF ad), oX (ad (15 + L)) 2 [.ref (ad (16 + 3 * L)), .ref (ad (17 + 3 * L)), .ref (ad (18 + 3 * L)), .int (nI 64)], aI G (ad (18 + 3 * L)) 64 (nF (bnT L))] := hD
  have hl : lv_has ls 4 [(0, .ref h), (2, .int (nI 0)), (3, .int (nI 0))] := lv_sub hl [2, 1, 0] rfl
  have e_4 : (nI 0) = (wrsI (cosF (bkD L t st) st) 0) := by rfl
  rw [e_4] at hl
  have hl : lv_has ls 4 [(0, .ref h), (2, .int (wrsI (cosF (bkD L t st) st) 0)), (3, .int (nI 0))] := hl
  exact lp_15 _ 0 (by omega) (Nat.lt_succ_self _) _ _ _ hP hD hS hl
def rm_X1_thresholdTold : Room := ({ frames := 6, cells := 0, slots := 0, locals := 170 } : Room)
set_option maxHeartbeats 400000 in
set_option maxRecDepth 100000 in
theorem t_X1_thresholdTold (l : Launch) (G : GG) (b0 sz : Nat) (h : Nat) (ad : Nat → Nat) (sn : Value) (hsh : Int64) (L : Nat) (stp why : Int32) (st : Nat → Int32) (li : Nat → Int32) (pa : Nat → Int32) (ot : Nat → Int32) (rm : Nat → Int32) (b : Int32) (hL1 : 1 ≤ L) (hL : L ≤ 3) (hc0 : ¬ b < costI L (nI 0) st) : CT l yX1_thresholdTold cX1_thresholdTold 3 (some FieldType.int) (rm_X1_thresholdTold) G b0 [.ref h, .int b] [oC h ad sn hsh, oX (ad 1) 1 [.ref (ad 11), .int (nI L), .int stp, .int why], aI G (ad 11) 64 st, oX (ad 3) 5 [.ref (ad 12)], aI G (ad 12) 8 li, aI G (ad 6) 64 pa, aI G (ad 7) 64 ot, aI G (ad 8) 64 rm, aR G (ad 2) 3 (orF ad), oX (ad (15 + L)) 2 [.ref (ad (16 + 3 * L)), .ref (ad (17 + 3 * L)), .ref (ad (18 + 3 * L)), .int (nI 64)], aI G (ad (18 + 3 * L)) 64 (nF (bnT L))] sz (Ri G (fun (r_ : Int32) (u : (Nat → Int32) × (Nat → Int32) × (Nat → Int32) × (Nat → Int32)) => r_ = nI (bstN L b st 256)) (fun (u : (Nat → Int32) × (Nat → Int32) × (Nat → Int32) × (Nat → Int32)) => [oC h ad sn hsh, oX (ad 1) 1 [.ref (ad 11), .int (nI L), .int stp, .int why], aI G (ad 11) 64 st, oX (ad 3) 5 [.ref (ad 12)], aI G (ad 12) 8 u.2.1, aI G (ad 6) 64 u.1, aI G (ad 7) 64 u.2.2.1, aI G (ad 8) 64 u.2.2.2, aR G (ad 2) 3 (orF ad), oX (ad (15 + L)) 2 [.ref (ad (16 + 3 * L)), .ref (ad (17 + 3 * L)), .ref (ad (18 + 3 * L)), .int (nI 64)], aI G (ad (18 + 3 * L)) 64 (nF (bnT L))])) := by
  refine CT.go (by decide) (Nat.le_of_ble_eq_true rfl) (fun p e s m below meth c A ls AR QQ hx hb hr hlk hml hown hnm hts hE hA hAb hsz hP hD hS hl hQQ => ?_)
  have hK := hE.1
  have hown : s.vm.findClass RX1 = some m.cls := hown
  have hl : lv_has ls 3 [(0, .ref h), (1, .int b)] := hl
  clear hsz
  refine lv_sipush (v := nI 255) hx hb dX1_thresholdTold_0 (by decide) ?_
  refine lv_istore_n (lv' := [(2, .int (nI 255)), (0, .ref h), (1, .int b)]) hx hb dX1_thresholdTold_3 rfl hl (by decide) rfl (fun ls hl => ?_)
  have lp_4 : ∀ (n_4 : Nat) (k : Nat) (p_ l_ o_ r_ : Nat → Int32), (k ≤ 255) → (bstN L b st (k + 1) = bstN L b st 256) → (k) < n_4 → ∀ (H : Heap) (locs : List Loc) (ls : Array Slot), va_P G.1 vwCl [oC h ad sn hsh, oX (ad 1) 1 [.ref (ad 11), .int (nI L), .int stp, .int why], aI G (ad 11) 64 st, oX (ad 3) 5 [.ref (ad 12)], aI G (ad 12) 8 l_, aI G (ad 6) 64 p_, aI G (ad 7) 64 o_, aI G (ad 8) 64 r_, aR G (ad 2) 3 (orF ad), oX (ad (15 + L)) 2 [.ref (ad (16 + 3 * L)), .ref (ad (17 + 3 * L)), .ref (ad (18 + 3 * L)), .int (nI 64)], aI G (ad (18 + 3 * L)) 64 (nF (bnT L))] H → va_D A [oC h ad sn hsh, oX (ad 1) 1 [.ref (ad 11), .int (nI L), .int stp, .int why], aI G (ad 11) 64 st, oX (ad 3) 5 [.ref (ad 12)], aI G (ad 12) 8 l_, aI G (ad 6) 64 p_, aI G (ad 7) 64 o_, aI G (ad 8) 64 r_, aR G (ad 2) 3 (orF ad), oX (ad (15 + L)) 2 [.ref (ad (16 + 3 * L)), .ref (ad (17 + 3 * L)), .ref (ad (18 + 3 * L)), .int (nI 64)], aI G (ad (18 + 3 * L)) 64 (nF (bnT L))] → va_S A s.heap H locs → lv_has ls 3 [(0, .ref h), (1, .int b), (2, .int (nI k))] → W p l e (rm_X1_thresholdTold) s m AR below meth c H locs 0 0 QQ (F0 m 4 ls []) := by
    intro n_4
    induction n_4 with
    | zero => intro k p_ l_ o_ r_ hk hj hn_; exact absurd hn_ (Nat.not_lt_zero _)
    | succ n_4 ih_4 =>
      intro k p_ l_ o_ r_ hk hj hn_4 H locs ls hP hD hS hl
      refine lv_aload_n hx hb dX1_thresholdTold_4 rfl (lv_at hl 0 rfl) ?_
      refine lv_iload_n hx hb dX1_thresholdTold_5 rfl (lv_at hl 2 rfl) ?_
      refine fin_i (ws' := (fun (u_1 : Nat → Int32) => [oC h ad sn hsh, oX (ad 1) 1 [.ref (ad 11), .int (nI L), .int stp, .int why], aI G (ad 11) 64 st, oX (ad 3) 5 [.ref (ad 12)], aI G (ad 12) 8 u_1, aI G (ad 6) 64 (splitP st L), aI G (ad 7) 64 (drpA L (nI k) (splitP st L)), aI G (ad 8) 64 (bkD L (nI k) st), aR G (ad 2) 3 (orF ad), oX (ad (15 + L)) 2 [.ref (ad (16 + 3 * L)), .ref (ad (17 + 3 * L)), .ref (ad (18 + 3 * L)), .int (nI 64)], aI G (ad (18 + 3 * L)) 64 (nF (bnT L))])) hA hS hP hD [0, 1, 2, 3, 4, 5, 6, 7, 8, 9, 10] rfl [(true, 0), (true, 1), (true, 2), (true, 3), (true, 4), (true, 5), (true, 6), (true, 7), (true, 8), (true, 9), (true, 10)] (fun _ => rfl) (by decide) (run_V (As := [.int (nI k)]) (rest := []) (n9 := 1) hx hb hml hown hts hE hAb hl.1 hS hP hD [0, 1, 2, 3, 4, 5, 6, 7, 8, 9, 10] rfl (by decide) (t_X1_costTold l G b0 _ h ad sn hsh L stp why st l_ p_ o_ r_ (nI k) (by omega) (by omega)) (lw_V q1240 q1242 qs39 q106 q1243) 0 rfl rfl ⟨rfl, by decide, by decide, by decide +kernel⟩ ⟨Nat.le_of_ble_eq_true rfl, Nat.le_of_ble_eq_true rfl⟩ ⟨by first | exact Nat.le_of_ble_eq_true rfl | (simp only [rm_X1_thresholdTold, rm_X1_costTold]; omega), by first | exact Nat.le_of_ble_eq_true rfl | (simp only [rm_X1_thresholdTold, rm_X1_costTold]; omega)⟩ dX1_thresholdTold_6 (Nat.le_of_ble_eq_true rfl) rfl rfl) (fun r_1 u_1 H locs h_1 hP hD hS => ?_)
      have hP : va_P G.1 vwCl [oC h ad sn hsh, oX (ad 1) 1 [.ref (ad 11), .int (nI L), .int stp, .int why], aI G (ad 11) 64 st, oX (ad 3) 5 [.ref (ad 12)], aI G (ad 12) 8 u_1, aI G (ad 6) 64 (splitP st L), aI G (ad 7) 64 (drpA L (nI k) (splitP st L)), aI G (ad 8) 64 (bkD L (nI k) st), aR G (ad 2) 3 (orF ad), oX (ad (15 + L)) 2 [.ref (ad (16 + 3 * L)), .ref (ad (17 + 3 * L)), .ref (ad (18 + 3 * L)), .int (nI 64)], aI G (ad (18 + 3 * L)) 64 (nF (bnT L))] _ := hP
      have hD : va_D A [oC h ad sn hsh, oX (ad 1) 1 [.ref (ad 11), .int (nI L), .int stp, .int why], aI G (ad 11) 64 st, oX (ad 3) 5 [.ref (ad 12)], aI G (ad 12) 8 u_1, aI G (ad 6) 64 (splitP st L), aI G (ad 7) 64 (drpA L (nI k) (splitP st L)), aI G (ad 8) 64 (bkD L (nI k) st), aR G (ad 2) 3 (orF ad), oX (ad (15 + L)) 2 [.ref (ad (16 + 3 * L)), .ref (ad (17 + 3 * L)), .ref (ad (18 + 3 * L)), .int (nI 64)], aI G (ad (18 + 3 * L)) 64 (nF (bnT L))] := hD
      have h_1 : r_1 = (costI L (nI k) st) := h_1
      rw [h_1]
      refine lv_iload_n hx hb dX1_thresholdTold_9 rfl (lv_at hl 1 rfl) ?_
      refine lv_icmp_le (tgt := 19) hx hb dX1_thresholdTold_10 (by decide) (fun c_10 => ?_) (fun c_10 => ?_)
      · skip
        refine lv_iload_n hx hb dX1_thresholdTold_19 rfl (lv_at hl 2 rfl) ?_
        have hP : va_P G.1 vwCl [oC h ad sn hsh, oX (ad 1) 1 [.ref (ad 11), .int (nI L), .int stp, .int why], aI G (ad 11) 64 st, oX (ad 3) 5 [.ref (ad 12)], aI G (ad 12) 8 (((splitP st L, u_1, drpA L (nI k) (splitP st L), bkD L (nI k) st)).2.1), aI G (ad 6) 64 (((splitP st L, u_1, drpA L (nI k) (splitP st L), bkD L (nI k) st)).1), aI G (ad 7) 64 (((splitP st L, u_1, drpA L (nI k) (splitP st L), bkD L (nI k) st)).2.2.1), aI G (ad 8) 64 (((splitP st L, u_1, drpA L (nI k) (splitP st L), bkD L (nI k) st)).2.2.2), aR G (ad 2) 3 (orF ad), oX (ad (15 + L)) 2 [.ref (ad (16 + 3 * L)), .ref (ad (17 + 3 * L)), .ref (ad (18 + 3 * L)), .int (nI 64)], aI G (ad (18 + 3 * L)) 64 (nF (bnT L))] _ := hP
        have hD : va_D A [oC h ad sn hsh, oX (ad 1) 1 [.ref (ad 11), .int (nI L), .int stp, .int why], aI G (ad 11) 64 st, oX (ad 3) 5 [.ref (ad 12)], aI G (ad 12) 8 (((splitP st L, u_1, drpA L (nI k) (splitP st L), bkD L (nI k) st)).2.1), aI G (ad 6) 64 (((splitP st L, u_1, drpA L (nI k) (splitP st L), bkD L (nI k) st)).1), aI G (ad 7) 64 (((splitP st L, u_1, drpA L (nI k) (splitP st L), bkD L (nI k) st)).2.2.1), aI G (ad 8) 64 (((splitP st L, u_1, drpA L (nI k) (splitP st L), bkD L (nI k) st)).2.2.2), aR G (ad 2) 3 (orF ad), oX (ad (15 + L)) 2 [.ref (ad (16 + 3 * L)), .ref (ad (17 + 3 * L)), .ref (ad (18 + 3 * L)), .int (nI 64)], aI G (ad (18 + 3 * L)) 64 (nF (bnT L))] := hD
        rw [hQQ]
        exact rt_i hx hb hr hlk  (((splitP st L, u_1, drpA L (nI k) (splitP st L), bkD L (nI k) st))) dX1_thresholdTold_20 hP hD hS (by first | exact Nat.le_of_ble_eq_true rfl | (simp only [rm_X1_thresholdTold, rm_X1_costTold]; omega) | omega) (by first | exact Nat.le_of_ble_eq_true rfl | (simp only [rm_X1_thresholdTold, rm_X1_costTold]; omega) | omega) (by rw [← hj]; exact congrArg nI (bst_hit c_10).symm)
      · skip
        have hk0 : 1 ≤ k := by rcases Nat.eq_zero_or_pos k with z | z; (rw [z] at c_10; exact absurd (Int32.not_lt.mp hc0) c_10); exact z
        refine N_iincd (a := k) (k9 := 2) (lv' := [(2, .int (nI (k - 1))), (0, .ref h), (1, .int b)]) hx hb dX1_thresholdTold_13 hl rfl rfl (by omega) (by decide) rfl (fun ls hl => ?_)
        refine lv_goto (tgt := 4) hx hb dX1_thresholdTold_16 (by decide) ?_
        have hl : lv_has ls 3 [(0, .ref h), (1, .int b), (2, .int (nI (k - 1)))] := lv_sub hl [1, 2, 0] rfl
        exact ih_4 (k - 1) (splitP st L) u_1 (drpA L (nI k) (splitP st L)) (bkD L (nI k) st) (by omega) (by rw [← hj]; exact bst_nx (by omega) c_10) (by omega) _ _ _ hP hD hS hl
  have hl : lv_has ls 3 [(0, .ref h), (1, .int b), (2, .int (nI 255))] := lv_sub hl [1, 2, 0] rfl
  exact lp_4 _ 255 pa li ot rm (by omega) (by rfl) (Nat.lt_succ_self _) _ _ _ hP hD hS hl
def rm_X1_planesTold : Room := ({ frames := 5, cells := 0, slots := 0, locals := 140 } : Room)
set_option maxHeartbeats 400000 in
set_option maxRecDepth 100000 in
theorem t_X1_planesTold (l : Launch) (G : GG) (b0 sz : Nat) (h : Nat) (ad : Nat → Nat) (sn : Value) (hsh : Int64) (L : Nat) (stp why : Int32) (st : Nat → Int32) (li : Nat → Int32) (pa : Nat → Int32) (ot : Nat → Int32) (rm : Nat → Int32) (pl : Nat) (hL1 : 1 ≤ L) (hL : L ≤ 3) (hpl : pl ≤ 7) : CT l yX1_planesTold cX1_planesTold 5 (some FieldType.int) (rm_X1_planesTold) G b0 [.ref h, .int (nI pl)] [oC h ad sn hsh, oX (ad 1) 1 [.ref (ad 11), .int (nI L), .int stp, .int why], aI G (ad 11) 64 st, oX (ad 3) 5 [.ref (ad 12)], aI G (ad 12) 8 li, aI G (ad 6) 64 pa, aI G (ad 7) 64 ot, aI G (ad 8) 64 rm, aR G (ad 2) 3 (orF ad), oX (ad (15 + L)) 2 [.ref (ad (16 + 3 * L)), .ref (ad (17 + 3 * L)), .ref (ad (18 + 3 * L)), .int (nI 64)], aI G (ad (18 + 3 * L)) 64 (nF (bnT L))] sz (Ri G (fun (r_ : Int32) (u : Nat → Int32) => r_ = l_sum (cosF (bkP L pl st) st) 64) (fun (u : Nat → Int32) => [oC h ad sn hsh, oX (ad 1) 1 [.ref (ad 11), .int (nI L), .int stp, .int why], aI G (ad 11) 64 st, oX (ad 3) 5 [.ref (ad 12)], aI G (ad 12) 8 u, aI G (ad 6) 64 (splitP st L), aI G (ad 7) 64 (plnA L pl (splitP st L)), aI G (ad 8) 64 (bkP L pl st), aR G (ad 2) 3 (orF ad), oX (ad (15 + L)) 2 [.ref (ad (16 + 3 * L)), .ref (ad (17 + 3 * L)), .ref (ad (18 + 3 * L)), .int (nI 64)], aI G (ad (18 + 3 * L)) 64 (nF (bnT L))])) := by
  refine CT.go (by decide) (Nat.le_of_ble_eq_true rfl) (fun p e s m below meth c A ls AR QQ hx hb hr hlk hml hown hnm hts hE hA hAb hsz hP hD hS hl hQQ => ?_)
  have hK := hE.1
  have hown : s.vm.findClass RX1 = some m.cls := hown
  have hl : lv_has ls 5 [(0, .ref h), (1, .int (nI pl))] := hl
  clear hsz
  have h2p : 1 ≤ 2 ^ pl ∧ 2 ^ pl ≤ 128 := ⟨Nat.one_le_two_pow, Nat.pow_le_pow_right (by decide) hpl⟩
  refine lv_aload_n hx hb dX1_planesTold_0 rfl (lv_at hl 0 rfl) ?_
  refine fin_r (ws' := (fun (u_1 : Nat → Int32) => [oC h ad sn hsh, oX (ad 1) 1 [.ref (ad 11), .int (nI L), .int stp, .int why], aI G (ad 11) 64 st, oX (ad 3) 5 [.ref (ad 12)], aI G (ad 12) 8 u_1, aI G (ad 6) 64 (splitP st L), aI G (ad 7) 64 ot, aI G (ad 8) 64 rm, aR G (ad 2) 3 (orF ad), oX (ad (15 + L)) 2 [.ref (ad (16 + 3 * L)), .ref (ad (17 + 3 * L)), .ref (ad (18 + 3 * L)), .int (nI 64)], aI G (ad (18 + 3 * L)) 64 (nF (bnT L))])) hA hS hP hD [0, 1, 2, 3, 4, 5] rfl [(true, 0), (true, 1), (true, 2), (true, 3), (true, 4), (true, 5), (false, 6), (false, 7), (false, 8), (false, 9), (false, 10)] (fun _ => rfl) (by decide) (run_V (As := []) (rest := []) (n9 := 0) hx hb hml hown hts hE hAb hl.1 hS hP hD [0, 1, 2, 3, 4, 5] rfl (by decide) (t_X1_parted l G b0 _ h ad sn hsh L stp why st li pa (by omega) (by omega)) (lw_V q1063 q1065 qs19 q106 q1066) 0 rfl rfl ⟨rfl, by decide, by decide, by decide +kernel⟩ ⟨Nat.le_of_ble_eq_true rfl, Nat.le_of_ble_eq_true rfl⟩ ⟨by first | exact Nat.le_of_ble_eq_true rfl | (simp only [rm_X1_planesTold, rm_X1_parted]; omega), by first | exact Nat.le_of_ble_eq_true rfl | (simp only [rm_X1_planesTold, rm_X1_parted]; omega)⟩ dX1_planesTold_1 (Nat.le_of_ble_eq_true rfl) rfl rfl) (fun u_1 H locs h_1 hP hD hS => ?_)
  have hP : va_P G.1 vwCl [oC h ad sn hsh, oX (ad 1) 1 [.ref (ad 11), .int (nI L), .int stp, .int why], aI G (ad 11) 64 st, oX (ad 3) 5 [.ref (ad 12)], aI G (ad 12) 8 u_1, aI G (ad 6) 64 (splitP st L), aI G (ad 7) 64 ot, aI G (ad 8) 64 rm, aR G (ad 2) 3 (orF ad), oX (ad (15 + L)) 2 [.ref (ad (16 + 3 * L)), .ref (ad (17 + 3 * L)), .ref (ad (18 + 3 * L)), .int (nI 64)], aI G (ad (18 + 3 * L)) 64 (nF (bnT L))] _ := hP
  have hD : va_D A [oC h ad sn hsh, oX (ad 1) 1 [.ref (ad 11), .int (nI L), .int stp, .int why], aI G (ad 11) 64 st, oX (ad 3) 5 [.ref (ad 12)], aI G (ad 12) 8 u_1, aI G (ad 6) 64 (splitP st L), aI G (ad 7) 64 ot, aI G (ad 8) 64 rm, aR G (ad 2) 3 (orF ad), oX (ad (15 + L)) 2 [.ref (ad (16 + 3 * L)), .ref (ad (17 + 3 * L)), .ref (ad (18 + 3 * L)), .int (nI 64)], aI G (ad (18 + 3 * L)) 64 (nF (bnT L))] := hD
  refine W.eq (g2 := F0 m 4 ls [.ref (ad 6)]) rfl ?_
  refine lv_pop hx hb dX1_planesTold_4 rfl ?_
  refine lv_aload_n hx hb dX1_planesTold_5 rfl (lv_at hl 0 rfl) ?_
  refine fin_r (ws' := (fun (_ : Unit) => [oC h ad sn hsh, oX (ad 1) 1 [.ref (ad 11), .int (nI L), .int stp, .int why], aI G (ad 11) 64 st, oX (ad 3) 5 [.ref (ad 12)], aI G (ad 12) 8 u_1, aI G (ad 6) 64 (splitP st L), aI G (ad 7) 64 ot, aI G (ad 8) 64 rm, aR G (ad 2) 3 (orF ad), oX (ad (15 + L)) 2 [.ref (ad (16 + 3 * L)), .ref (ad (17 + 3 * L)), .ref (ad (18 + 3 * L)), .int (nI 64)], aI G (ad (18 + 3 * L)) 64 (nF (bnT L))])) hA hS hP hD [0, 1, 8] rfl [(true, 0), (true, 1), (false, 2), (false, 3), (false, 4), (false, 5), (false, 6), (false, 7), (true, 2), (false, 9), (false, 10)] (fun _ => rfl) (by decide) (run_V (As := []) (rest := []) (n9 := 0) hx hb hml hown hts hE hAb hl.1 hS hP hD [0, 1, 8] rfl (by decide) (t_X1_order l G b0 _ h ad sn hsh L stp why (by omega) (by omega)) (lw_V q1083 q1085 qs22 q106 q1086) 0 rfl rfl ⟨rfl, by decide, by decide, by decide +kernel⟩ ⟨Nat.le_of_ble_eq_true rfl, Nat.le_of_ble_eq_true rfl⟩ ⟨by first | exact Nat.le_of_ble_eq_true rfl | (simp only [rm_X1_planesTold, rm_X1_order, rm_X1_parted]; omega), by first | exact Nat.le_of_ble_eq_true rfl | (simp only [rm_X1_planesTold, rm_X1_order, rm_X1_parted]; omega)⟩ dX1_planesTold_6 (Nat.le_of_ble_eq_true rfl) rfl rfl) (fun u_2 H locs h_2 hP hD hS => ?_)
  have hP : va_P G.1 vwCl [oC h ad sn hsh, oX (ad 1) 1 [.ref (ad 11), .int (nI L), .int stp, .int why], aI G (ad 11) 64 st, oX (ad 3) 5 [.ref (ad 12)], aI G (ad 12) 8 u_1, aI G (ad 6) 64 (splitP st L), aI G (ad 7) 64 ot, aI G (ad 8) 64 rm, aR G (ad 2) 3 (orF ad), oX (ad (15 + L)) 2 [.ref (ad (16 + 3 * L)), .ref (ad (17 + 3 * L)), .ref (ad (18 + 3 * L)), .int (nI 64)], aI G (ad (18 + 3 * L)) 64 (nF (bnT L))] _ := hP
  have hD : va_D A [oC h ad sn hsh, oX (ad 1) 1 [.ref (ad 11), .int (nI L), .int stp, .int why], aI G (ad 11) 64 st, oX (ad 3) 5 [.ref (ad 12)], aI G (ad 12) 8 u_1, aI G (ad 6) 64 (splitP st L), aI G (ad 7) 64 ot, aI G (ad 8) 64 rm, aR G (ad 2) 3 (orF ad), oX (ad (15 + L)) 2 [.ref (ad (16 + 3 * L)), .ref (ad (17 + 3 * L)), .ref (ad (18 + 3 * L)), .int (nI 64)], aI G (ad (18 + 3 * L)) 64 (nF (bnT L))] := hD
  refine W.eq (g2 := F0 m 9 ls [.ref (ad (15 + L))]) rfl ?_
  refine va_getN (D := G.1) (ci := 2) (v := .ref (ad (18 + 3 * L))) (C := RX3) (T := TX3) (N := 4) hx hb hts in_X3 hown hK hP 9 rfl rfl 2 (by decide) (hE.nb q349 rfl) (fun _ h9 => h9) rfl dX1_planesTold_9 ?_
  refine lv_astore_n (lv' := [(2, .ref (ad (18 + 3 * L))), (0, .ref h), (1, .int (nI pl))]) hx hb dX1_planesTold_12 rfl hl (by decide) rfl (fun ls hl => ?_)
  refine lv_iconst (v := nI 1) hx hb dX1_planesTold_13 (by decide) ?_
  refine lv_iload_n hx hb dX1_planesTold_14 rfl (lv_at hl 2 rfl) ?_
  refine N_ishl hx hb dX1_planesTold_15 (by omega) (by omega) ?_
  refine lv_istore_n (lv' := [(3, .int (nI (1 * 2 ^ pl))), (2, .ref (ad (18 + 3 * L))), (0, .ref h), (1, .int (nI pl))]) hx hb dX1_planesTold_16 rfl hl (by decide) rfl (fun ls hl => ?_)
  refine lv_iconst (v := nI 0) hx hb dX1_planesTold_17 (by decide) ?_
  refine lv_istore (lv' := [(4, .int (nI 0)), (3, .int (nI (1 * 2 ^ pl))), (2, .ref (ad (18 + 3 * L))), (0, .ref h), (1, .int (nI pl))]) hx hb dX1_planesTold_18 hl (by decide) rfl (fun ls hl => ?_)
  have lp_20 : ∀ (n_20 : Nat) (k : Nat), (k ≤ 64) → (64 - k) < n_20 → ∀ (H : Heap) (locs : List Loc) (ls : Array Slot), va_P G.1 vwCl [oC h ad sn hsh, oX (ad 1) 1 [.ref (ad 11), .int (nI L), .int stp, .int why], aI G (ad 11) 64 st, oX (ad 3) 5 [.ref (ad 12)], aI G (ad 12) 8 u_1, aI G (ad 6) 64 (splitP st L), aI G (ad 7) 64 (fillTo k (plnA L pl (splitP st L)) ot), aI G (ad 8) 64 rm, aR G (ad 2) 3 (orF ad), oX (ad (15 + L)) 2 [.ref (ad (16 + 3 * L)), .ref (ad (17 + 3 * L)), .ref (ad (18 + 3 * L)), .int (nI 64)], aI G (ad (18 + 3 * L)) 64 (nF (bnT L))] H → va_D A [oC h ad sn hsh, oX (ad 1) 1 [.ref (ad 11), .int (nI L), .int stp, .int why], aI G (ad 11) 64 st, oX (ad 3) 5 [.ref (ad 12)], aI G (ad 12) 8 u_1, aI G (ad 6) 64 (splitP st L), aI G (ad 7) 64 (fillTo k (plnA L pl (splitP st L)) ot), aI G (ad 8) 64 rm, aR G (ad 2) 3 (orF ad), oX (ad (15 + L)) 2 [.ref (ad (16 + 3 * L)), .ref (ad (17 + 3 * L)), .ref (ad (18 + 3 * L)), .int (nI 64)], aI G (ad (18 + 3 * L)) 64 (nF (bnT L))] → va_S A s.heap H locs → lv_has ls 5 [(0, .ref h), (2, .ref (ad (18 + 3 * L))), (3, .int (nI (1 * 2 ^ pl))), (4, .int (nI k))] → W p l e (rm_X1_planesTold) s m AR below meth c H locs 0 0 QQ (F0 m 20 ls []) := by
    intro n_20
    induction n_20 with
    | zero => intro k hk hn_; exact absurd hn_ (Nat.not_lt_zero _)
    | succ n_20 ih_20 =>
      intro k hk hn_20 H locs ls hP hD hS hl
      refine lv_iload hx hb dX1_planesTold_20 (lv_at hl 3 rfl) ?_
      refine lv_bipush (v := nI 64) hx hb dX1_planesTold_22 (by decide) ?_
      refine N_icmp_ge (tgt := 68) hx hb dX1_planesTold_24 (by decide) (by omega) (by omega) (fun c_24 => ?_) (fun c_24 => ?_)
      · skip
        obtain rfl : k = 64 := by omega
        have e_3 : ∀ j, j < 64 → (fillTo 64 (plnA L pl (splitP st L)) ot) j = (plnA L pl (splitP st L)) j := by exact fill_pt
        have hP : va_P G.1 vwCl [oC h ad sn hsh, oX (ad 1) 1 [.ref (ad 11), .int (nI L), .int stp, .int why], aI G (ad 11) 64 st, oX (ad 3) 5 [.ref (ad 12)], aI G (ad 12) 8 u_1, aI G (ad 6) 64 (splitP st L), aI G (ad 7) 64 (plnA L pl (splitP st L)), aI G (ad 8) 64 rm, aR G (ad 2) 3 (orF ad), oX (ad (15 + L)) 2 [.ref (ad (16 + 3 * L)), .ref (ad (17 + 3 * L)), .ref (ad (18 + 3 * L)), .int (nI 64)], aI G (ad (18 + 3 * L)) 64 (nF (bnT L))] _ := cong_P (q0 := 6) e_3 rfl rfl hP
        have hD : va_D A [oC h ad sn hsh, oX (ad 1) 1 [.ref (ad 11), .int (nI L), .int stp, .int why], aI G (ad 11) 64 st, oX (ad 3) 5 [.ref (ad 12)], aI G (ad 12) 8 u_1, aI G (ad 6) 64 (splitP st L), aI G (ad 7) 64 (plnA L pl (splitP st L)), aI G (ad 8) 64 rm, aR G (ad 2) 3 (orF ad), oX (ad (15 + L)) 2 [.ref (ad (16 + 3 * L)), .ref (ad (17 + 3 * L)), .ref (ad (18 + 3 * L)), .int (nI 64)], aI G (ad (18 + 3 * L)) 64 (nF (bnT L))] := cong_D (q0 := 6) rfl rfl hD
        have hP : va_P G.1 vwCl [oC h ad sn hsh, oX (ad 1) 1 [.ref (ad 11), .int (nI L), .int stp, .int why], aI G (ad 11) 64 st, oX (ad 3) 5 [.ref (ad 12)], aI G (ad 12) 8 u_1, aI G (ad 6) 64 (splitP st L), aI G (ad 7) 64 (plnA L pl (splitP st L)), aI G (ad 8) 64 rm, aR G (ad 2) 3 (orF ad), oX (ad (15 + L)) 2 [.ref (ad (16 + 3 * L)), .ref (ad (17 + 3 * L)), .ref (ad (18 + 3 * L)), .int (nI 64)], aI G (ad (18 + 3 * L)) 64 (nF (bnT L))] _ := hP
        have hD : va_D A [oC h ad sn hsh, oX (ad 1) 1 [.ref (ad 11), .int (nI L), .int stp, .int why], aI G (ad 11) 64 st, oX (ad 3) 5 [.ref (ad 12)], aI G (ad 12) 8 u_1, aI G (ad 6) 64 (splitP st L), aI G (ad 7) 64 (plnA L pl (splitP st L)), aI G (ad 8) 64 rm, aR G (ad 2) 3 (orF ad), oX (ad (15 + L)) 2 [.ref (ad (16 + 3 * L)), .ref (ad (17 + 3 * L)), .ref (ad (18 + 3 * L)), .int (nI 64)], aI G (ad (18 + 3 * L)) 64 (nF (bnT L))] := hD
        refine lv_aload_n hx hb dX1_planesTold_68 rfl (lv_at hl 0 rfl) ?_
        refine fin_r (ws' := (fun (u_4 : Nat → Int32) => [oC h ad sn hsh, oX (ad 1) 1 [.ref (ad 11), .int (nI L), .int stp, .int why], aI G (ad 11) 64 st, oX (ad 3) 5 [.ref (ad 12)], aI G (ad 12) 8 u_4, aI G (ad 6) 64 (splitP st L), aI G (ad 7) 64 (plnA L pl (splitP st L)), aI G (ad 8) 64 (clmF (joinP L (plnA L pl (splitP st L)))), aR G (ad 2) 3 (orF ad), oX (ad (15 + L)) 2 [.ref (ad (16 + 3 * L)), .ref (ad (17 + 3 * L)), .ref (ad (18 + 3 * L)), .int (nI 64)], aI G (ad (18 + 3 * L)) 64 (nF (bnT L))])) hA hS hP hD [0, 1, 3, 4, 6, 7] rfl [(true, 0), (true, 1), (false, 2), (true, 2), (true, 3), (false, 5), (true, 4), (true, 5), (false, 8), (false, 9), (false, 10)] (fun _ => rfl) (by decide) (run_V (As := []) (rest := []) (n9 := 0) hx hb hml hown hts hE hAb hl.1 hS hP hD [0, 1, 3, 4, 6, 7] rfl (by decide) (t_X1_backOfOthers l G b0 _ h ad sn hsh L stp why u_1 (plnA L pl (splitP st L)) rm (by omega) (by omega)) (lw_V q1244 q1246 qs40 q106 q1247) 0 rfl rfl ⟨rfl, by decide, by decide, by decide +kernel⟩ ⟨Nat.le_of_ble_eq_true rfl, Nat.le_of_ble_eq_true rfl⟩ ⟨by first | exact Nat.le_of_ble_eq_true rfl | (simp only [rm_X1_planesTold, rm_X1_backOfOthers, rm_X1_parted, rm_X1_order]; omega), by first | exact Nat.le_of_ble_eq_true rfl | (simp only [rm_X1_planesTold, rm_X1_backOfOthers, rm_X1_parted, rm_X1_order]; omega)⟩ dX1_planesTold_69 (Nat.le_of_ble_eq_true rfl) rfl rfl) (fun u_4 H locs h_4 hP hD hS => ?_)
        have hP : va_P G.1 vwCl [oC h ad sn hsh, oX (ad 1) 1 [.ref (ad 11), .int (nI L), .int stp, .int why], aI G (ad 11) 64 st, oX (ad 3) 5 [.ref (ad 12)], aI G (ad 12) 8 u_4, aI G (ad 6) 64 (splitP st L), aI G (ad 7) 64 (plnA L pl (splitP st L)), aI G (ad 8) 64 (clmF (joinP L (plnA L pl (splitP st L)))), aR G (ad 2) 3 (orF ad), oX (ad (15 + L)) 2 [.ref (ad (16 + 3 * L)), .ref (ad (17 + 3 * L)), .ref (ad (18 + 3 * L)), .int (nI 64)], aI G (ad (18 + 3 * L)) 64 (nF (bnT L))] _ := hP
        have hD : va_D A [oC h ad sn hsh, oX (ad 1) 1 [.ref (ad 11), .int (nI L), .int stp, .int why], aI G (ad 11) 64 st, oX (ad 3) 5 [.ref (ad 12)], aI G (ad 12) 8 u_4, aI G (ad 6) 64 (splitP st L), aI G (ad 7) 64 (plnA L pl (splitP st L)), aI G (ad 8) 64 (clmF (joinP L (plnA L pl (splitP st L)))), aR G (ad 2) 3 (orF ad), oX (ad (15 + L)) 2 [.ref (ad (16 + 3 * L)), .ref (ad (17 + 3 * L)), .ref (ad (18 + 3 * L)), .int (nI 64)], aI G (ad (18 + 3 * L)) 64 (nF (bnT L))] := hD
        refine W.eq (g2 := F0 m 72 ls [.ref (ad 8)]) rfl ?_
        refine lv_pop hx hb dX1_planesTold_72 rfl ?_
        refine lv_aload_n hx hb dX1_planesTold_73 rfl (lv_at hl 0 rfl) ?_
        refine fin_i (ws' := (fun (_ : Unit) => [oC h ad sn hsh, oX (ad 1) 1 [.ref (ad 11), .int (nI L), .int stp, .int why], aI G (ad 11) 64 st, oX (ad 3) 5 [.ref (ad 12)], aI G (ad 12) 8 u_4, aI G (ad 6) 64 (splitP st L), aI G (ad 7) 64 (plnA L pl (splitP st L)), aI G (ad 8) 64 (clmF (joinP L (plnA L pl (splitP st L)))), aR G (ad 2) 3 (orF ad), oX (ad (15 + L)) 2 [.ref (ad (16 + 3 * L)), .ref (ad (17 + 3 * L)), .ref (ad (18 + 3 * L)), .int (nI 64)], aI G (ad (18 + 3 * L)) 64 (nF (bnT L))])) hA hS hP hD [0, 1, 2, 7] rfl [(true, 0), (true, 1), (true, 2), (false, 3), (false, 4), (false, 5), (false, 6), (true, 3), (false, 8), (false, 9), (false, 10)] (fun _ => rfl) (by decide) (run_V (As := []) (rest := []) (n9 := 0) hx hb hml hown hts hE hAb hl.1 hS hP hD [0, 1, 2, 7] rfl (by decide) (t_X1_apart l G b0 _ h ad sn hsh L stp why st (clmF (joinP L (plnA L pl (splitP st L)))) ) (lw_V q1249 q1251 qs41 q106 q1252) 0 rfl rfl ⟨rfl, by decide, by decide, by decide +kernel⟩ ⟨Nat.le_of_ble_eq_true rfl, Nat.le_of_ble_eq_true rfl⟩ ⟨by first | exact Nat.le_of_ble_eq_true rfl | (simp only [rm_X1_planesTold, rm_X1_apart, rm_X1_parted, rm_X1_order, rm_X1_backOfOthers]; omega), by first | exact Nat.le_of_ble_eq_true rfl | (simp only [rm_X1_planesTold, rm_X1_apart, rm_X1_parted, rm_X1_order, rm_X1_backOfOthers]; omega)⟩ dX1_planesTold_74 (Nat.le_of_ble_eq_true rfl) rfl rfl) (fun r_5 u_5 H locs h_5 hP hD hS => ?_)
        have hP : va_P G.1 vwCl [oC h ad sn hsh, oX (ad 1) 1 [.ref (ad 11), .int (nI L), .int stp, .int why], aI G (ad 11) 64 st, oX (ad 3) 5 [.ref (ad 12)], aI G (ad 12) 8 u_4, aI G (ad 6) 64 (splitP st L), aI G (ad 7) 64 (plnA L pl (splitP st L)), aI G (ad 8) 64 (clmF (joinP L (plnA L pl (splitP st L)))), aR G (ad 2) 3 (orF ad), oX (ad (15 + L)) 2 [.ref (ad (16 + 3 * L)), .ref (ad (17 + 3 * L)), .ref (ad (18 + 3 * L)), .int (nI 64)], aI G (ad (18 + 3 * L)) 64 (nF (bnT L))] _ := hP
        have hD : va_D A [oC h ad sn hsh, oX (ad 1) 1 [.ref (ad 11), .int (nI L), .int stp, .int why], aI G (ad 11) 64 st, oX (ad 3) 5 [.ref (ad 12)], aI G (ad 12) 8 u_4, aI G (ad 6) 64 (splitP st L), aI G (ad 7) 64 (plnA L pl (splitP st L)), aI G (ad 8) 64 (clmF (joinP L (plnA L pl (splitP st L)))), aR G (ad 2) 3 (orF ad), oX (ad (15 + L)) 2 [.ref (ad (16 + 3 * L)), .ref (ad (17 + 3 * L)), .ref (ad (18 + 3 * L)), .int (nI 64)], aI G (ad (18 + 3 * L)) 64 (nF (bnT L))] := hD
        have h_5 : r_5 = (l_sum (cosF (clmF (joinP L (plnA L pl (splitP st L)))) st) 64) := h_5
        rw [h_5]
        have hP : va_P G.1 vwCl [oC h ad sn hsh, oX (ad 1) 1 [.ref (ad 11), .int (nI L), .int stp, .int why], aI G (ad 11) 64 st, oX (ad 3) 5 [.ref (ad 12)], aI G (ad 12) 8 u_4, aI G (ad 6) 64 (splitP st L), aI G (ad 7) 64 (plnA L pl (splitP st L)), aI G (ad 8) 64 (bkP L pl st), aR G (ad 2) 3 (orF ad), oX (ad (15 + L)) 2 [.ref (ad (16 + 3 * L)), .ref (ad (17 + 3 * L)), .ref (ad (18 + 3 * L)), .int (nI 64)], aI G (ad (18 + 3 * L)) 64 (nF (bnT L))] _ := hP
        have hD : va_D A [oC h ad sn hsh, oX (ad 1) 1 [.ref (ad 11), .int (nI L), .int stp, .int why], aI G (ad 11) 64 st, oX (ad 3) 5 [.ref (ad 12)], aI G (ad 12) 8 u_4, aI G (ad 6) 64 (splitP st L), aI G (ad 7) 64 (plnA L pl (splitP st L)), aI G (ad 8) 64 (bkP L pl st), aR G (ad 2) 3 (orF ad), oX (ad (15 + L)) 2 [.ref (ad (16 + 3 * L)), .ref (ad (17 + 3 * L)), .ref (ad (18 + 3 * L)), .int (nI 64)], aI G (ad (18 + 3 * L)) 64 (nF (bnT L))] := hD
        rw [hQQ]
        exact rt_i hx hb hr hlk  u_4 dX1_planesTold_77 hP hD hS (by first | exact Nat.le_of_ble_eq_true rfl | (simp only [rm_X1_planesTold, rm_X1_parted, rm_X1_order, rm_X1_backOfOthers, rm_X1_apart]; omega) | omega) (by first | exact Nat.le_of_ble_eq_true rfl | (simp only [rm_X1_planesTold, rm_X1_parted, rm_X1_order, rm_X1_backOfOthers, rm_X1_apart]; omega) | omega) (by rfl)
      · skip
        refine lv_aload_n hx hb dX1_planesTold_27 rfl (lv_at hl 0 rfl) ?_
        refine va_get (D := G.1) (ci := 0) (v := .ref (ad 7)) (C := RX1) (T := TX1) (N := 12) hx hb hts in_X1 hown hK hP 0 rfl rfl 6 (by decide) (hts _ q500) (fun _ h9 => h9) rfl dX1_planesTold_28 ?_
        refine lv_iload hx hb dX1_planesTold_31 (lv_at hl 3 rfl) ?_
        refine lv_aload_n hx hb dX1_planesTold_33 rfl (lv_at hl 1 rfl) ?_
        skip
        refine lv_iload hx hb dX1_planesTold_34 (lv_at hl 3 rfl) ?_
        have hbn := bnT_le (k := k) hL1 hL
        refine N_iald hx hb dX1_planesTold_36 hK hP 10 0 rfl rfl (by omega) (by omega) ?_
        refine top_i (y := nI ((bnT L) k)) rfl ?_
        have K_37 : ∀ (v_6 : Int32) (_ : v_6 = if ((bnT L) k) = 0 then ((splitP st L) k) else ((((splitP st L) k) / (nI (1 * 2 ^ pl))) * (nI (1 * 2 ^ pl)))) (H : Heap) (locs : List Loc) (ls : Array Slot), va_P G.1 vwCl [oC h ad sn hsh, oX (ad 1) 1 [.ref (ad 11), .int (nI L), .int stp, .int why], aI G (ad 11) 64 st, oX (ad 3) 5 [.ref (ad 12)], aI G (ad 12) 8 u_1, aI G (ad 6) 64 (splitP st L), aI G (ad 7) 64 (fillTo k (plnA L pl (splitP st L)) ot), aI G (ad 8) 64 rm, aR G (ad 2) 3 (orF ad), oX (ad (15 + L)) 2 [.ref (ad (16 + 3 * L)), .ref (ad (17 + 3 * L)), .ref (ad (18 + 3 * L)), .int (nI 64)], aI G (ad (18 + 3 * L)) 64 (nF (bnT L))] H → va_D A [oC h ad sn hsh, oX (ad 1) 1 [.ref (ad 11), .int (nI L), .int stp, .int why], aI G (ad 11) 64 st, oX (ad 3) 5 [.ref (ad 12)], aI G (ad 12) 8 u_1, aI G (ad 6) 64 (splitP st L), aI G (ad 7) 64 (fillTo k (plnA L pl (splitP st L)) ot), aI G (ad 8) 64 rm, aR G (ad 2) 3 (orF ad), oX (ad (15 + L)) 2 [.ref (ad (16 + 3 * L)), .ref (ad (17 + 3 * L)), .ref (ad (18 + 3 * L)), .int (nI 64)], aI G (ad (18 + 3 * L)) 64 (nF (bnT L))] → va_S A s.heap H locs → lv_has ls 5 [(0, .ref h), (2, .ref (ad (18 + 3 * L))), (3, .int (nI (1 * 2 ^ pl))), (4, .int (nI k))] → W p l e (rm_X1_planesTold) s m AR below meth c H locs 0 0 QQ (F0 m 61 ls [.int v_6, .int (nI k), .ref (ad 7)]) := by
          intro v_6 e_v_6 H locs ls hP hD hS hl
          subst e_v_6
          refine N_iast (ws' := [oC h ad sn hsh, oX (ad 1) 1 [.ref (ad 11), .int (nI L), .int stp, .int why], aI G (ad 11) 64 st, oX (ad 3) 5 [.ref (ad 12)], aI G (ad 12) 8 u_1, aI G (ad 6) 64 (splitP st L), aI G (ad 7) 64 (upd (fillTo k (plnA L pl (splitP st L)) ot) k (if ((bnT L) k) = 0 then ((splitP st L) k) else ((((splitP st L) k) / (nI (1 * 2 ^ pl))) * (nI (1 * 2 ^ pl))))), aI G (ad 8) 64 rm, aR G (ad 2) 3 (orF ad), oX (ad (15 + L)) 2 [.ref (ad (16 + 3 * L)), .ref (ad (17 + 3 * L)), .ref (ad (18 + 3 * L)), .int (nI 64)], aI G (ad (18 + 3 * L)) 64 (nF (bnT L))]) hx hb dX1_planesTold_61 hK hP hD hS 6 0 rfl rfl (by omega) (by omega) rfl (fun H locs hP hD hS => ?_)
          refine N_iinc (a := k) (b := 1) (k9 := 3) (lv' := [(4, .int (nI (k + 1))), (0, .ref h), (2, .ref (ad (18 + 3 * L))), (3, .int (nI (1 * 2 ^ pl)))]) hx hb dX1_planesTold_62 hl rfl rfl (by decide) rfl (fun ls hl => ?_)
          refine lv_goto (tgt := 20) hx hb dX1_planesTold_65 (by decide) ?_
          have e_7 : (upd (fillTo k (plnA L pl (splitP st L)) ot) k (if ((bnT L) k) = 0 then ((splitP st L) k) else ((((splitP st L) k) / (nI (1 * 2 ^ pl))) * (nI (1 * 2 ^ pl))))) = (fillTo (k + 1) (plnA L pl (splitP st L)) ot) := by rw [pln_at]; exact fill_step (g := plnA L pl (splitP st L))
          have hP : va_P G.1 vwCl [oC h ad sn hsh, oX (ad 1) 1 [.ref (ad 11), .int (nI L), .int stp, .int why], aI G (ad 11) 64 st, oX (ad 3) 5 [.ref (ad 12)], aI G (ad 12) 8 u_1, aI G (ad 6) 64 (splitP st L), aI G (ad 7) 64 (fillTo (k + 1) (plnA L pl (splitP st L)) ot), aI G (ad 8) 64 rm, aR G (ad 2) 3 (orF ad), oX (ad (15 + L)) 2 [.ref (ad (16 + 3 * L)), .ref (ad (17 + 3 * L)), .ref (ad (18 + 3 * L)), .int (nI 64)], aI G (ad (18 + 3 * L)) 64 (nF (bnT L))] _ := cong_P (q0 := 6) (fun j _ => congrFun e_7 j) rfl rfl hP
          have hD : va_D A [oC h ad sn hsh, oX (ad 1) 1 [.ref (ad 11), .int (nI L), .int stp, .int why], aI G (ad 11) 64 st, oX (ad 3) 5 [.ref (ad 12)], aI G (ad 12) 8 u_1, aI G (ad 6) 64 (splitP st L), aI G (ad 7) 64 (fillTo (k + 1) (plnA L pl (splitP st L)) ot), aI G (ad 8) 64 rm, aR G (ad 2) 3 (orF ad), oX (ad (15 + L)) 2 [.ref (ad (16 + 3 * L)), .ref (ad (17 + 3 * L)), .ref (ad (18 + 3 * L)), .int (nI 64)], aI G (ad (18 + 3 * L)) 64 (nF (bnT L))] := cong_D (q0 := 6) rfl rfl hD
          have hP : va_P G.1 vwCl [oC h ad sn hsh, oX (ad 1) 1 [.ref (ad 11), .int (nI L), .int stp, .int why], aI G (ad 11) 64 st, oX (ad 3) 5 [.ref (ad 12)], aI G (ad 12) 8 u_1, aI G (ad 6) 64 (splitP st L), aI G (ad 7) 64 (fillTo (k + 1) (plnA L pl (splitP st L)) ot), aI G (ad 8) 64 rm, aR G (ad 2) 3 (orF ad), oX (ad (15 + L)) 2 [.ref (ad (16 + 3 * L)), .ref (ad (17 + 3 * L)), .ref (ad (18 + 3 * L)), .int (nI 64)], aI G (ad (18 + 3 * L)) 64 (nF (bnT L))] _ := hP
          have hD : va_D A [oC h ad sn hsh, oX (ad 1) 1 [.ref (ad 11), .int (nI L), .int stp, .int why], aI G (ad 11) 64 st, oX (ad 3) 5 [.ref (ad 12)], aI G (ad 12) 8 u_1, aI G (ad 6) 64 (splitP st L), aI G (ad 7) 64 (fillTo (k + 1) (plnA L pl (splitP st L)) ot), aI G (ad 8) 64 rm, aR G (ad 2) 3 (orF ad), oX (ad (15 + L)) 2 [.ref (ad (16 + 3 * L)), .ref (ad (17 + 3 * L)), .ref (ad (18 + 3 * L)), .int (nI 64)], aI G (ad (18 + 3 * L)) 64 (nF (bnT L))] := hD
          have hl : lv_has ls 5 [(0, .ref h), (2, .ref (ad (18 + 3 * L))), (3, .int (nI (1 * 2 ^ pl))), (4, .int (nI (k + 1)))] := lv_sub hl [1, 2, 3, 0] rfl
          exact ih_20 (k + 1) (by omega) (by omega) _ _ _ hP hD hS hl
        refine N_if_ne (tgt := 50) hx hb dX1_planesTold_37 (by decide) (by omega) (fun c_37 => ?_) (fun c_37 => ?_)
        · skip
          refine lv_aload_n hx hb dX1_planesTold_50 rfl (lv_at hl 0 rfl) ?_
          refine va_get (D := G.1) (ci := 0) (v := .ref (ad 6)) (C := RX1) (T := TX1) (N := 12) hx hb hts in_X1 hown hK hP 0 rfl rfl 5 (by decide) (hts _ q499) (fun _ h9 => h9) rfl dX1_planesTold_51 ?_
          refine lv_iload hx hb dX1_planesTold_54 (lv_at hl 3 rfl) ?_
          refine N_iald hx hb dX1_planesTold_56 hK hP 5 0 rfl rfl (by omega) (by omega) ?_
          refine lv_iload_n hx hb dX1_planesTold_57 rfl (lv_at hl 2 rfl) ?_
          refine lv_idiv hx hb dX1_planesTold_58 (by exact nI_ne0 (by omega) (by omega)) ?_
          refine lv_iload_n hx hb dX1_planesTold_59 rfl (lv_at hl 2 rfl) ?_
          refine lv_imul hx hb dX1_planesTold_60 ?_
          exact K_37 ((((splitP st L) k) / (nI (1 * 2 ^ pl))) * (nI (1 * 2 ^ pl))) (by first | rfl | (try rw [if_neg (Nat.pos_iff_ne_zero.mp c_37)]) | simp_all) _ _ _ hP hD hS (lv_sub hl [0, 1, 2, 3] rfl)
        · skip
          refine lv_aload_n hx hb dX1_planesTold_40 rfl (lv_at hl 0 rfl) ?_
          refine va_get (D := G.1) (ci := 0) (v := .ref (ad 6)) (C := RX1) (T := TX1) (N := 12) hx hb hts in_X1 hown hK hP 0 rfl rfl 5 (by decide) (hts _ q499) (fun _ h9 => h9) rfl dX1_planesTold_41 ?_
          refine lv_iload hx hb dX1_planesTold_44 (lv_at hl 3 rfl) ?_
          refine N_iald hx hb dX1_planesTold_46 hK hP 5 0 rfl rfl (by omega) (by omega) ?_
          refine lv_goto (tgt := 61) hx hb dX1_planesTold_47 (by decide) ?_
          exact K_37 ((splitP st L) k) (by first | rfl | (try rw [if_pos c_37]) | simp_all) _ _ _ hP hD hS (lv_sub hl [0, 1, 2, 3] rfl)
  have e_8 : (ot) = (fillTo 0 (plnA L pl (splitP st L)) ot) := by exact (fill0 _ _).symm
  have hP : va_P G.1 vwCl [oC h ad sn hsh, oX (ad 1) 1 [.ref (ad 11), .int (nI L), .int stp, .int why], aI G (ad 11) 64 st, oX (ad 3) 5 [.ref (ad 12)], aI G (ad 12) 8 u_1, aI G (ad 6) 64 (splitP st L), aI G (ad 7) 64 (fillTo 0 (plnA L pl (splitP st L)) ot), aI G (ad 8) 64 rm, aR G (ad 2) 3 (orF ad), oX (ad (15 + L)) 2 [.ref (ad (16 + 3 * L)), .ref (ad (17 + 3 * L)), .ref (ad (18 + 3 * L)), .int (nI 64)], aI G (ad (18 + 3 * L)) 64 (nF (bnT L))] _ := cong_P (q0 := 6) (fun j _ => congrFun e_8 j) rfl rfl hP
  have hD : va_D A [oC h ad sn hsh, oX (ad 1) 1 [.ref (ad 11), .int (nI L), .int stp, .int why], aI G (ad 11) 64 st, oX (ad 3) 5 [.ref (ad 12)], aI G (ad 12) 8 u_1, aI G (ad 6) 64 (splitP st L), aI G (ad 7) 64 (fillTo 0 (plnA L pl (splitP st L)) ot), aI G (ad 8) 64 rm, aR G (ad 2) 3 (orF ad), oX (ad (15 + L)) 2 [.ref (ad (16 + 3 * L)), .ref (ad (17 + 3 * L)), .ref (ad (18 + 3 * L)), .int (nI 64)], aI G (ad (18 + 3 * L)) 64 (nF (bnT L))] := cong_D (q0 := 6) rfl rfl hD
  have hP : va_P G.1 vwCl [oC h ad sn hsh, oX (ad 1) 1 [.ref (ad 11), .int (nI L), .int stp, .int why], aI G (ad 11) 64 st, oX (ad 3) 5 [.ref (ad 12)], aI G (ad 12) 8 u_1, aI G (ad 6) 64 (splitP st L), aI G (ad 7) 64 (fillTo 0 (plnA L pl (splitP st L)) ot), aI G (ad 8) 64 rm, aR G (ad 2) 3 (orF ad), oX (ad (15 + L)) 2 [.ref (ad (16 + 3 * L)), .ref (ad (17 + 3 * L)), .ref (ad (18 + 3 * L)), .int (nI 64)], aI G (ad (18 + 3 * L)) 64 (nF (bnT L))] _ := hP
  have hD : va_D A [oC h ad sn hsh, oX (ad 1) 1 [.ref (ad 11), .int (nI L), .int stp, .int why], aI G (ad 11) 64 st, oX (ad 3) 5 [.ref (ad 12)], aI G (ad 12) 8 u_1, aI G (ad 6) 64 (splitP st L), aI G (ad 7) 64 (fillTo 0 (plnA L pl (splitP st L)) ot), aI G (ad 8) 64 rm, aR G (ad 2) 3 (orF ad), oX (ad (15 + L)) 2 [.ref (ad (16 + 3 * L)), .ref (ad (17 + 3 * L)), .ref (ad (18 + 3 * L)), .int (nI 64)], aI G (ad (18 + 3 * L)) 64 (nF (bnT L))] := hD
  have hl : lv_has ls 5 [(0, .ref h), (2, .ref (ad (18 + 3 * L))), (3, .int (nI (1 * 2 ^ pl))), (4, .int (nI 0))] := lv_sub hl [3, 2, 1, 0] rfl
  exact lp_20 _ 0 (by omega) (Nat.lt_succ_self _) _ _ _ hP hD hS hl
def rm_X1_canSet : Room := ({ frames := 4, cells := 0, slots := 0, locals := 110 } : Room)
set_option maxHeartbeats 400000 in
set_option maxRecDepth 100000 in
theorem t_X1_canSet (l : Launch) (G : GG) (b0 sz : Nat) (h : Nat) (ad : Nat → Nat) (sn : Value) (hsh : Int64) (L : Nat) (stp why : Int32) (st : Nat → Int32) (li : Nat → Int32) (pa : Nat → Int32) (ot : Nat → Int32) (rm : Nat → Int32) (k : Nat) (v : Int32) (hL1 : 1 ≤ L) (hL : L ≤ 3) (hk : k < 64) : CT l yX1_canSet cX1_canSet 8 (some FieldType.boolean) (rm_X1_canSet) G b0 [.ref h, .int (nI k), .int v] [oC h ad sn hsh, oX (ad 1) 1 [.ref (ad 11), .int (nI L), .int stp, .int why], aI G (ad 11) 64 st, oX (ad 3) 5 [.ref (ad 12)], aI G (ad 12) 8 li, aI G (ad 6) 64 pa, aI G (ad 7) 64 ot, aI G (ad 8) 64 rm] sz (Ri G (fun (r_ : Int32) (u : Nat → Int32) => r_ = bI (allB (shsB (joinP L (upd (splitP st L) k v))) 64)) (fun (u : Nat → Int32) => [oC h ad sn hsh, oX (ad 1) 1 [.ref (ad 11), .int (nI L), .int stp, .int why], aI G (ad 11) 64 st, oX (ad 3) 5 [.ref (ad 12)], aI G (ad 12) 8 u, aI G (ad 6) 64 (splitP st L), aI G (ad 7) 64 (upd (splitP st L) k v), aI G (ad 8) 64 (joinP L (upd (splitP st L) k v))])) := by
  refine CT.go (by decide) (Nat.le_of_ble_eq_true rfl) (fun p e s m below meth c A ls AR QQ hx hb hr hlk hml hown hnm hts hE hA hAb hsz hP hD hS hl hQQ => ?_)
  have hK := hE.1
  have hown : s.vm.findClass RX1 = some m.cls := hown
  have hl : lv_has ls 8 [(0, .ref h), (1, .int (nI k)), (2, .int v)] := hl
  clear hsz
  refine lv_aload_n hx hb dX1_canSet_0 rfl (lv_at hl 0 rfl) ?_
  refine fin_r (ws' := (fun (u_1 : Nat → Int32) => [oC h ad sn hsh, oX (ad 1) 1 [.ref (ad 11), .int (nI L), .int stp, .int why], aI G (ad 11) 64 st, oX (ad 3) 5 [.ref (ad 12)], aI G (ad 12) 8 u_1, aI G (ad 6) 64 (splitP st L), aI G (ad 7) 64 ot, aI G (ad 8) 64 rm])) hA hS hP hD [0, 1, 2, 3, 4, 5] rfl [(true, 0), (true, 1), (true, 2), (true, 3), (true, 4), (true, 5), (false, 6), (false, 7)] (fun _ => rfl) (by decide) (run_V (As := []) (rest := []) (n9 := 0) hx hb hml hown hts hE hAb hl.1 hS hP hD [0, 1, 2, 3, 4, 5] rfl (by decide) (t_X1_parted l G b0 _ h ad sn hsh L stp why st li pa (by omega) (by omega)) (lw_V q1063 q1065 qs19 q106 q1066) 0 rfl rfl ⟨rfl, by decide, by decide, by decide +kernel⟩ ⟨Nat.le_of_ble_eq_true rfl, Nat.le_of_ble_eq_true rfl⟩ ⟨by first | exact Nat.le_of_ble_eq_true rfl | (simp only [rm_X1_canSet, rm_X1_parted]; omega), by first | exact Nat.le_of_ble_eq_true rfl | (simp only [rm_X1_canSet, rm_X1_parted]; omega)⟩ dX1_canSet_1 (Nat.le_of_ble_eq_true rfl) rfl rfl) (fun u_1 H locs h_1 hP hD hS => ?_)
  have hP : va_P G.1 vwCl [oC h ad sn hsh, oX (ad 1) 1 [.ref (ad 11), .int (nI L), .int stp, .int why], aI G (ad 11) 64 st, oX (ad 3) 5 [.ref (ad 12)], aI G (ad 12) 8 u_1, aI G (ad 6) 64 (splitP st L), aI G (ad 7) 64 ot, aI G (ad 8) 64 rm] _ := hP
  have hD : va_D A [oC h ad sn hsh, oX (ad 1) 1 [.ref (ad 11), .int (nI L), .int stp, .int why], aI G (ad 11) 64 st, oX (ad 3) 5 [.ref (ad 12)], aI G (ad 12) 8 u_1, aI G (ad 6) 64 (splitP st L), aI G (ad 7) 64 ot, aI G (ad 8) 64 rm] := hD
  refine W.eq (g2 := F0 m 4 ls [.ref (ad 6)]) rfl ?_
  refine lv_iconst (v := nI 0) hx hb dX1_canSet_4 (by decide) ?_
  refine lv_aload_n hx hb dX1_canSet_5 rfl (lv_at hl 0 rfl) ?_
  refine va_get (D := G.1) (ci := 0) (v := .ref (ad 7)) (C := RX1) (T := TX1) (N := 12) hx hb hts in_X1 hown hK hP 0 rfl rfl 6 (by decide) (hts _ q500) (fun _ h9 => h9) rfl dX1_canSet_6 ?_
  refine lv_iconst (v := nI 0) hx hb dX1_canSet_9 (by decide) ?_
  refine lv_bipush (v := nI 64) hx hb dX1_canSet_10 (by decide) ?_
  refine N_copyi (ws' := [oC h ad sn hsh, oX (ad 1) 1 [.ref (ad 11), .int (nI L), .int stp, .int why], aI G (ad 11) 64 st, oX (ad 3) 5 [.ref (ad 12)], aI G (ad 12) 8 u_1, aI G (ad 6) 64 (splitP st L), aI G (ad 7) 64 (va_cpy (splitP st L) ot 0 0 64), aI G (ad 8) 64 rm]) hx hb (hml.trans hl.1.symm) hown hts q1425 q560 q559 q135 hK hP hD hS 5 6 0 rfl rfl rfl (by omega) (by omega) (by omega) (by omega) (Nat.le_of_ble_eq_true rfl) (Nat.le_of_ble_eq_true rfl) dX1_canSet_12 rfl (fun H locs hP hD hS => ?_)
  have e_2 : ∀ j, j < 64 → (va_cpy (splitP st L) ot 0 0 64) j = (splitP st L) j := by intro j hj; simp [va_cpy, hj]
  have hP : va_P G.1 vwCl [oC h ad sn hsh, oX (ad 1) 1 [.ref (ad 11), .int (nI L), .int stp, .int why], aI G (ad 11) 64 st, oX (ad 3) 5 [.ref (ad 12)], aI G (ad 12) 8 u_1, aI G (ad 6) 64 (splitP st L), aI G (ad 7) 64 (splitP st L), aI G (ad 8) 64 rm] _ := cong_P (q0 := 6) e_2 rfl rfl hP
  have hD : va_D A [oC h ad sn hsh, oX (ad 1) 1 [.ref (ad 11), .int (nI L), .int stp, .int why], aI G (ad 11) 64 st, oX (ad 3) 5 [.ref (ad 12)], aI G (ad 12) 8 u_1, aI G (ad 6) 64 (splitP st L), aI G (ad 7) 64 (splitP st L), aI G (ad 8) 64 rm] := cong_D (q0 := 6) rfl rfl hD
  have hP : va_P G.1 vwCl [oC h ad sn hsh, oX (ad 1) 1 [.ref (ad 11), .int (nI L), .int stp, .int why], aI G (ad 11) 64 st, oX (ad 3) 5 [.ref (ad 12)], aI G (ad 12) 8 u_1, aI G (ad 6) 64 (splitP st L), aI G (ad 7) 64 (splitP st L), aI G (ad 8) 64 rm] _ := hP
  have hD : va_D A [oC h ad sn hsh, oX (ad 1) 1 [.ref (ad 11), .int (nI L), .int stp, .int why], aI G (ad 11) 64 st, oX (ad 3) 5 [.ref (ad 12)], aI G (ad 12) 8 u_1, aI G (ad 6) 64 (splitP st L), aI G (ad 7) 64 (splitP st L), aI G (ad 8) 64 rm] := hD
  refine lv_aload_n hx hb dX1_canSet_15 rfl (lv_at hl 0 rfl) ?_
  refine va_get (D := G.1) (ci := 0) (v := .ref (ad 7)) (C := RX1) (T := TX1) (N := 12) hx hb hts in_X1 hown hK hP 0 rfl rfl 6 (by decide) (hts _ q500) (fun _ h9 => h9) rfl dX1_canSet_16 ?_
  refine lv_iload_n hx hb dX1_canSet_19 rfl (lv_at hl 1 rfl) ?_
  refine lv_iload_n hx hb dX1_canSet_20 rfl (lv_at hl 2 rfl) ?_
  refine N_iast (ws' := [oC h ad sn hsh, oX (ad 1) 1 [.ref (ad 11), .int (nI L), .int stp, .int why], aI G (ad 11) 64 st, oX (ad 3) 5 [.ref (ad 12)], aI G (ad 12) 8 u_1, aI G (ad 6) 64 (splitP st L), aI G (ad 7) 64 (upd (splitP st L) k v), aI G (ad 8) 64 rm]) hx hb dX1_canSet_21 hK hP hD hS 6 0 rfl rfl (by omega) (by omega) rfl (fun H locs hP hD hS => ?_)
  refine lv_aload_n hx hb dX1_canSet_22 rfl (lv_at hl 0 rfl) ?_
  refine va_get (D := G.1) (ci := 0) (v := .ref (ad 3)) (C := RX1) (T := TX1) (N := 12) hx hb hts in_X1 hown hK hP 0 rfl rfl 2 (by decide) (hts _ q496) (fun _ h9 => h9) rfl dX1_canSet_23 ?_
  refine lv_aload_n hx hb dX1_canSet_26 rfl (lv_at hl 0 rfl) ?_
  refine va_get (D := G.1) (ci := 0) (v := .ref (ad 7)) (C := RX1) (T := TX1) (N := 12) hx hb hts in_X1 hown hK hP 0 rfl rfl 6 (by decide) (hts _ q500) (fun _ h9 => h9) rfl dX1_canSet_27 ?_
  refine lv_aload_n hx hb dX1_canSet_30 rfl (lv_at hl 0 rfl) ?_
  refine va_get (D := G.1) (ci := 0) (v := .ref (ad 8)) (C := RX1) (T := TX1) (N := 12) hx hb hts in_X1 hown hK hP 0 rfl rfl 7 (by decide) (hts _ q501) (fun _ h9 => h9) rfl dX1_canSet_31 ?_
  refine lv_aload_n hx hb dX1_canSet_34 rfl (lv_at hl 0 rfl) ?_
  refine va_get (D := G.1) (ci := 0) (v := .ref (ad 1)) (C := RX1) (T := TX1) (N := 12) hx hb hts in_X1 hown hK hP 0 rfl rfl 0 (by decide) (hts _ q494) (fun _ h9 => h9) rfl dX1_canSet_35 ?_
  refine va_getN (D := G.1) (ci := 1) (v := .int (nI L)) (C := RX2) (T := TX2) (N := 4) hx hb hts in_X2 hown hK hP 1 rfl rfl 1 (by decide) (hE.nb q161 rfl) (fun _ h9 => h9) rfl dX1_canSet_38 ?_
  refine fin_r (ws' := (fun (u_3 : Nat → Int32) => [oC h ad sn hsh, oX (ad 1) 1 [.ref (ad 11), .int (nI L), .int stp, .int why], aI G (ad 11) 64 st, oX (ad 3) 5 [.ref (ad 12)], aI G (ad 12) 8 u_3, aI G (ad 6) 64 (splitP st L), aI G (ad 7) 64 (upd (splitP st L) k v), aI G (ad 8) 64 (joinP L (upd (splitP st L) k v))])) hA hS hP hD [3, 4, 6, 7] rfl [(false, 0), (false, 1), (false, 2), (true, 0), (true, 1), (false, 5), (true, 2), (true, 3)] (fun _ => rfl) (by decide) (run_V (As := [.ref (ad 7), .ref (ad 8), .int (nI L)]) (rest := []) (n9 := 3) hx hb hml hown hts hE hAb hl.1 hS hP hD [3, 4, 6, 7] rfl (by decide) (t_X6_join l G b0 _ (ad 3) (ad 12) (ad 7) (ad 8) u_1 (upd (splitP st L) k v) rm L (by omega)) (lw_V q1205 q1206 q1207 q118 q1208) 3 rfl rfl ⟨rfl, by decide, by decide, by decide +kernel⟩ ⟨Nat.le_of_ble_eq_true rfl, Nat.le_of_ble_eq_true rfl⟩ ⟨by first | exact Nat.le_of_ble_eq_true rfl | (simp only [rm_X1_canSet, rm_X6_join, rm_X1_parted]; omega), by first | exact Nat.le_of_ble_eq_true rfl | (simp only [rm_X1_canSet, rm_X6_join, rm_X1_parted]; omega)⟩ dX1_canSet_41 (Nat.le_of_ble_eq_true rfl) rfl rfl) (fun u_3 H locs h_3 hP hD hS => ?_)
  have hP : va_P G.1 vwCl [oC h ad sn hsh, oX (ad 1) 1 [.ref (ad 11), .int (nI L), .int stp, .int why], aI G (ad 11) 64 st, oX (ad 3) 5 [.ref (ad 12)], aI G (ad 12) 8 u_3, aI G (ad 6) 64 (splitP st L), aI G (ad 7) 64 (upd (splitP st L) k v), aI G (ad 8) 64 (joinP L (upd (splitP st L) k v))] _ := hP
  have hD : va_D A [oC h ad sn hsh, oX (ad 1) 1 [.ref (ad 11), .int (nI L), .int stp, .int why], aI G (ad 11) 64 st, oX (ad 3) 5 [.ref (ad 12)], aI G (ad 12) 8 u_3, aI G (ad 6) 64 (splitP st L), aI G (ad 7) 64 (upd (splitP st L) k v), aI G (ad 8) 64 (joinP L (upd (splitP st L) k v))] := hD
  refine W.eq (g2 := F0 m 44 ls [.ref (ad 8)]) rfl ?_
  refine lv_pop hx hb dX1_canSet_44 rfl ?_
  refine lv_iconst (v := nI 1) hx hb dX1_canSet_45 (by decide) ?_
  refine lv_istore_n (lv' := [(3, .int (nI 1)), (0, .ref h), (1, .int (nI k)), (2, .int v)]) hx hb dX1_canSet_46 rfl hl (by decide) rfl (fun ls hl => ?_)
  refine lv_aload_n hx hb dX1_canSet_47 rfl (lv_at hl 1 rfl) ?_
  refine va_get (D := G.1) (ci := 0) (v := .ref (ad 8)) (C := RX1) (T := TX1) (N := 12) hx hb hts in_X1 hown hK hP 0 rfl rfl 7 (by decide) (hts _ q501) (fun _ h9 => h9) rfl dX1_canSet_48 ?_
  refine lv_astore (lv' := [(4, .ref (ad 8)), (3, .int (nI 1)), (0, .ref h), (1, .int (nI k)), (2, .int v)]) hx hb dX1_canSet_51 hl (by decide) rfl (fun ls hl => ?_)
  refine lv_aload hx hb dX1_canSet_53 (lv_at hl 0 rfl) ?_
  refine va_alen (v := nI 64) hx hb hK hP 7 0 rfl rfl rfl dX1_canSet_55 ?_
  refine lv_istore (lv' := [(5, .int (nI 64)), (4, .ref (ad 8)), (3, .int (nI 1)), (0, .ref h), (1, .int (nI k)), (2, .int v)]) hx hb dX1_canSet_56 hl (by decide) rfl (fun ls hl => ?_)
  refine lv_iconst (v := nI 0) hx hb dX1_canSet_58 (by decide) ?_
  refine lv_istore (lv' := [(6, .int (nI 0)), (5, .int (nI 64)), (4, .ref (ad 8)), (3, .int (nI 1)), (0, .ref h), (1, .int (nI k)), (2, .int v)]) hx hb dX1_canSet_59 hl (by decide) rfl (fun ls hl => ?_)
  have lp_61 : ∀ (n_61 : Nat) (j : Nat), (j ≤ 64) → (64 - j) < n_61 → ∀ (H : Heap) (locs : List Loc) (ls : Array Slot), va_P G.1 vwCl [oC h ad sn hsh, oX (ad 1) 1 [.ref (ad 11), .int (nI L), .int stp, .int why], aI G (ad 11) 64 st, oX (ad 3) 5 [.ref (ad 12)], aI G (ad 12) 8 u_3, aI G (ad 6) 64 (splitP st L), aI G (ad 7) 64 (upd (splitP st L) k v), aI G (ad 8) 64 (joinP L (upd (splitP st L) k v))] H → va_D A [oC h ad sn hsh, oX (ad 1) 1 [.ref (ad 11), .int (nI L), .int stp, .int why], aI G (ad 11) 64 st, oX (ad 3) 5 [.ref (ad 12)], aI G (ad 12) 8 u_3, aI G (ad 6) 64 (splitP st L), aI G (ad 7) 64 (upd (splitP st L) k v), aI G (ad 8) 64 (joinP L (upd (splitP st L) k v))] → va_S A s.heap H locs → lv_has ls 8 [(0, .ref h), (3, .int (bI (allB (shsB (joinP L (upd (splitP st L) k v))) j))), (4, .ref (ad 8)), (5, .int (nI 64)), (6, .int (nI j))] → W p l e (rm_X1_canSet) s m AR below meth c H locs 0 0 QQ (F0 m 61 ls []) := by
    intro n_61
    induction n_61 with
    | zero => intro j hj hn_; exact absurd hn_ (Nat.not_lt_zero _)
    | succ n_61 ih_61 =>
      intro j hj hn_61 H locs ls hP hD hS hl
      refine lv_iload hx hb dX1_canSet_61 (lv_at hl 4 rfl) ?_
      refine lv_iload hx hb dX1_canSet_63 (lv_at hl 3 rfl) ?_
      refine N_icmp_ge (tgt := 93) hx hb dX1_canSet_65 (by decide) (by omega) (by omega) (fun c_65 => ?_) (fun c_65 => ?_)
      · skip
        obtain rfl : j = 64 := by omega
        refine lv_iload_n hx hb dX1_canSet_93 rfl (lv_at hl 1 rfl) ?_
        rw [hQQ]
        exact rt_z hx hb hr hlk (by first | exact bI_nar _ | rfl) u_3 dX1_canSet_94 hP hD hS (by first | exact Nat.le_of_ble_eq_true rfl | (simp only [rm_X1_canSet, rm_X1_parted, rm_X6_join]; omega) | omega) (by first | exact Nat.le_of_ble_eq_true rfl | (simp only [rm_X1_canSet, rm_X1_parted, rm_X6_join]; omega) | omega) (by rfl)
      · skip
        refine lv_aload hx hb dX1_canSet_68 (lv_at hl 2 rfl) ?_
        refine lv_iload hx hb dX1_canSet_70 (lv_at hl 4 rfl) ?_
        refine N_iald hx hb dX1_canSet_72 hK hP 7 0 rfl rfl (by omega) (by omega) ?_
        refine lv_istore (lv' := [(7, .int ((joinP L (upd (splitP st L) k v)) j)), (0, .ref h), (3, .int (bI (allB (shsB (joinP L (upd (splitP st L) k v))) j))), (4, .ref (ad 8)), (5, .int (nI 64)), (6, .int (nI j))]) hx hb dX1_canSet_73 hl (by decide) rfl (fun ls hl => ?_)
        refine lv_iload_n hx hb dX1_canSet_75 rfl (lv_at hl 2 rfl) ?_
        refine lv_iload hx hb dX1_canSet_76 (lv_at hl 0 rfl) ?_
        refine lv_iconst (v := nI 0) hx hb dX1_canSet_78 (by decide) ?_
        refine lv_sipush (v := nI 255) hx hb dX1_canSet_79 (by decide) ?_
        refine fin_i (ws' := (fun (_ : Unit) => [oC h ad sn hsh, oX (ad 1) 1 [.ref (ad 11), .int (nI L), .int stp, .int why], aI G (ad 11) 64 st, oX (ad 3) 5 [.ref (ad 12)], aI G (ad 12) 8 u_3, aI G (ad 6) 64 (splitP st L), aI G (ad 7) 64 (upd (splitP st L) k v), aI G (ad 8) 64 (joinP L (upd (splitP st L) k v))])) hA hS hP hD [] rfl [(false, 0), (false, 1), (false, 2), (false, 3), (false, 4), (false, 5), (false, 6), (false, 7)] (fun _ => rfl) (by decide) (run_S (As := [.int ((joinP L (upd (splitP st L) k v)) j), .int (nI 0), .int (nI 255)]) (rest := [.int (bI (allB (shsB (joinP L (upd (splitP st L) k v))) j))]) (n9 := 3) hx hb hml hown hts hE hAb hl.1 hS hP hD [] rfl (by decide) (t_X1_in l G b0 _ ((joinP L (upd (splitP st L) k v)) j) (nI 0) (nI 255) ) (lw_S q1363 q1019 q106 q1020) ⟨by decide, by decide, by decide +kernel⟩ ⟨Nat.le_of_ble_eq_true rfl, Nat.le_of_ble_eq_true rfl⟩ ⟨by first | exact Nat.le_of_ble_eq_true rfl | (simp only [rm_X1_canSet, rm_X1_in, rm_X1_parted, rm_X6_join]; omega), by first | exact Nat.le_of_ble_eq_true rfl | (simp only [rm_X1_canSet, rm_X1_in, rm_X1_parted, rm_X6_join]; omega)⟩ dX1_canSet_82 (Nat.le_of_ble_eq_true rfl) rfl rfl) (fun r_4 u_4 H locs h_4 hP hD hS => ?_)
        have hP : va_P G.1 vwCl [oC h ad sn hsh, oX (ad 1) 1 [.ref (ad 11), .int (nI L), .int stp, .int why], aI G (ad 11) 64 st, oX (ad 3) 5 [.ref (ad 12)], aI G (ad 12) 8 u_3, aI G (ad 6) 64 (splitP st L), aI G (ad 7) 64 (upd (splitP st L) k v), aI G (ad 8) 64 (joinP L (upd (splitP st L) k v))] _ := hP
        have hD : va_D A [oC h ad sn hsh, oX (ad 1) 1 [.ref (ad 11), .int (nI L), .int stp, .int why], aI G (ad 11) 64 st, oX (ad 3) 5 [.ref (ad 12)], aI G (ad 12) 8 u_3, aI G (ad 6) 64 (splitP st L), aI G (ad 7) 64 (upd (splitP st L) k v), aI G (ad 8) 64 (joinP L (upd (splitP st L) k v))] := hD
        have h_4 : r_4 = (bI (inB ((joinP L (upd (splitP st L) k v)) j) (nI 0) (nI 255))) := h_4
        rw [h_4]
        refine lv_iand hx hb dX1_canSet_85 (top_i (bI_and _ _) ?_)
        refine lv_istore_n (lv' := [(3, .int (bI ((allB (shsB (joinP L (upd (splitP st L) k v))) j) && (inB ((joinP L (upd (splitP st L) k v)) j) (nI 0) (nI 255))))), (7, .int ((joinP L (upd (splitP st L) k v)) j)), (0, .ref h), (4, .ref (ad 8)), (5, .int (nI 64)), (6, .int (nI j))]) hx hb dX1_canSet_86 rfl hl (by decide) rfl (fun ls hl => ?_)
        refine N_iinc (a := j) (b := 1) (k9 := 5) (lv' := [(6, .int (nI (j + 1))), (3, .int (bI ((allB (shsB (joinP L (upd (splitP st L) k v))) j) && (inB ((joinP L (upd (splitP st L) k v)) j) (nI 0) (nI 255))))), (7, .int ((joinP L (upd (splitP st L) k v)) j)), (0, .ref h), (4, .ref (ad 8)), (5, .int (nI 64))]) hx hb dX1_canSet_87 hl rfl rfl (by decide) rfl (fun ls hl => ?_)
        refine lv_goto (tgt := 61) hx hb dX1_canSet_90 (by decide) ?_
        have hl : lv_has ls 8 [(0, .ref h), (3, .int (bI ((allB (shsB (joinP L (upd (splitP st L) k v))) j) && (inB ((joinP L (upd (splitP st L) k v)) j) (nI 0) (nI 255))))), (4, .ref (ad 8)), (5, .int (nI 64)), (6, .int (nI (j + 1)))] := lv_sub hl [3, 1, 4, 5, 0] rfl
        have e_5 : (bI ((allB (shsB (joinP L (upd (splitP st L) k v))) j) && (inB ((joinP L (upd (splitP st L) k v)) j) (nI 0) (nI 255)))) = (bI (allB (shsB (joinP L (upd (splitP st L) k v))) (j + 1))) := by rfl
        rw [e_5] at hl
        have hl : lv_has ls 8 [(0, .ref h), (3, .int (bI (allB (shsB (joinP L (upd (splitP st L) k v))) (j + 1)))), (4, .ref (ad 8)), (5, .int (nI 64)), (6, .int (nI (j + 1)))] := hl
        exact ih_61 (j + 1) (by omega) (by omega) _ _ _ hP hD hS hl
  have hl : lv_has ls 8 [(0, .ref h), (3, .int (nI 1)), (4, .ref (ad 8)), (5, .int (nI 64)), (6, .int (nI 0))] := lv_sub hl [4, 3, 2, 1, 0] rfl
  have e_6 : (nI 1) = (bI (allB (shsB (joinP L (upd (splitP st L) k v))) 0)) := by rfl
  rw [e_6] at hl
  have hl : lv_has ls 8 [(0, .ref h), (3, .int (bI (allB (shsB (joinP L (upd (splitP st L) k v))) 0))), (4, .ref (ad 8)), (5, .int (nI 64)), (6, .int (nI 0))] := hl
  exact lp_61 _ 0 (by omega) (Nat.lt_succ_self _) _ _ _ hP hD hS hl
def rm_X1_energyTold : Room := ({ frames := 1, cells := 0, slots := 0, locals := 30 } : Room)
set_option maxHeartbeats 400000 in
set_option maxRecDepth 100000 in
theorem t_X1_energyTold (l : Launch) (G : GG) (b0 sz : Nat) (h : Nat) (ad : Nat → Nat) (sn : Value) (hsh : Int64) (L : Nat) (stp why : Int32) (pa : Nat → Int32) (b : Int32) (hL1 : 1 ≤ L) (hL : L ≤ 3) : CT l yX1_energyTold cX1_energyTold 5 (some FieldType.int) (rm_X1_energyTold) G b0 [.ref h, .int b] [oC h ad sn hsh, oX (ad 1) 1 [.ref (ad 11), .int (nI L), .int stp, .int why], aI G (ad 6) 64 pa, aR G (ad 2) 3 (orF ad), oX (ad (15 + L)) 2 [.ref (ad (16 + 3 * L)), .ref (ad (17 + 3 * L)), .ref (ad (18 + 3 * L)), .int (nI 64)], aI G (ad (18 + 3 * L)) 64 (nF (bnT L))] sz (Ri G (fun (r_ : Int32) (_ : Unit) => r_ = l_sum (engI L b pa) 64) (fun (_ : Unit) => [oC h ad sn hsh, oX (ad 1) 1 [.ref (ad 11), .int (nI L), .int stp, .int why], aI G (ad 6) 64 pa, aR G (ad 2) 3 (orF ad), oX (ad (15 + L)) 2 [.ref (ad (16 + 3 * L)), .ref (ad (17 + 3 * L)), .ref (ad (18 + 3 * L)), .int (nI 64)], aI G (ad (18 + 3 * L)) 64 (nF (bnT L))])) := by
  refine CT.go (by decide) (Nat.le_of_ble_eq_true rfl) (fun p e s m below meth c A ls AR QQ hx hb hr hlk hml hown hnm hts hE hA hAb hsz hP hD hS hl hQQ => ?_)
  have hK := hE.1
  have hown : s.vm.findClass RX1 = some m.cls := hown
  have hl : lv_has ls 5 [(0, .ref h), (1, .int b)] := hl
  clear hsz
  refine lv_aload_n hx hb dX1_energyTold_0 rfl (lv_at hl 0 rfl) ?_
  refine fin_r (ws' := (fun (_ : Unit) => [oC h ad sn hsh, oX (ad 1) 1 [.ref (ad 11), .int (nI L), .int stp, .int why], aI G (ad 6) 64 pa, aR G (ad 2) 3 (orF ad), oX (ad (15 + L)) 2 [.ref (ad (16 + 3 * L)), .ref (ad (17 + 3 * L)), .ref (ad (18 + 3 * L)), .int (nI 64)], aI G (ad (18 + 3 * L)) 64 (nF (bnT L))])) hA hS hP hD [0, 1, 3] rfl [(true, 0), (true, 1), (false, 2), (true, 2), (false, 4), (false, 5)] (fun _ => rfl) (by decide) (run_V (As := []) (rest := []) (n9 := 0) hx hb hml hown hts hE hAb hl.1 hS hP hD [0, 1, 3] rfl (by decide) (t_X1_order l G b0 _ h ad sn hsh L stp why (by omega) (by omega)) (lw_V q1083 q1085 qs22 q106 q1086) 0 rfl rfl ⟨rfl, by decide, by decide, by decide +kernel⟩ ⟨Nat.le_of_ble_eq_true rfl, Nat.le_of_ble_eq_true rfl⟩ ⟨by first | exact Nat.le_of_ble_eq_true rfl | (simp only [rm_X1_energyTold, rm_X1_order]; omega), by first | exact Nat.le_of_ble_eq_true rfl | (simp only [rm_X1_energyTold, rm_X1_order]; omega)⟩ dX1_energyTold_1 (Nat.le_of_ble_eq_true rfl) rfl rfl) (fun u_1 H locs h_1 hP hD hS => ?_)
  have hP : va_P G.1 vwCl [oC h ad sn hsh, oX (ad 1) 1 [.ref (ad 11), .int (nI L), .int stp, .int why], aI G (ad 6) 64 pa, aR G (ad 2) 3 (orF ad), oX (ad (15 + L)) 2 [.ref (ad (16 + 3 * L)), .ref (ad (17 + 3 * L)), .ref (ad (18 + 3 * L)), .int (nI 64)], aI G (ad (18 + 3 * L)) 64 (nF (bnT L))] _ := hP
  have hD : va_D A [oC h ad sn hsh, oX (ad 1) 1 [.ref (ad 11), .int (nI L), .int stp, .int why], aI G (ad 6) 64 pa, aR G (ad 2) 3 (orF ad), oX (ad (15 + L)) 2 [.ref (ad (16 + 3 * L)), .ref (ad (17 + 3 * L)), .ref (ad (18 + 3 * L)), .int (nI 64)], aI G (ad (18 + 3 * L)) 64 (nF (bnT L))] := hD
  refine W.eq (g2 := F0 m 4 ls [.ref (ad (15 + L))]) rfl ?_
  refine va_getN (D := G.1) (ci := 2) (v := .ref (ad (18 + 3 * L))) (C := RX3) (T := TX3) (N := 4) hx hb hts in_X3 hown hK hP 4 rfl rfl 2 (by decide) (hE.nb q349 rfl) (fun _ h9 => h9) rfl dX1_energyTold_4 ?_
  refine lv_astore_n (lv' := [(2, .ref (ad (18 + 3 * L))), (0, .ref h), (1, .int b)]) hx hb dX1_energyTold_7 rfl hl (by decide) rfl (fun ls hl => ?_)
  refine lv_iconst (v := nI 0) hx hb dX1_energyTold_8 (by decide) ?_
  refine lv_istore_n (lv' := [(3, .int (nI 0)), (2, .ref (ad (18 + 3 * L))), (0, .ref h), (1, .int b)]) hx hb dX1_energyTold_9 rfl hl (by decide) rfl (fun ls hl => ?_)
  refine lv_iconst (v := nI 0) hx hb dX1_energyTold_10 (by decide) ?_
  refine lv_istore (lv' := [(4, .int (nI 0)), (3, .int (nI 0)), (2, .ref (ad (18 + 3 * L))), (0, .ref h), (1, .int b)]) hx hb dX1_energyTold_11 hl (by decide) rfl (fun ls hl => ?_)
  have lp_13 : ∀ (n_13 : Nat) (k : Nat), (k ≤ 64) → (64 - k) < n_13 → ∀ (H : Heap) (locs : List Loc) (ls : Array Slot), va_P G.1 vwCl [oC h ad sn hsh, oX (ad 1) 1 [.ref (ad 11), .int (nI L), .int stp, .int why], aI G (ad 6) 64 pa, aR G (ad 2) 3 (orF ad), oX (ad (15 + L)) 2 [.ref (ad (16 + 3 * L)), .ref (ad (17 + 3 * L)), .ref (ad (18 + 3 * L)), .int (nI 64)], aI G (ad (18 + 3 * L)) 64 (nF (bnT L))] H → va_D A [oC h ad sn hsh, oX (ad 1) 1 [.ref (ad 11), .int (nI L), .int stp, .int why], aI G (ad 6) 64 pa, aR G (ad 2) 3 (orF ad), oX (ad (15 + L)) 2 [.ref (ad (16 + 3 * L)), .ref (ad (17 + 3 * L)), .ref (ad (18 + 3 * L)), .int (nI 64)], aI G (ad (18 + 3 * L)) 64 (nF (bnT L))] → va_S A s.heap H locs → lv_has ls 5 [(0, .ref h), (1, .int b), (2, .ref (ad (18 + 3 * L))), (3, .int (l_sum (engI L b pa) k)), (4, .int (nI k))] → W p l e (rm_X1_energyTold) s m AR below meth c H locs 0 0 QQ (F0 m 13 ls []) := by
    intro n_13
    induction n_13 with
    | zero => intro k hk hn_; exact absurd hn_ (Nat.not_lt_zero _)
    | succ n_13 ih_13 =>
      intro k hk hn_13 H locs ls hP hD hS hl
      refine lv_iload hx hb dX1_energyTold_13 (lv_at hl 4 rfl) ?_
      refine lv_bipush (v := nI 64) hx hb dX1_energyTold_15 (by decide) ?_
      refine N_icmp_ge (tgt := 56) hx hb dX1_energyTold_17 (by decide) (by omega) (by omega) (fun c_17 => ?_) (fun c_17 => ?_)
      · skip
        obtain rfl : k = 64 := by omega
        refine lv_iload_n hx hb dX1_energyTold_56 rfl (lv_at hl 3 rfl) ?_
        rw [hQQ]
        exact rt_i hx hb hr hlk  ((())) dX1_energyTold_57 hP hD hS (by first | exact Nat.le_of_ble_eq_true rfl | (simp only [rm_X1_energyTold, rm_X1_order]; omega) | omega) (by first | exact Nat.le_of_ble_eq_true rfl | (simp only [rm_X1_energyTold, rm_X1_order]; omega) | omega) (by rfl)
      · skip
        refine lv_iload_n hx hb dX1_energyTold_20 rfl (lv_at hl 3 rfl) ?_
        refine lv_aload_n hx hb dX1_energyTold_21 rfl (lv_at hl 2 rfl) ?_
        refine lv_iload hx hb dX1_energyTold_22 (lv_at hl 4 rfl) ?_
        refine N_iald hx hb dX1_energyTold_24 hK hP 5 0 rfl rfl (by omega) (by omega) ?_
        refine top_i (y := nI ((bnT L) k)) rfl ?_
        refine lv_iload_n hx hb dX1_energyTold_25 rfl (lv_at hl 1 rfl) ?_
        have K_26 : ∀ (v_2 : Int32) (_ : v_2 = if (nI ((bnT L) k)) = b then ((pa k) * (pa k)) else (nI 0)) (H : Heap) (locs : List Loc) (ls : Array Slot), va_P G.1 vwCl [oC h ad sn hsh, oX (ad 1) 1 [.ref (ad 11), .int (nI L), .int stp, .int why], aI G (ad 6) 64 pa, aR G (ad 2) 3 (orF ad), oX (ad (15 + L)) 2 [.ref (ad (16 + 3 * L)), .ref (ad (17 + 3 * L)), .ref (ad (18 + 3 * L)), .int (nI 64)], aI G (ad (18 + 3 * L)) 64 (nF (bnT L))] H → va_D A [oC h ad sn hsh, oX (ad 1) 1 [.ref (ad 11), .int (nI L), .int stp, .int why], aI G (ad 6) 64 pa, aR G (ad 2) 3 (orF ad), oX (ad (15 + L)) 2 [.ref (ad (16 + 3 * L)), .ref (ad (17 + 3 * L)), .ref (ad (18 + 3 * L)), .int (nI 64)], aI G (ad (18 + 3 * L)) 64 (nF (bnT L))] → va_S A s.heap H locs → lv_has ls 5 [(0, .ref h), (1, .int b), (2, .ref (ad (18 + 3 * L))), (3, .int (l_sum (engI L b pa) k)), (4, .int (nI k))] → W p l e (rm_X1_energyTold) s m AR below meth c H locs 0 0 QQ (F0 m 48 ls [.int v_2, .int (l_sum (engI L b pa) k)]) := by
          intro v_2 e_v_2 H locs ls hP hD hS hl
          subst e_v_2
          refine lv_iadd hx hb dX1_energyTold_48 ?_
          refine lv_istore_n (lv' := [(3, .int ((l_sum (engI L b pa) k) + (if (nI ((bnT L) k)) = b then ((pa k) * (pa k)) else (nI 0)))), (0, .ref h), (1, .int b), (2, .ref (ad (18 + 3 * L))), (4, .int (nI k))]) hx hb dX1_energyTold_49 rfl hl (by decide) rfl (fun ls hl => ?_)
          refine N_iinc (a := k) (b := 1) (k9 := 4) (lv' := [(4, .int (nI (k + 1))), (3, .int ((l_sum (engI L b pa) k) + (if (nI ((bnT L) k)) = b then ((pa k) * (pa k)) else (nI 0)))), (0, .ref h), (1, .int b), (2, .ref (ad (18 + 3 * L)))]) hx hb dX1_energyTold_50 hl rfl rfl (by decide) rfl (fun ls hl => ?_)
          refine lv_goto (tgt := 13) hx hb dX1_energyTold_53 (by decide) ?_
          have hl : lv_has ls 5 [(0, .ref h), (1, .int b), (2, .ref (ad (18 + 3 * L))), (3, .int ((l_sum (engI L b pa) k) + (if (nI ((bnT L) k)) = b then ((pa k) * (pa k)) else (nI 0)))), (4, .int (nI (k + 1)))] := lv_sub hl [2, 3, 4, 1, 0] rfl
          have e_3 : ((l_sum (engI L b pa) k) + (if (nI ((bnT L) k)) = b then ((pa k) * (pa k)) else (nI 0))) = (l_sum (engI L b pa) (k + 1)) := by rfl
          rw [e_3] at hl
          have hl : lv_has ls 5 [(0, .ref h), (1, .int b), (2, .ref (ad (18 + 3 * L))), (3, .int (l_sum (engI L b pa) (k + 1))), (4, .int (nI (k + 1)))] := hl
          exact ih_13 (k + 1) (by omega) (by omega) _ _ _ hP hD hS hl
        refine lv_icmp_ne (tgt := 47) hx hb dX1_energyTold_26 (by decide) (fun c_26 => ?_) (fun c_26 => ?_)
        · skip
          refine lv_iconst (v := nI 0) hx hb dX1_energyTold_47 (by decide) ?_
          exact K_26 (nI 0) (by first | rfl | (try rw [if_neg c_26]) | simp_all) _ _ _ hP hD hS (lv_sub hl [0, 1, 2, 3, 4] rfl)
        · skip
          refine lv_aload_n hx hb dX1_energyTold_29 rfl (lv_at hl 0 rfl) ?_
          refine va_get (D := G.1) (ci := 0) (v := .ref (ad 6)) (C := RX1) (T := TX1) (N := 12) hx hb hts in_X1 hown hK hP 0 rfl rfl 5 (by decide) (hts _ q499) (fun _ h9 => h9) rfl dX1_energyTold_30 ?_
          refine lv_iload hx hb dX1_energyTold_33 (lv_at hl 4 rfl) ?_
          refine N_iald hx hb dX1_energyTold_35 hK hP 2 0 rfl rfl (by omega) (by omega) ?_
          refine lv_aload_n hx hb dX1_energyTold_36 rfl (lv_at hl 0 rfl) ?_
          refine va_get (D := G.1) (ci := 0) (v := .ref (ad 6)) (C := RX1) (T := TX1) (N := 12) hx hb hts in_X1 hown hK hP 0 rfl rfl 5 (by decide) (hts _ q499) (fun _ h9 => h9) rfl dX1_energyTold_37 ?_
          refine lv_iload hx hb dX1_energyTold_40 (lv_at hl 4 rfl) ?_
          refine N_iald hx hb dX1_energyTold_42 hK hP 2 0 rfl rfl (by omega) (by omega) ?_
          refine lv_imul hx hb dX1_energyTold_43 ?_
          refine lv_goto (tgt := 48) hx hb dX1_energyTold_44 (by decide) ?_
          exact K_26 ((pa k) * (pa k)) (by first | rfl | (try rw [if_pos c_26]) | simp_all) _ _ _ hP hD hS (lv_sub hl [0, 1, 2, 3, 4] rfl)
  have hl : lv_has ls 5 [(0, .ref h), (1, .int b), (2, .ref (ad (18 + 3 * L))), (3, .int (nI 0)), (4, .int (nI 0))] := lv_sub hl [3, 4, 2, 1, 0] rfl
  have e_4 : (nI 0) = (l_sum (engI L b pa) 0) := by rfl
  rw [e_4] at hl
  have hl : lv_has ls 5 [(0, .ref h), (1, .int b), (2, .ref (ad (18 + 3 * L))), (3, .int (l_sum (engI L b pa) 0)), (4, .int (nI 0))] := hl
  exact lp_13 _ 0 (by omega) (Nat.lt_succ_self _) _ _ _ hP hD hS hl
