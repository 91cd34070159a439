/-! ===== the component: trees, code, numbers ===== -/
/-- parts of a picture are small -/
def bdP (f : Nat → Int32) : Prop := ∀ x, x < 64 → -510 ≤ (f x).toInt ∧ (f x).toInt ≤ 510
def mgF (f : Nat → Int32) : Nat → Nat := fun x => (sizI (f x)).toInt.toNat
theorem siz_int {v : Int32} (h : -510 ≤ v.toInt ∧ v.toInt ≤ 510) : (sizI v).toInt = v.toInt.natAbs := by
  unfold sizI
  have h0 : (0 : Int32).toInt = 0 := rfl
  by_cases c : 0 ≤ v
  · rw [if_pos c]
    have := Int32.le_iff_toInt_le.mp c
    omega
  · rw [if_neg c]
    have c' : ¬ (0 : Int32).toInt ≤ v.toInt := fun z => c (Int32.le_iff_toInt_le.mpr z)
    have e : (-v).toInt = -v.toInt := by
      rw [Int32.toInt_neg]
      exact Int.bmod_eq_of_le (by omega) (by omega)
    omega
theorem mg_bd {f : Nat → Int32} (h : bdP f) : mgOK f (mgF f) := by
  intro x hx
  have h1 := siz_int (h x hx)
  have h2 := h x hx
  refine ⟨?_, ?_, fun hne => ?_⟩
  · apply Int32.toInt_inj.mp
    show _ = (nI ((sizI (f x)).toInt.toNat)).toInt
    rw [nI_toInt (by omega), h1]
    omega
  · show (sizI (f x)).toInt.toNat ≤ 510
    omega
  · show 1 ≤ (sizI (f x)).toInt.toNat
    have : (f x).toInt ≠ 0 := fun z => hne (Int32.toInt_inj.mp z)
    omega
theorem bd_drp {L : Nat} {t : Int32} {f : Nat → Int32} (h : bdP f) : bdP (drpA L t f) := by
  intro x hx
  unfold drpA
  split
  · exact ⟨by decide, by decide⟩
  · exact h x hx
/-- how many runs there are from a place on -/
def rnN (f : Nat → Int32) (L p : Nat) : Nat := if p < 64 then (if 0 < zrN f L p then 1 else 0) + rnN f L (p + tokS f L p) else 0
termination_by 64 - p
decreasing_by
  have := tokS_pos f L p
  omega
theorem rnN_lt {f : Nat → Int32} {L p : Nat} (h : p < 64) : rnN f L p = (if 0 < zrN f L p then 1 else 0) + rnN f L (p + tokS f L p) := by
  rw [rnN, if_pos h]
theorem rnN_ge {f : Nat → Int32} {L p : Nat} (h : 64 ≤ p) : rnN f L p = 0 := by
  rw [rnN, if_neg (by omega)]
/-- a number of the square that is left behind i levels, d levels being below -/
def nmA (f : Nat → Int32) : Nat → Nat → Nat → Nat → Int32
  | 0, _, r, c => f (8 * r + c)
  | d + 1, i, r, c => oneO (oneO (nmA f d (i + 1) (r / 2) (c / 2)) (f (8 * (8 / 2 ^ (i + 1) + r / 2) + c / 2)) (r % 2)) (oneO (f (8 * (r / 2) + 8 / 2 ^ (i + 1) + c / 2)) (f (8 * (8 / 2 ^ (i + 1) + r / 2) + 8 / 2 ^ (i + 1) + c / 2)) (r % 2)) (c % 2)
theorem max1_t {f : Nat → Int32} {L p : Nat} (h : zrN f L p < 2147483648) : maxI (nI 1) (nI (zrN f L p)) = nI (tokS f L p) := max1_z h
def rm_X1_treesOf : Room := ({ frames := 4, cells := 0, slots := 0, locals := 110 } : Room)
set_option maxHeartbeats 400000 in
set_option maxRecDepth 100000 in
theorem t_X1_treesOf (l : Launch) (G : GG) (b0 sz : Nat) (h : Nat) (ad : Nat → Nat) (sn : Value) (hsh : Int64) (L : Nat) (stp why : Int32) (st : Nat → Int32) (li : Nat → Int32) (pa : Nat → Int32) (tq : Option Nat) (tl : Nat) (tt : Int32) (t : Int32) (hL1 : 1 ≤ L) (hL : L ≤ 3) : CT l yX1_treesOf cX1_treesOf 2 (some (FieldType.object "CrumbPictures$Trees")) (rm_X1_treesOf) G b0 [.ref h, .int t] [oC h ad sn hsh, oX (ad 1) 1 [.ref (ad 11), .int (nI L), .int stp, .int why], aI G (ad 11) 64 st, oX (ad 3) 5 [.ref (ad 12)], aI G (ad 12) 8 li, aI G (ad 6) 64 pa, oX (ad 4) 6 [.ref (ad 13), va_rf tq, .int (nI tl), .int tt]] sz (Rr G (fun (u : Nat → Int32) => True) (fun (u : Nat → Int32) => ad 4) (fun (u : Nat → Int32) => [oC h ad sn hsh, oX (ad 1) 1 [.ref (ad 11), .int (nI L), .int stp, .int why], aI G (ad 11) 64 st, oX (ad 3) 5 [.ref (ad 12)], aI G (ad 12) 8 u, aI G (ad 6) 64 (splitP st L), oX (ad 4) 6 [.ref (ad 13), .ref (ad 6), .int (nI L), .int t]])) := by
  refine CT.go (by decide) (Nat.le_of_ble_eq_true rfl) (fun p e s m below meth c A ls AR QQ hx hb hr hlk hml hown hnm hts hE hA hAb hsz hP hD hS hl hQQ => ?_)
  have hK := hE.1
  have hown : s.vm.findClass RX1 = some m.cls := hown
  have hl : lv_has ls 2 [(0, .ref h), (1, .int t)] := hl
  clear hsz
  refine lv_aload_n hx hb dX1_treesOf_0 rfl (lv_at hl 0 rfl) ?_
  refine va_get (D := G.1) (ci := 0) (v := .ref (ad 4)) (C := RX1) (T := TX1) (N := 12) hx hb hts in_X1 hown hK hP 0 rfl rfl 3 (by decide) (hts _ q497) (fun _ h9 => h9) rfl dX1_treesOf_1 ?_
  refine lv_aload_n hx hb dX1_treesOf_4 rfl (lv_at hl 0 rfl) ?_
  refine fin_r (ws' := (fun (u_1 : Nat → Int32) => [oC h ad sn hsh, oX (ad 1) 1 [.ref (ad 11), .int (nI L), .int stp, .int why], aI G (ad 11) 64 st, oX (ad 3) 5 [.ref (ad 12)], aI G (ad 12) 8 u_1, aI G (ad 6) 64 (splitP st L), oX (ad 4) 6 [.ref (ad 13), va_rf tq, .int (nI tl), .int tt]])) hA hS hP hD [0, 1, 2, 3, 4, 5] rfl [(true, 0), (true, 1), (true, 2), (true, 3), (true, 4), (true, 5), (false, 6)] (fun _ => rfl) (by decide) (run_V (As := []) (rest := [.ref (ad 4)]) (n9 := 0) hx hb hml hown hts hE hAb hl.1 hS hP hD [0, 1, 2, 3, 4, 5] rfl (by decide) (t_X1_parted l G b0 _ h ad sn hsh L stp why st li pa (by omega) (by omega)) (lw_V q1063 q1065 qs19 q106 q1066) 0 rfl rfl ⟨rfl, by decide, by decide, by decide +kernel⟩ ⟨Nat.le_of_ble_eq_true rfl, Nat.le_of_ble_eq_true rfl⟩ ⟨by first | exact Nat.le_of_ble_eq_true rfl | (simp only [rm_X1_treesOf, rm_X1_parted]; omega), by first | exact Nat.le_of_ble_eq_true rfl | (simp only [rm_X1_treesOf, rm_X1_parted]; omega)⟩ dX1_treesOf_5 (Nat.le_of_ble_eq_true rfl) rfl rfl) (fun u_1 H locs h_1 hP hD hS => ?_)
  have hP : va_P G.1 vwCl [oC h ad sn hsh, oX (ad 1) 1 [.ref (ad 11), .int (nI L), .int stp, .int why], aI G (ad 11) 64 st, oX (ad 3) 5 [.ref (ad 12)], aI G (ad 12) 8 u_1, aI G (ad 6) 64 (splitP st L), oX (ad 4) 6 [.ref (ad 13), va_rf tq, .int (nI tl), .int tt]] _ := hP
  have hD : va_D A [oC h ad sn hsh, oX (ad 1) 1 [.ref (ad 11), .int (nI L), .int stp, .int why], aI G (ad 11) 64 st, oX (ad 3) 5 [.ref (ad 12)], aI G (ad 12) 8 u_1, aI G (ad 6) 64 (splitP st L), oX (ad 4) 6 [.ref (ad 13), va_rf tq, .int (nI tl), .int tt]] := hD
  refine W.eq (g2 := F0 m 8 ls [.ref (ad 6), .ref (ad 4)]) rfl ?_
  refine lv_aload_n hx hb dX1_treesOf_8 rfl (lv_at hl 0 rfl) ?_
  refine va_get (D := G.1) (ci := 0) (v := .ref (ad 1)) (C := RX1) (T := TX1) (N := 12) hx hb hts in_X1 hown hK hP 0 rfl rfl 0 (by decide) (hts _ q494) (fun _ h9 => h9) rfl dX1_treesOf_9 ?_
  refine va_getN (D := G.1) (ci := 1) (v := .int (nI L)) (C := RX2) (T := TX2) (N := 4) hx hb hts in_X2 hown hK hP 1 rfl rfl 1 (by decide) (hE.nb q161 rfl) (fun _ h9 => h9) rfl dX1_treesOf_12 ?_
  refine lv_iload_n hx hb dX1_treesOf_15 rfl (lv_at hl 1 rfl) ?_
  refine fin_r (ws' := (fun (_ : Unit) => [oC h ad sn hsh, oX (ad 1) 1 [.ref (ad 11), .int (nI L), .int stp, .int why], aI G (ad 11) 64 st, oX (ad 3) 5 [.ref (ad 12)], aI G (ad 12) 8 u_1, aI G (ad 6) 64 (splitP st L), oX (ad 4) 6 [.ref (ad 13), .ref (ad 6), .int (nI L), .int t]])) hA hS hP hD [6] rfl [(false, 0), (false, 1), (false, 2), (false, 3), (false, 4), (false, 5), (true, 0)] (fun _ => rfl) (by decide) (run_VN (As := [.ref (ad 6), .int (nI L), .int t]) (rest := []) (n9 := 3) (host := "CrumbPictures") hx hb hml hown hts hE hAb hl.1 hS hP hD [6] rfl (by decide) (t_X7_of l G b0 _ (ad 4) (ad 13) (ad 6) tl L tq tt t ) (lw_meth q1264) q1261 q119 q1263 qs44 6 rfl rfl ⟨by decide, by decide, by decide +kernel⟩ ⟨Nat.le_of_ble_eq_true rfl, Nat.le_of_ble_eq_true rfl⟩ ⟨by first | exact Nat.le_of_ble_eq_true rfl | (simp only [rm_X1_treesOf, rm_X7_of, rm_X1_parted]; omega), by first | exact Nat.le_of_ble_eq_true rfl | (simp only [rm_X1_treesOf, rm_X7_of, rm_X1_parted]; omega)⟩ dX1_treesOf_16 (Nat.le_of_ble_eq_true rfl) rfl rfl) (fun u_2 H locs h_2 hP hD hS => ?_)
  have hP : va_P G.1 vwCl [oC h ad sn hsh, oX (ad 1) 1 [.ref (ad 11), .int (nI L), .int stp, .int why], aI G (ad 11) 64 st, oX (ad 3) 5 [.ref (ad 12)], aI G (ad 12) 8 u_1, aI G (ad 6) 64 (splitP st L), oX (ad 4) 6 [.ref (ad 13), .ref (ad 6), .int (nI L), .int t]] _ := hP
  have hD : va_D A [oC h ad sn hsh, oX (ad 1) 1 [.ref (ad 11), .int (nI L), .int stp, .int why], aI G (ad 11) 64 st, oX (ad 3) 5 [.ref (ad 12)], aI G (ad 12) 8 u_1, aI G (ad 6) 64 (splitP st L), oX (ad 4) 6 [.ref (ad 13), .ref (ad 6), .int (nI L), .int t]] := hD
  refine W.eq (g2 := F0 m 19 ls [.ref (ad 4)]) rfl ?_
  rw [hQQ]
  exact rt_r hx hb hr hlk (by first | exact Or.inl ⟨_, rfl⟩ | exact Or.inr ⟨_, rfl⟩) u_1 dX1_treesOf_19 hP hD hS (by first | exact Nat.le_of_ble_eq_true rfl | (simp only [rm_X1_treesOf, rm_X1_parted, rm_X7_of]; omega) | omega) (by first | exact Nat.le_of_ble_eq_true rfl | (simp only [rm_X1_treesOf, rm_X1_parted, rm_X7_of]; omega) | omega) (by rfl) trivial
def rm_X1_coded : Room := ({ frames := 9, cells := 44, slots := 88, locals := 344 } : Room)
set_option maxHeartbeats 400000 in
set_option maxRecDepth 100000 in
theorem t_X1_coded (l : Launch) (G : GG) (b0 sz : Nat) (h : Nat) (ad : Nat → Nat) (sn : Value) (hsh : Int64) (L : Nat) (stp why : Int32) (st : Nat → Int32) (li : Nat → Int32) (pa : Nat → Int32) (ln at_ : Nat) (wa wu : Nat) (wn : Nat) (w : Nat → Int64) (hL1 : 1 ≤ L) (hL : L ≤ 3) (hB : BW wn wu w) (hwn : wn ≤ 44) (hbd : bdP (splitP st L)) : CT l yX1_coded cX1_coded 1 (some (FieldType.object "CrumbPictures$Code")) (rm_X1_coded) G b0 [.ref h] [oC h ad sn hsh, oX (ad 1) 1 [.ref (ad 11), .int (nI L), .int stp, .int why], aI G (ad 11) 64 st, oX (ad 3) 5 [.ref (ad 12)], aI G (ad 12) 8 li, aI G (ad 6) 64 pa, aR G (ad 2) 3 (orF ad), oX (ad (15 + L)) 2 [.ref (ad (16 + 3 * L)), .ref (ad (17 + 3 * L)), .ref (ad (18 + 3 * L)), .int (nI 64)], aI G (ad (16 + 3 * L)) 64 (nF (orT L)), oX (ad 5) 7 [.ref (ad 14), .ref (ad 15), .int (nI ln), .int (nI at_)], oX (ad 14) 10 [.ref wa, .int (nI wu), .int (bI false)], aJ G wa wn w] sz (Rr G (fun (u : (Nat × Nat × Nat × (Nat → Int64)) × (Nat → Int32)) => (∀ i, i < lenC (splitP st L) L 0 → bI (rb u.1.2.2.2 u.1.2.2.1 i) = bitS (splitP st L) L i 0) ∧ BW u.1.2.1 u.1.2.2.1 u.1.2.2.2 ∧ lenC (splitP st L) L 0 ≤ 1344 ∧ wn ≤ u.1.2.1 ∧ u.1.2.1 ≤ 44) (fun (u : (Nat × Nat × Nat × (Nat → Int64)) × (Nat → Int32)) => ad 5) (fun (u : (Nat × Nat × Nat × (Nat → Int64)) × (Nat → Int32)) => [oC h ad sn hsh, oX (ad 1) 1 [.ref (ad 11), .int (nI L), .int stp, .int why], aI G (ad 11) 64 st, oX (ad 3) 5 [.ref (ad 12)], aI G (ad 12) 8 u.2, aI G (ad 6) 64 (splitP st L), aR G (ad 2) 3 (orF ad), oX (ad (15 + L)) 2 [.ref (ad (16 + 3 * L)), .ref (ad (17 + 3 * L)), .ref (ad (18 + 3 * L)), .int (nI 64)], aI G (ad (16 + 3 * L)) 64 (nF (orT L)), oX (ad 5) 7 [.ref (ad 14), .ref (ad 15), .int (nI (lenC (splitP st L) L 0)), .int (nI at_)], oX (ad 14) 10 [.ref u.1.1, .int (nI u.1.2.2.1), .int (bI false)], aJ G u.1.1 u.1.2.1 u.1.2.2.2])) := by
  refine CT.go (by decide) (Nat.le_of_ble_eq_true rfl) (fun p e s m below meth c A ls AR QQ hx hb hr hlk hml hown hnm hts hE hA hAb hsz hP hD hS hl hQQ => ?_)
  have hK := hE.1
  have hown : s.vm.findClass RX1 = some m.cls := hown
  have hl : lv_has ls 1 [(0, .ref h)] := hl
  clear hsz
  refine lv_aload_n hx hb dX1_coded_0 rfl (lv_at hl 0 rfl) ?_
  refine va_get (D := G.1) (ci := 0) (v := .ref (ad 5)) (C := RX1) (T := TX1) (N := 12) hx hb hts in_X1 hown hK hP 0 rfl rfl 4 (by decide) (hts _ q498) (fun _ h9 => h9) rfl dX1_coded_1 ?_
  refine lv_aload_n hx hb dX1_coded_4 rfl (lv_at hl 0 rfl) ?_
  refine fin_r (ws' := (fun (u_1 : Nat → Int32) => [oC h ad sn hsh, oX (ad 1) 1 [.ref (ad 11), .int (nI L), .int stp, .int why], aI G (ad 11) 64 st, oX (ad 3) 5 [.ref (ad 12)], aI G (ad 12) 8 u_1, aI G (ad 6) 64 (splitP st L), aR G (ad 2) 3 (orF ad), oX (ad (15 + L)) 2 [.ref (ad (16 + 3 * L)), .ref (ad (17 + 3 * L)), .ref (ad (18 + 3 * L)), .int (nI 64)], aI G (ad (16 + 3 * L)) 64 (nF (orT L)), oX (ad 5) 7 [.ref (ad 14), .ref (ad 15), .int (nI ln), .int (nI at_)], oX (ad 14) 10 [.ref wa, .int (nI wu), .int (bI false)], aJ G wa wn w])) hA hS hP hD [0, 1, 2, 3, 4, 5] rfl [(true, 0), (true, 1), (true, 2), (true, 3), (true, 4), (true, 5), (false, 6), (false, 7), (false, 8), (false, 9), (false, 10), (false, 11)] (fun _ => rfl) (by decide) (run_V (As := []) (rest := [.ref (ad 5)]) (n9 := 0) hx hb hml hown hts hE hAb hl.1 hS hP hD [0, 1, 2, 3, 4, 5] rfl (by decide) (t_X1_parted l G b0 _ h ad sn hsh L stp why st li pa (by omega) (by omega)) (lw_V q1063 q1065 qs19 q106 q1066) 0 rfl rfl ⟨rfl, by decide, by decide, by decide +kernel⟩ ⟨Nat.le_of_ble_eq_true rfl, Nat.le_of_ble_eq_true rfl⟩ ⟨by first | exact Nat.le_of_ble_eq_true rfl | (simp only [rm_X1_coded, rm_X1_parted]; omega), by first | exact Nat.le_of_ble_eq_true rfl | (simp only [rm_X1_coded, rm_X1_parted]; omega)⟩ dX1_coded_5 (Nat.le_of_ble_eq_true rfl) rfl rfl) (fun u_1 H locs h_1 hP hD hS => ?_)
  have hP : va_P G.1 vwCl [oC h ad sn hsh, oX (ad 1) 1 [.ref (ad 11), .int (nI L), .int stp, .int why], aI G (ad 11) 64 st, oX (ad 3) 5 [.ref (ad 12)], aI G (ad 12) 8 u_1, aI G (ad 6) 64 (splitP st L), aR G (ad 2) 3 (orF ad), oX (ad (15 + L)) 2 [.ref (ad (16 + 3 * L)), .ref (ad (17 + 3 * L)), .ref (ad (18 + 3 * L)), .int (nI 64)], aI G (ad (16 + 3 * L)) 64 (nF (orT L)), oX (ad 5) 7 [.ref (ad 14), .ref (ad 15), .int (nI ln), .int (nI at_)], oX (ad 14) 10 [.ref wa, .int (nI wu), .int (bI false)], aJ G wa wn w] _ := hP
  have hD : va_D A [oC h ad sn hsh, oX (ad 1) 1 [.ref (ad 11), .int (nI L), .int stp, .int why], aI G (ad 11) 64 st, oX (ad 3) 5 [.ref (ad 12)], aI G (ad 12) 8 u_1, aI G (ad 6) 64 (splitP st L), aR G (ad 2) 3 (orF ad), oX (ad (15 + L)) 2 [.ref (ad (16 + 3 * L)), .ref (ad (17 + 3 * L)), .ref (ad (18 + 3 * L)), .int (nI 64)], aI G (ad (16 + 3 * L)) 64 (nF (orT L)), oX (ad 5) 7 [.ref (ad 14), .ref (ad 15), .int (nI ln), .int (nI at_)], oX (ad 14) 10 [.ref wa, .int (nI wu), .int (bI false)], aJ G wa wn w] := hD
  refine W.eq (g2 := F0 m 8 ls [.ref (ad 6), .ref (ad 5)]) rfl ?_
  refine lv_aload_n hx hb dX1_coded_8 rfl (lv_at hl 0 rfl) ?_
  refine fin_r (ws' := (fun (_ : Unit) => [oC h ad sn hsh, oX (ad 1) 1 [.ref (ad 11), .int (nI L), .int stp, .int why], aI G (ad 11) 64 st, oX (ad 3) 5 [.ref (ad 12)], aI G (ad 12) 8 u_1, aI G (ad 6) 64 (splitP st L), aR G (ad 2) 3 (orF ad), oX (ad (15 + L)) 2 [.ref (ad (16 + 3 * L)), .ref (ad (17 + 3 * L)), .ref (ad (18 + 3 * L)), .int (nI 64)], aI G (ad (16 + 3 * L)) 64 (nF (orT L)), oX (ad 5) 7 [.ref (ad 14), .ref (ad 15), .int (nI ln), .int (nI at_)], oX (ad 14) 10 [.ref wa, .int (nI wu), .int (bI false)], aJ G wa wn w])) hA hS hP hD [0, 1, 6] rfl [(true, 0), (true, 1), (false, 2), (false, 3), (false, 4), (false, 5), (true, 2), (false, 7), (false, 8), (false, 9), (false, 10), (false, 11)] (fun _ => rfl) (by decide) (run_V (As := []) (rest := [.ref (ad 6), .ref (ad 5)]) (n9 := 0) hx hb hml hown hts hE hAb hl.1 hS hP hD [0, 1, 6] rfl (by decide) (t_X1_order l G b0 _ h ad sn hsh L stp why (by omega) (by omega)) (lw_V q1083 q1085 qs22 q106 q1086) 0 rfl rfl ⟨rfl, by decide, by decide, by decide +kernel⟩ ⟨Nat.le_of_ble_eq_true rfl, Nat.le_of_ble_eq_true rfl⟩ ⟨by first | exact Nat.le_of_ble_eq_true rfl | (simp only [rm_X1_coded, rm_X1_order, rm_X1_parted]; omega), by first | exact Nat.le_of_ble_eq_true rfl | (simp only [rm_X1_coded, rm_X1_order, rm_X1_parted]; omega)⟩ dX1_coded_9 (Nat.le_of_ble_eq_true rfl) rfl rfl) (fun u_2 H locs h_2 hP hD hS => ?_)
  have hP : va_P G.1 vwCl [oC h ad sn hsh, oX (ad 1) 1 [.ref (ad 11), .int (nI L), .int stp, .int why], aI G (ad 11) 64 st, oX (ad 3) 5 [.ref (ad 12)], aI G (ad 12) 8 u_1, aI G (ad 6) 64 (splitP st L), aR G (ad 2) 3 (orF ad), oX (ad (15 + L)) 2 [.ref (ad (16 + 3 * L)), .ref (ad (17 + 3 * L)), .ref (ad (18 + 3 * L)), .int (nI 64)], aI G (ad (16 + 3 * L)) 64 (nF (orT L)), oX (ad 5) 7 [.ref (ad 14), .ref (ad 15), .int (nI ln), .int (nI at_)], oX (ad 14) 10 [.ref wa, .int (nI wu), .int (bI false)], aJ G wa wn w] _ := hP
  have hD : va_D A [oC h ad sn hsh, oX (ad 1) 1 [.ref (ad 11), .int (nI L), .int stp, .int why], aI G (ad 11) 64 st, oX (ad 3) 5 [.ref (ad 12)], aI G (ad 12) 8 u_1, aI G (ad 6) 64 (splitP st L), aR G (ad 2) 3 (orF ad), oX (ad (15 + L)) 2 [.ref (ad (16 + 3 * L)), .ref (ad (17 + 3 * L)), .ref (ad (18 + 3 * L)), .int (nI 64)], aI G (ad (16 + 3 * L)) 64 (nF (orT L)), oX (ad 5) 7 [.ref (ad 14), .ref (ad 15), .int (nI ln), .int (nI at_)], oX (ad 14) 10 [.ref wa, .int (nI wu), .int (bI false)], aJ G wa wn w] := hD
  refine W.eq (g2 := F0 m 12 ls [.ref (ad (15 + L)), .ref (ad 6), .ref (ad 5)]) rfl ?_
  refine fin_r (ws' := (fun (u_3 : Nat × Nat × Nat × (Nat → Int64)) => [oC h ad sn hsh, oX (ad 1) 1 [.ref (ad 11), .int (nI L), .int stp, .int why], aI G (ad 11) 64 st, oX (ad 3) 5 [.ref (ad 12)], aI G (ad 12) 8 u_1, aI G (ad 6) 64 (splitP st L), aR G (ad 2) 3 (orF ad), oX (ad (15 + L)) 2 [.ref (ad (16 + 3 * L)), .ref (ad (17 + 3 * L)), .ref (ad (18 + 3 * L)), .int (nI 64)], aI G (ad (16 + 3 * L)) 64 (nF (orT L)), oX (ad 5) 7 [.ref (ad 14), .ref (ad 15), .int (nI (lenC (splitP st L) L 0)), .int (nI at_)], oX (ad 14) 10 [.ref u_3.1, .int (nI u_3.2.2.1), .int (bI false)], aJ G u_3.1 u_3.2.1 u_3.2.2.2])) hA hS hP hD [9, 10, 11, 7, 8, 5] rfl [(false, 0), (false, 1), (false, 2), (false, 3), (false, 4), (true, 5), (false, 6), (true, 3), (true, 4), (true, 0), (true, 1), (true, 2)] (fun _ => rfl) (by decide) (run_V (As := [.ref (ad 6), .ref (ad (15 + L))]) (rest := []) (n9 := 2) hx hb hml hown hts hE hAb hl.1 hS hP hD [9, 10, 11, 7, 8, 5] rfl (by decide) (t_X8_write l G b0 _ (ad 5) (ad 14) (ad 15) wa wn wu ln at_ w (ad (15 + L)) (ad (16 + 3 * L)) (ad (17 + 3 * L)) (ad (18 + 3 * L)) 64 (ad 6) L (splitP st L) (mgF (splitP st L)) (by exact hB) (by omega) (by omega) (by omega) (by exact mg_bd hbd)) (lw_V q1087 q1088 q1089 q120 q1090) 9 rfl rfl ⟨rfl, by decide, by decide, by decide +kernel⟩ ⟨Nat.le_of_ble_eq_true rfl, Nat.le_of_ble_eq_true rfl⟩ ⟨by first | exact Nat.le_of_ble_eq_true rfl | (simp only [rm_X1_coded, rm_X8_write, rm_X1_parted, rm_X1_order]; omega), by first | exact Nat.le_of_ble_eq_true rfl | (simp only [rm_X1_coded, rm_X8_write, rm_X1_parted, rm_X1_order]; omega)⟩ dX1_coded_12 (Nat.le_of_ble_eq_true rfl) rfl rfl) (fun u_3 H locs h_3 hP hD hS => ?_)
  have hP : va_P G.1 vwCl [oC h ad sn hsh, oX (ad 1) 1 [.ref (ad 11), .int (nI L), .int stp, .int why], aI G (ad 11) 64 st, oX (ad 3) 5 [.ref (ad 12)], aI G (ad 12) 8 u_1, aI G (ad 6) 64 (splitP st L), aR G (ad 2) 3 (orF ad), oX (ad (15 + L)) 2 [.ref (ad (16 + 3 * L)), .ref (ad (17 + 3 * L)), .ref (ad (18 + 3 * L)), .int (nI 64)], aI G (ad (16 + 3 * L)) 64 (nF (orT L)), oX (ad 5) 7 [.ref (ad 14), .ref (ad 15), .int (nI (lenC (splitP st L) L 0)), .int (nI at_)], oX (ad 14) 10 [.ref u_3.1, .int (nI u_3.2.2.1), .int (bI false)], aJ G u_3.1 u_3.2.1 u_3.2.2.2] _ := hP
  have hD : va_D A [oC h ad sn hsh, oX (ad 1) 1 [.ref (ad 11), .int (nI L), .int stp, .int why], aI G (ad 11) 64 st, oX (ad 3) 5 [.ref (ad 12)], aI G (ad 12) 8 u_1, aI G (ad 6) 64 (splitP st L), aR G (ad 2) 3 (orF ad), oX (ad (15 + L)) 2 [.ref (ad (16 + 3 * L)), .ref (ad (17 + 3 * L)), .ref (ad (18 + 3 * L)), .int (nI 64)], aI G (ad (16 + 3 * L)) 64 (nF (orT L)), oX (ad 5) 7 [.ref (ad 14), .ref (ad 15), .int (nI (lenC (splitP st L) L 0)), .int (nI at_)], oX (ad 14) 10 [.ref u_3.1, .int (nI u_3.2.2.1), .int (bI false)], aJ G u_3.1 u_3.2.1 u_3.2.2.2] := hD
  refine W.eq (g2 := F0 m 15 ls [.ref (ad 5)]) rfl ?_
  have f_3 : (∀ i, i < lenC (splitP st L) L 0 → bI (rb u_3.2.2.2 u_3.2.2.1 i) = bitS (splitP st L) L i 0) ∧ BW u_3.2.1 u_3.2.2.1 u_3.2.2.2 ∧ lenC (splitP st L) L 0 ≤ 1344 ∧ wn ≤ u_3.2.1 ∧ u_3.2.1 ≤ 44 := h_3
  have hcf := f_3
  rw [hQQ]
  exact rt_r hx hb hr hlk (by first | exact Or.inl ⟨_, rfl⟩ | exact Or.inr ⟨_, rfl⟩) ((((u_3.1, u_3.2.1, u_3.2.2.1, u_3.2.2.2), u_1))) dX1_coded_15 hP hD hS (by first | exact Nat.le_of_ble_eq_true rfl | (simp only [rm_X1_coded, rm_X1_parted, rm_X1_order, rm_X8_write]; omega) | omega) (by first | exact Nat.le_of_ble_eq_true rfl | (simp only [rm_X1_coded, rm_X1_parted, rm_X1_order, rm_X8_write]; omega) | omega) (by rfl) (by exact hcf)
def rm_X1_lengthWithout : Room := ({ frames := 9, cells := 44, slots := 88, locals := 344 } : Room)
set_option maxHeartbeats 400000 in
set_option maxRecDepth 100000 in
theorem t_X1_lengthWithout (l : Launch) (G : GG) (b0 sz : Nat) (h : Nat) (ad : Nat → Nat) (sn : Value) (hsh : Int64) (L : Nat) (stp why : Int32) (st : Nat → Int32) (li : Nat → Int32) (pa : Nat → Int32) (ot : Nat → Int32) (ln at_ : Nat) (wa wu : Nat) (wn : Nat) (w : Nat → Int64) (t : Int32) (hL1 : 1 ≤ L) (hL : L ≤ 3) (hB : BW wn wu w) (hwn : wn ≤ 44) (hbd : bdP (splitP st L)) : CT l yX1_lengthWithout cX1_lengthWithout 2 (some FieldType.int) (rm_X1_lengthWithout) G b0 [.ref h, .int t] [oC h ad sn hsh, oX (ad 1) 1 [.ref (ad 11), .int (nI L), .int stp, .int why], aI G (ad 11) 64 st, oX (ad 3) 5 [.ref (ad 12)], aI G (ad 12) 8 li, aI G (ad 6) 64 pa, aI G (ad 7) 64 ot, aR G (ad 2) 3 (orF ad), oX (ad (15 + L)) 2 [.ref (ad (16 + 3 * L)), .ref (ad (17 + 3 * L)), .ref (ad (18 + 3 * L)), .int (nI 64)], aI G (ad (18 + 3 * L)) 64 (nF (bnT L)), aI G (ad (16 + 3 * L)) 64 (nF (orT L)), oX (ad 5) 7 [.ref (ad 14), .ref (ad 15), .int (nI ln), .int (nI at_)], oX (ad 14) 10 [.ref wa, .int (nI wu), .int (bI false)], aJ G wa wn w] sz (Ri G (fun (r_ : Int32) (u : (Nat × Nat × Nat × (Nat → Int64)) × (Nat → Int32)) => r_ = nI (lenC (drpA L t (splitP st L)) L 0) ∧ (∀ i, i < lenC (drpA L t (splitP st L)) L 0 → bI (rb u.1.2.2.2 u.1.2.2.1 i) = bitS (drpA L t (splitP st L)) L i 0) ∧ BW u.1.2.1 u.1.2.2.1 u.1.2.2.2 ∧ lenC (drpA L t (splitP st L)) L 0 ≤ 1344 ∧ wn ≤ u.1.2.1 ∧ u.1.2.1 ≤ 44) (fun (u : (Nat × Nat × Nat × (Nat → Int64)) × (Nat → Int32)) => [oC h ad sn hsh, oX (ad 1) 1 [.ref (ad 11), .int (nI L), .int stp, .int why], aI G (ad 11) 64 st, oX (ad 3) 5 [.ref (ad 12)], aI G (ad 12) 8 u.2, aI G (ad 6) 64 (splitP st L), aI G (ad 7) 64 (drpA L t (splitP st L)), aR G (ad 2) 3 (orF ad), oX (ad (15 + L)) 2 [.ref (ad (16 + 3 * L)), .ref (ad (17 + 3 * L)), .ref (ad (18 + 3 * L)), .int (nI 64)], aI G (ad (18 + 3 * L)) 64 (nF (bnT L)), aI G (ad (16 + 3 * L)) 64 (nF (orT L)), oX (ad 5) 7 [.ref (ad 14), .ref (ad 15), .int (nI (lenC (drpA L t (splitP st L)) L 0)), .int (nI at_)], oX (ad 14) 10 [.ref u.1.1, .int (nI u.1.2.2.1), .int (bI false)], aJ G u.1.1 u.1.2.1 u.1.2.2.2])) := by
  refine CT.go (by decide) (Nat.le_of_ble_eq_true rfl) (fun p e s m below meth c A ls AR QQ hx hb hr hlk hml hown hnm hts hE hA hAb hsz hP hD hS hl hQQ => ?_)
  have hK := hE.1
  have hown : s.vm.findClass RX1 = some m.cls := hown
  have hl : lv_has ls 2 [(0, .ref h), (1, .int t)] := hl
  clear hsz
  refine lv_aload_n hx hb dX1_lengthWithout_0 rfl (lv_at hl 0 rfl) ?_
  refine lv_iload_n hx hb dX1_lengthWithout_1 rfl (lv_at hl 1 rfl) ?_
  refine fin_i (ws' := (fun (u_1 : Nat → Int32) => [oC h ad sn hsh, oX (ad 1) 1 [.ref (ad 11), .int (nI L), .int stp, .int why], aI G (ad 11) 64 st, oX (ad 3) 5 [.ref (ad 12)], aI G (ad 12) 8 u_1, aI G (ad 6) 64 (splitP st L), aI G (ad 7) 64 (drpA L t (splitP st L)), aR G (ad 2) 3 (orF ad), oX (ad (15 + L)) 2 [.ref (ad (16 + 3 * L)), .ref (ad (17 + 3 * L)), .ref (ad (18 + 3 * L)), .int (nI 64)], aI G (ad (18 + 3 * L)) 64 (nF (bnT L)), aI G (ad (16 + 3 * L)) 64 (nF (orT L)), oX (ad 5) 7 [.ref (ad 14), .ref (ad 15), .int (nI ln), .int (nI at_)], oX (ad 14) 10 [.ref wa, .int (nI wu), .int (bI false)], aJ G wa wn w])) hA hS hP hD [0, 1, 2, 3, 4, 5, 6, 7, 8, 9] rfl [(true, 0), (true, 1), (true, 2), (true, 3), (true, 4), (true, 5), (true, 6), (true, 7), (true, 8), (true, 9), (false, 10), (false, 11), (false, 12), (false, 13)] (fun _ => rfl) (by decide) (run_V (As := [.int t]) (rest := []) (n9 := 1) hx hb hml hown hts hE hAb hl.1 hS hP hD [0, 1, 2, 3, 4, 5, 6, 7, 8, 9] rfl (by decide) (t_X1_drop l G b0 _ h ad sn hsh L stp why st li pa ot t (by omega) (by omega)) (lw_V q1231 q1233 qs37 q106 q1234) 0 rfl rfl ⟨rfl, by decide, by decide, by decide +kernel⟩ ⟨Nat.le_of_ble_eq_true rfl, Nat.le_of_ble_eq_true rfl⟩ ⟨by first | exact Nat.le_of_ble_eq_true rfl | (simp only [rm_X1_lengthWithout, rm_X1_drop]; omega), by first | exact Nat.le_of_ble_eq_true rfl | (simp only [rm_X1_lengthWithout, rm_X1_drop]; omega)⟩ dX1_lengthWithout_2 (Nat.le_of_ble_eq_true rfl) rfl rfl) (fun r_1 u_1 H locs h_1 hP hD hS => ?_)
  have hP : va_P G.1 vwCl [oC h ad sn hsh, oX (ad 1) 1 [.ref (ad 11), .int (nI L), .int stp, .int why], aI G (ad 11) 64 st, oX (ad 3) 5 [.ref (ad 12)], aI G (ad 12) 8 u_1, aI G (ad 6) 64 (splitP st L), aI G (ad 7) 64 (drpA L t (splitP st L)), aR G (ad 2) 3 (orF ad), oX (ad (15 + L)) 2 [.ref (ad (16 + 3 * L)), .ref (ad (17 + 3 * L)), .ref (ad (18 + 3 * L)), .int (nI 64)], aI G (ad (18 + 3 * L)) 64 (nF (bnT L)), aI G (ad (16 + 3 * L)) 64 (nF (orT L)), oX (ad 5) 7 [.ref (ad 14), .ref (ad 15), .int (nI ln), .int (nI at_)], oX (ad 14) 10 [.ref wa, .int (nI wu), .int (bI false)], aJ G wa wn w] _ := hP
  have hD : va_D A [oC h ad sn hsh, oX (ad 1) 1 [.ref (ad 11), .int (nI L), .int stp, .int why], aI G (ad 11) 64 st, oX (ad 3) 5 [.ref (ad 12)], aI G (ad 12) 8 u_1, aI G (ad 6) 64 (splitP st L), aI G (ad 7) 64 (drpA L t (splitP st L)), aR G (ad 2) 3 (orF ad), oX (ad (15 + L)) 2 [.ref (ad (16 + 3 * L)), .ref (ad (17 + 3 * L)), .ref (ad (18 + 3 * L)), .int (nI 64)], aI G (ad (18 + 3 * L)) 64 (nF (bnT L)), aI G (ad (16 + 3 * L)) 64 (nF (orT L)), oX (ad 5) 7 [.ref (ad 14), .ref (ad 15), .int (nI ln), .int (nI at_)], oX (ad 14) 10 [.ref wa, .int (nI wu), .int (bI false)], aJ G wa wn w] := hD
  have h_1 : r_1 = (nI (cntN (crmB L t (splitP st L)) 64)) := h_1
  rw [h_1]
  refine lv_pop hx hb dX1_lengthWithout_5 rfl ?_
  refine lv_aload_n hx hb dX1_lengthWithout_6 rfl (lv_at hl 0 rfl) ?_
  refine va_get (D := G.1) (ci := 0) (v := .ref (ad 5)) (C := RX1) (T := TX1) (N := 12) hx hb hts in_X1 hown hK hP 0 rfl rfl 4 (by decide) (hts _ q498) (fun _ h9 => h9) rfl dX1_lengthWithout_7 ?_
  refine lv_aload_n hx hb dX1_lengthWithout_10 rfl (lv_at hl 0 rfl) ?_
  refine va_get (D := G.1) (ci := 0) (v := .ref (ad 7)) (C := RX1) (T := TX1) (N := 12) hx hb hts in_X1 hown hK hP 0 rfl rfl 6 (by decide) (hts _ q500) (fun _ h9 => h9) rfl dX1_lengthWithout_11 ?_
  refine lv_aload_n hx hb dX1_lengthWithout_14 rfl (lv_at hl 0 rfl) ?_
  refine fin_r (ws' := (fun (_ : Unit) => [oC h ad sn hsh, oX (ad 1) 1 [.ref (ad 11), .int (nI L), .int stp, .int why], aI G (ad 11) 64 st, oX (ad 3) 5 [.ref (ad 12)], aI G (ad 12) 8 u_1, aI G (ad 6) 64 (splitP st L), aI G (ad 7) 64 (drpA L t (splitP st L)), aR G (ad 2) 3 (orF ad), oX (ad (15 + L)) 2 [.ref (ad (16 + 3 * L)), .ref (ad (17 + 3 * L)), .ref (ad (18 + 3 * L)), .int (nI 64)], aI G (ad (18 + 3 * L)) 64 (nF (bnT L)), aI G (ad (16 + 3 * L)) 64 (nF (orT L)), oX (ad 5) 7 [.ref (ad 14), .ref (ad 15), .int (nI ln), .int (nI at_)], oX (ad 14) 10 [.ref wa, .int (nI wu), .int (bI false)], aJ G wa wn w])) hA hS hP hD [0, 1, 7] rfl [(true, 0), (true, 1), (false, 2), (false, 3), (false, 4), (false, 5), (false, 6), (true, 2), (false, 8), (false, 9), (false, 10), (false, 11), (false, 12), (false, 13)] (fun _ => rfl) (by decide) (run_V (As := []) (rest := [.ref (ad 7), .ref (ad 5)]) (n9 := 0) hx hb hml hown hts hE hAb hl.1 hS hP hD [0, 1, 7] rfl (by decide) (t_X1_order l G b0 _ h ad sn hsh L stp why (by omega) (by omega)) (lw_V q1083 q1085 qs22 q106 q1086) 0 rfl rfl ⟨rfl, by decide, by decide, by decide +kernel⟩ ⟨Nat.le_of_ble_eq_true rfl, Nat.le_of_ble_eq_true rfl⟩ ⟨by first | exact Nat.le_of_ble_eq_true rfl | (simp only [rm_X1_lengthWithout, rm_X1_order, rm_X1_drop]; omega), by first | exact Nat.le_of_ble_eq_true rfl | (simp only [rm_X1_lengthWithout, rm_X1_order, rm_X1_drop]; omega)⟩ dX1_lengthWithout_15 (Nat.le_of_ble_eq_true rfl) rfl rfl) (fun u_2 H locs h_2 hP hD hS => ?_)
  have hP : va_P G.1 vwCl [oC h ad sn hsh, oX (ad 1) 1 [.ref (ad 11), .int (nI L), .int stp, .int why], aI G (ad 11) 64 st, oX (ad 3) 5 [.ref (ad 12)], aI G (ad 12) 8 u_1, aI G (ad 6) 64 (splitP st L), aI G (ad 7) 64 (drpA L t (splitP st L)), aR G (ad 2) 3 (orF ad), oX (ad (15 + L)) 2 [.ref (ad (16 + 3 * L)), .ref (ad (17 + 3 * L)), .ref (ad (18 + 3 * L)), .int (nI 64)], aI G (ad (18 + 3 * L)) 64 (nF (bnT L)), aI G (ad (16 + 3 * L)) 64 (nF (orT L)), oX (ad 5) 7 [.ref (ad 14), .ref (ad 15), .int (nI ln), .int (nI at_)], oX (ad 14) 10 [.ref wa, .int (nI wu), .int (bI false)], aJ G wa wn w] _ := hP
  have hD : va_D A [oC h ad sn hsh, oX (ad 1) 1 [.ref (ad 11), .int (nI L), .int stp, .int why], aI G (ad 11) 64 st, oX (ad 3) 5 [.ref (ad 12)], aI G (ad 12) 8 u_1, aI G (ad 6) 64 (splitP st L), aI G (ad 7) 64 (drpA L t (splitP st L)), aR G (ad 2) 3 (orF ad), oX (ad (15 + L)) 2 [.ref (ad (16 + 3 * L)), .ref (ad (17 + 3 * L)), .ref (ad (18 + 3 * L)), .int (nI 64)], aI G (ad (18 + 3 * L)) 64 (nF (bnT L)), aI G (ad (16 + 3 * L)) 64 (nF (orT L)), oX (ad 5) 7 [.ref (ad 14), .ref (ad 15), .int (nI ln), .int (nI at_)], oX (ad 14) 10 [.ref wa, .int (nI wu), .int (bI false)], aJ G wa wn w] := hD
  refine W.eq (g2 := F0 m 18 ls [.ref (ad (15 + L)), .ref (ad 7), .ref (ad 5)]) rfl ?_
  refine fin_r (ws' := (fun (u_3 : Nat × Nat × Nat × (Nat → Int64)) => [oC h ad sn hsh, oX (ad 1) 1 [.ref (ad 11), .int (nI L), .int stp, .int why], aI G (ad 11) 64 st, oX (ad 3) 5 [.ref (ad 12)], aI G (ad 12) 8 u_1, aI G (ad 6) 64 (splitP st L), aI G (ad 7) 64 (drpA L t (splitP st L)), aR G (ad 2) 3 (orF ad), oX (ad (15 + L)) 2 [.ref (ad (16 + 3 * L)), .ref (ad (17 + 3 * L)), .ref (ad (18 + 3 * L)), .int (nI 64)], aI G (ad (18 + 3 * L)) 64 (nF (bnT L)), aI G (ad (16 + 3 * L)) 64 (nF (orT L)), oX (ad 5) 7 [.ref (ad 14), .ref (ad 15), .int (nI (lenC (drpA L t (splitP st L)) L 0)), .int (nI at_)], oX (ad 14) 10 [.ref u_3.1, .int (nI u_3.2.2.1), .int (bI false)], aJ G u_3.1 u_3.2.1 u_3.2.2.2])) hA hS hP hD [11, 12, 13, 8, 10, 6] rfl [(false, 0), (false, 1), (false, 2), (false, 3), (false, 4), (false, 5), (true, 5), (false, 7), (true, 3), (false, 9), (true, 4), (true, 0), (true, 1), (true, 2)] (fun _ => rfl) (by decide) (run_V (As := [.ref (ad 7), .ref (ad (15 + L))]) (rest := []) (n9 := 2) hx hb hml hown hts hE hAb hl.1 hS hP hD [11, 12, 13, 8, 10, 6] rfl (by decide) (t_X8_write l G b0 _ (ad 5) (ad 14) (ad 15) wa wn wu ln at_ w (ad (15 + L)) (ad (16 + 3 * L)) (ad (17 + 3 * L)) (ad (18 + 3 * L)) 64 (ad 7) L (drpA L t (splitP st L)) (mgF (drpA L t (splitP st L))) (by exact hB) (by omega) (by omega) (by omega) (by exact mg_bd (bd_drp hbd))) (lw_V q1087 q1088 q1089 q120 q1090) 11 rfl rfl ⟨rfl, by decide, by decide, by decide +kernel⟩ ⟨Nat.le_of_ble_eq_true rfl, Nat.le_of_ble_eq_true rfl⟩ ⟨by first | exact Nat.le_of_ble_eq_true rfl | (simp only [rm_X1_lengthWithout, rm_X8_write, rm_X1_drop, rm_X1_order]; omega), by first | exact Nat.le_of_ble_eq_true rfl | (simp only [rm_X1_lengthWithout, rm_X8_write, rm_X1_drop, rm_X1_order]; omega)⟩ dX1_lengthWithout_18 (Nat.le_of_ble_eq_true rfl) rfl rfl) (fun u_3 H locs h_3 hP hD hS => ?_)
  have hP : va_P G.1 vwCl [oC h ad sn hsh, oX (ad 1) 1 [.ref (ad 11), .int (nI L), .int stp, .int why], aI G (ad 11) 64 st, oX (ad 3) 5 [.ref (ad 12)], aI G (ad 12) 8 u_1, aI G (ad 6) 64 (splitP st L), aI G (ad 7) 64 (drpA L t (splitP st L)), aR G (ad 2) 3 (orF ad), oX (ad (15 + L)) 2 [.ref (ad (16 + 3 * L)), .ref (ad (17 + 3 * L)), .ref (ad (18 + 3 * L)), .int (nI 64)], aI G (ad (18 + 3 * L)) 64 (nF (bnT L)), aI G (ad (16 + 3 * L)) 64 (nF (orT L)), oX (ad 5) 7 [.ref (ad 14), .ref (ad 15), .int (nI (lenC (drpA L t (splitP st L)) L 0)), .int (nI at_)], oX (ad 14) 10 [.ref u_3.1, .int (nI u_3.2.2.1), .int (bI false)], aJ G u_3.1 u_3.2.1 u_3.2.2.2] _ := hP
  have hD : va_D A [oC h ad sn hsh, oX (ad 1) 1 [.ref (ad 11), .int (nI L), .int stp, .int why], aI G (ad 11) 64 st, oX (ad 3) 5 [.ref (ad 12)], aI G (ad 12) 8 u_1, aI G (ad 6) 64 (splitP st L), aI G (ad 7) 64 (drpA L t (splitP st L)), aR G (ad 2) 3 (orF ad), oX (ad (15 + L)) 2 [.ref (ad (16 + 3 * L)), .ref (ad (17 + 3 * L)), .ref (ad (18 + 3 * L)), .int (nI 64)], aI G (ad (18 + 3 * L)) 64 (nF (bnT L)), aI G (ad (16 + 3 * L)) 64 (nF (orT L)), oX (ad 5) 7 [.ref (ad 14), .ref (ad 15), .int (nI (lenC (drpA L t (splitP st L)) L 0)), .int (nI at_)], oX (ad 14) 10 [.ref u_3.1, .int (nI u_3.2.2.1), .int (bI false)], aJ G u_3.1 u_3.2.1 u_3.2.2.2] := hD
  refine W.eq (g2 := F0 m 21 ls [.ref (ad 5)]) rfl ?_
  have f_3 : (∀ i, i < lenC (drpA L t (splitP st L)) L 0 → bI (rb u_3.2.2.2 u_3.2.2.1 i) = bitS (drpA L t (splitP st L)) L i 0) ∧ BW u_3.2.1 u_3.2.2.1 u_3.2.2.2 ∧ lenC (drpA L t (splitP st L)) L 0 ≤ 1344 ∧ wn ≤ u_3.2.1 ∧ u_3.2.1 ≤ 44 := h_3
  have hcf := f_3
  refine va_getN (D := G.1) (ci := 7) (v := .int (nI (lenC (drpA L t (splitP st L)) L 0))) (C := RX8) (T := TX8) (N := 4) hx hb hts in_X8 hown hK hP 11 rfl rfl 2 (by decide) (hE.nb q424 rfl) (fun _ h9 => h9) rfl dX1_lengthWithout_21 ?_
  rw [hQQ]
  exact rt_i hx hb hr hlk  ((((u_3.1, u_3.2.1, u_3.2.2.1, u_3.2.2.2), u_1))) dX1_lengthWithout_24 hP hD hS (by first | exact Nat.le_of_ble_eq_true rfl | (simp only [rm_X1_lengthWithout, rm_X1_drop, rm_X1_order, rm_X8_write]; omega) | omega) (by first | exact Nat.le_of_ble_eq_true rfl | (simp only [rm_X1_lengthWithout, rm_X1_drop, rm_X1_order, rm_X8_write]; omega) | omega) ⟨(by rfl), by exact hcf⟩
def rm_X1_lengthWith : Room := ({ frames := 9, cells := 44, slots := 88, locals := 344 } : Room)
set_option maxHeartbeats 400000 in
set_option maxRecDepth 100000 in
theorem t_X1_lengthWith (l : Launch) (G : GG) (b0 sz : Nat) (h : Nat) (ad : Nat → Nat) (sn : Value) (hsh : Int64) (L : Nat) (stp why : Int32) (st : Nat → Int32) (li : Nat → Int32) (ot : Nat → Int32) (ln at_ : Nat) (wa wu : Nat) (wn : Nat) (w : Nat → Int64) (k9 : Nat) (h91 : 1 ≤ k9) (h93 : k9 ≤ 3) (hB : BW wn wu w) (hwn : wn ≤ 44) (hbd : bdP (splitP st k9)) : CT l yX1_lengthWith cX1_lengthWith 2 (some FieldType.int) (rm_X1_lengthWith) G b0 [.ref h, .int (nI k9)] [oC h ad sn hsh, oX (ad 1) 1 [.ref (ad 11), .int (nI L), .int stp, .int why], aI G (ad 11) 64 st, oX (ad 3) 5 [.ref (ad 12)], aI G (ad 12) 8 li, aI G (ad 7) 64 ot, aR G (ad 2) 3 (orF ad), oX (ad (15 + k9)) 2 [.ref (ad (16 + 3 * k9)), .ref (ad (17 + 3 * k9)), .ref (ad (18 + 3 * k9)), .int (nI 64)], aI G (ad (16 + 3 * k9)) 64 (nF (orT k9)), oX (ad 5) 7 [.ref (ad 14), .ref (ad 15), .int (nI ln), .int (nI at_)], oX (ad 14) 10 [.ref wa, .int (nI wu), .int (bI false)], aJ G wa wn w] sz (Ri G (fun (r_ : Int32) (u : (Nat × Nat × Nat × (Nat → Int64)) × (Nat → Int32)) => r_ = nI (lenC (splitP st k9) k9 0) ∧ (∀ i, i < lenC (splitP st k9) k9 0 → bI (rb u.1.2.2.2 u.1.2.2.1 i) = bitS (splitP st k9) k9 i 0) ∧ BW u.1.2.1 u.1.2.2.1 u.1.2.2.2 ∧ lenC (splitP st k9) k9 0 ≤ 1344 ∧ wn ≤ u.1.2.1 ∧ u.1.2.1 ≤ 44) (fun (u : (Nat × Nat × Nat × (Nat → Int64)) × (Nat → Int32)) => [oC h ad sn hsh, oX (ad 1) 1 [.ref (ad 11), .int (nI L), .int stp, .int why], aI G (ad 11) 64 st, oX (ad 3) 5 [.ref (ad 12)], aI G (ad 12) 8 u.2, aI G (ad 7) 64 (splitP st k9), aR G (ad 2) 3 (orF ad), oX (ad (15 + k9)) 2 [.ref (ad (16 + 3 * k9)), .ref (ad (17 + 3 * k9)), .ref (ad (18 + 3 * k9)), .int (nI 64)], aI G (ad (16 + 3 * k9)) 64 (nF (orT k9)), oX (ad 5) 7 [.ref (ad 14), .ref (ad 15), .int (nI (lenC (splitP st k9) k9 0)), .int (nI at_)], oX (ad 14) 10 [.ref u.1.1, .int (nI u.1.2.2.1), .int (bI false)], aJ G u.1.1 u.1.2.1 u.1.2.2.2])) := by
  refine CT.go (by decide) (Nat.le_of_ble_eq_true rfl) (fun p e s m below meth c A ls AR QQ hx hb hr hlk hml hown hnm hts hE hA hAb hsz hP hD hS hl hQQ => ?_)
  have hK := hE.1
  have hown : s.vm.findClass RX1 = some m.cls := hown
  have hl : lv_has ls 2 [(0, .ref h), (1, .int (nI k9))] := hl
  clear hsz
  refine lv_aload_n hx hb dX1_lengthWith_0 rfl (lv_at hl 0 rfl) ?_
  refine va_get (D := G.1) (ci := 0) (v := .ref (ad 5)) (C := RX1) (T := TX1) (N := 12) hx hb hts in_X1 hown hK hP 0 rfl rfl 4 (by decide) (hts _ q498) (fun _ h9 => h9) rfl dX1_lengthWith_1 ?_
  refine lv_aload_n hx hb dX1_lengthWith_4 rfl (lv_at hl 0 rfl) ?_
  refine va_get (D := G.1) (ci := 0) (v := .ref (ad 3)) (C := RX1) (T := TX1) (N := 12) hx hb hts in_X1 hown hK hP 0 rfl rfl 2 (by decide) (hts _ q496) (fun _ h9 => h9) rfl dX1_lengthWith_5 ?_
  refine lv_aload_n hx hb dX1_lengthWith_8 rfl (lv_at hl 0 rfl) ?_
  refine va_get (D := G.1) (ci := 0) (v := .ref (ad 1)) (C := RX1) (T := TX1) (N := 12) hx hb hts in_X1 hown hK hP 0 rfl rfl 0 (by decide) (hts _ q494) (fun _ h9 => h9) rfl dX1_lengthWith_9 ?_
  refine va_getN (D := G.1) (ci := 1) (v := .ref (ad 11)) (C := RX2) (T := TX2) (N := 4) hx hb hts in_X2 hown hK hP 1 rfl rfl 0 (by decide) (hE.nb q159 rfl) (fun _ h9 => h9) rfl dX1_lengthWith_12 ?_
  refine lv_aload_n hx hb dX1_lengthWith_15 rfl (lv_at hl 0 rfl) ?_
  refine va_get (D := G.1) (ci := 0) (v := .ref (ad 7)) (C := RX1) (T := TX1) (N := 12) hx hb hts in_X1 hown hK hP 0 rfl rfl 6 (by decide) (hts _ q500) (fun _ h9 => h9) rfl dX1_lengthWith_16 ?_
  refine lv_iload_n hx hb dX1_lengthWith_19 rfl (lv_at hl 1 rfl) ?_
  refine fin_r (ws' := (fun (u_1 : Nat → Int32) => [oC h ad sn hsh, oX (ad 1) 1 [.ref (ad 11), .int (nI L), .int stp, .int why], aI G (ad 11) 64 st, oX (ad 3) 5 [.ref (ad 12)], aI G (ad 12) 8 u_1, aI G (ad 7) 64 (splitP st k9), aR G (ad 2) 3 (orF ad), oX (ad (15 + k9)) 2 [.ref (ad (16 + 3 * k9)), .ref (ad (17 + 3 * k9)), .ref (ad (18 + 3 * k9)), .int (nI 64)], aI G (ad (16 + 3 * k9)) 64 (nF (orT k9)), oX (ad 5) 7 [.ref (ad 14), .ref (ad 15), .int (nI ln), .int (nI at_)], oX (ad 14) 10 [.ref wa, .int (nI wu), .int (bI false)], aJ G wa wn w])) hA hS hP hD [3, 4, 2, 5] rfl [(false, 0), (false, 1), (true, 2), (true, 0), (true, 1), (true, 3), (false, 6), (false, 7), (false, 8), (false, 9), (false, 10), (false, 11)] (fun _ => rfl) (by decide) (run_V (As := [.ref (ad 11), .ref (ad 7), .int (nI k9)]) (rest := [.ref (ad 5)]) (n9 := 3) hx hb hml hown hts hE hAb hl.1 hS hP hD [3, 4, 2, 5] rfl (by decide) (t_X6_split l G b0 _ (ad 3) (ad 12) (ad 11) (ad 7) li st ot k9 (by omega)) (lw_V q1067 q1068 q1069 q118 q1070) 3 rfl rfl ⟨rfl, by decide, by decide, by decide +kernel⟩ ⟨Nat.le_of_ble_eq_true rfl, Nat.le_of_ble_eq_true rfl⟩ ⟨by first | exact Nat.le_of_ble_eq_true rfl | (simp only [rm_X1_lengthWith, rm_X6_split]; omega), by first | exact Nat.le_of_ble_eq_true rfl | (simp only [rm_X1_lengthWith, rm_X6_split]; omega)⟩ dX1_lengthWith_20 (Nat.le_of_ble_eq_true rfl) rfl rfl) (fun u_1 H locs h_1 hP hD hS => ?_)
  have hP : va_P G.1 vwCl [oC h ad sn hsh, oX (ad 1) 1 [.ref (ad 11), .int (nI L), .int stp, .int why], aI G (ad 11) 64 st, oX (ad 3) 5 [.ref (ad 12)], aI G (ad 12) 8 u_1, aI G (ad 7) 64 (splitP st k9), aR G (ad 2) 3 (orF ad), oX (ad (15 + k9)) 2 [.ref (ad (16 + 3 * k9)), .ref (ad (17 + 3 * k9)), .ref (ad (18 + 3 * k9)), .int (nI 64)], aI G (ad (16 + 3 * k9)) 64 (nF (orT k9)), oX (ad 5) 7 [.ref (ad 14), .ref (ad 15), .int (nI ln), .int (nI at_)], oX (ad 14) 10 [.ref wa, .int (nI wu), .int (bI false)], aJ G wa wn w] _ := hP
  have hD : va_D A [oC h ad sn hsh, oX (ad 1) 1 [.ref (ad 11), .int (nI L), .int stp, .int why], aI G (ad 11) 64 st, oX (ad 3) 5 [.ref (ad 12)], aI G (ad 12) 8 u_1, aI G (ad 7) 64 (splitP st k9), aR G (ad 2) 3 (orF ad), oX (ad (15 + k9)) 2 [.ref (ad (16 + 3 * k9)), .ref (ad (17 + 3 * k9)), .ref (ad (18 + 3 * k9)), .int (nI 64)], aI G (ad (16 + 3 * k9)) 64 (nF (orT k9)), oX (ad 5) 7 [.ref (ad 14), .ref (ad 15), .int (nI ln), .int (nI at_)], oX (ad 14) 10 [.ref wa, .int (nI wu), .int (bI false)], aJ G wa wn w] := hD
  refine W.eq (g2 := F0 m 23 ls [.ref (ad 7), .ref (ad 5)]) rfl ?_
  refine lv_aload_n hx hb dX1_lengthWith_23 rfl (lv_at hl 0 rfl) ?_
  refine va_get (D := G.1) (ci := 0) (v := .ref (ad 2)) (C := RX1) (T := TX1) (N := 12) hx hb hts in_X1 hown hK hP 0 rfl rfl 1 (by decide) (hts _ q495) (fun _ h9 => h9) rfl dX1_lengthWith_24 ?_
  refine lv_iload_n hx hb dX1_lengthWith_27 rfl (lv_at hl 1 rfl) ?_
  refine lv_iconst (v := nI 1) hx hb dX1_lengthWith_28 (by decide) ?_
  refine N_isub hx hb dX1_lengthWith_29 (by omega) ?_
  refine N_aald hx hb dX1_lengthWith_30 hK hP 6 5 rfl rfl (by omega) (by omega) ?_
  refine top_q (y := some (ad (15 + k9))) (by exact orF_at h91) ?_
  refine W.eq (g2 := F0 m 31 ls [.ref (ad (15 + k9)), .ref (ad 7), .ref (ad 5)]) rfl ?_
  refine fin_r (ws' := (fun (u_2 : Nat × Nat × Nat × (Nat → Int64)) => [oC h ad sn hsh, oX (ad 1) 1 [.ref (ad 11), .int (nI L), .int stp, .int why], aI G (ad 11) 64 st, oX (ad 3) 5 [.ref (ad 12)], aI G (ad 12) 8 u_1, aI G (ad 7) 64 (splitP st k9), aR G (ad 2) 3 (orF ad), oX (ad (15 + k9)) 2 [.ref (ad (16 + 3 * k9)), .ref (ad (17 + 3 * k9)), .ref (ad (18 + 3 * k9)), .int (nI 64)], aI G (ad (16 + 3 * k9)) 64 (nF (orT k9)), oX (ad 5) 7 [.ref (ad 14), .ref (ad 15), .int (nI (lenC (splitP st k9) k9 0)), .int (nI at_)], oX (ad 14) 10 [.ref u_2.1, .int (nI u_2.2.2.1), .int (bI false)], aJ G u_2.1 u_2.2.1 u_2.2.2.2])) hA hS hP hD [9, 10, 11, 7, 8, 5] rfl [(false, 0), (false, 1), (false, 2), (false, 3), (false, 4), (true, 5), (false, 6), (true, 3), (true, 4), (true, 0), (true, 1), (true, 2)] (fun _ => rfl) (by decide) (run_V (As := [.ref (ad 7), .ref (ad (15 + k9))]) (rest := []) (n9 := 2) hx hb hml hown hts hE hAb hl.1 hS hP hD [9, 10, 11, 7, 8, 5] rfl (by decide) (t_X8_write l G b0 _ (ad 5) (ad 14) (ad 15) wa wn wu ln at_ w (ad (15 + k9)) (ad (16 + 3 * k9)) (ad (17 + 3 * k9)) (ad (18 + 3 * k9)) 64 (ad 7) k9 (splitP st k9) (mgF (splitP st k9)) (by exact hB) (by omega) (by omega) (by omega) (by exact mg_bd hbd)) (lw_V q1087 q1088 q1089 q120 q1090) 9 rfl rfl ⟨rfl, by decide, by decide, by decide +kernel⟩ ⟨Nat.le_of_ble_eq_true rfl, Nat.le_of_ble_eq_true rfl⟩ ⟨by first | exact Nat.le_of_ble_eq_true rfl | (simp only [rm_X1_lengthWith, rm_X8_write, rm_X6_split]; omega), by first | exact Nat.le_of_ble_eq_true rfl | (simp only [rm_X1_lengthWith, rm_X8_write, rm_X6_split]; omega)⟩ dX1_lengthWith_31 (Nat.le_of_ble_eq_true rfl) rfl rfl) (fun u_2 H locs h_2 hP hD hS => ?_)
  have hP : va_P G.1 vwCl [oC h ad sn hsh, oX (ad 1) 1 [.ref (ad 11), .int (nI L), .int stp, .int why], aI G (ad 11) 64 st, oX (ad 3) 5 [.ref (ad 12)], aI G (ad 12) 8 u_1, aI G (ad 7) 64 (splitP st k9), aR G (ad 2) 3 (orF ad), oX (ad (15 + k9)) 2 [.ref (ad (16 + 3 * k9)), .ref (ad (17 + 3 * k9)), .ref (ad (18 + 3 * k9)), .int (nI 64)], aI G (ad (16 + 3 * k9)) 64 (nF (orT k9)), oX (ad 5) 7 [.ref (ad 14), .ref (ad 15), .int (nI (lenC (splitP st k9) k9 0)), .int (nI at_)], oX (ad 14) 10 [.ref u_2.1, .int (nI u_2.2.2.1), .int (bI false)], aJ G u_2.1 u_2.2.1 u_2.2.2.2] _ := hP
  have hD : va_D A [oC h ad sn hsh, oX (ad 1) 1 [.ref (ad 11), .int (nI L), .int stp, .int why], aI G (ad 11) 64 st, oX (ad 3) 5 [.ref (ad 12)], aI G (ad 12) 8 u_1, aI G (ad 7) 64 (splitP st k9), aR G (ad 2) 3 (orF ad), oX (ad (15 + k9)) 2 [.ref (ad (16 + 3 * k9)), .ref (ad (17 + 3 * k9)), .ref (ad (18 + 3 * k9)), .int (nI 64)], aI G (ad (16 + 3 * k9)) 64 (nF (orT k9)), oX (ad 5) 7 [.ref (ad 14), .ref (ad 15), .int (nI (lenC (splitP st k9) k9 0)), .int (nI at_)], oX (ad 14) 10 [.ref u_2.1, .int (nI u_2.2.2.1), .int (bI false)], aJ G u_2.1 u_2.2.1 u_2.2.2.2] := hD
  refine W.eq (g2 := F0 m 34 ls [.ref (ad 5)]) rfl ?_
  have f_2 : (∀ i, i < lenC (splitP st k9) k9 0 → bI (rb u_2.2.2.2 u_2.2.2.1 i) = bitS (splitP st k9) k9 i 0) ∧ BW u_2.2.1 u_2.2.2.1 u_2.2.2.2 ∧ lenC (splitP st k9) k9 0 ≤ 1344 ∧ wn ≤ u_2.2.1 ∧ u_2.2.1 ≤ 44 := h_2
  have hcf := f_2
  refine va_getN (D := G.1) (ci := 7) (v := .int (nI (lenC (splitP st k9) k9 0))) (C := RX8) (T := TX8) (N := 4) hx hb hts in_X8 hown hK hP 9 rfl rfl 2 (by decide) (hE.nb q424 rfl) (fun _ h9 => h9) rfl dX1_lengthWith_34 ?_
  rw [hQQ]
  exact rt_i hx hb hr hlk  ((((u_2.1, u_2.2.1, u_2.2.2.1, u_2.2.2.2), u_1))) dX1_lengthWith_37 hP hD hS (by first | exact Nat.le_of_ble_eq_true rfl | (simp only [rm_X1_lengthWith, rm_X6_split, rm_X8_write]; omega) | omega) (by first | exact Nat.le_of_ble_eq_true rfl | (simp only [rm_X1_lengthWith, rm_X6_split, rm_X8_write]; omega) | omega) ⟨(by rfl), by exact hcf⟩
def rm_X1_runsTold : Room := ({ frames := 4, cells := 0, slots := 0, locals := 110 } : Room)
set_option maxHeartbeats 400000 in
set_option maxRecDepth 100000 in
theorem t_X1_runsTold (l : Launch) (G : GG) (b0 sz : Nat) (h : Nat) (ad : Nat → Nat) (sn : Value) (hsh : Int64) (L : Nat) (stp why : Int32) (st : Nat → Int32) (li : Nat → Int32) (pa : Nat → Int32) (hL1 : 1 ≤ L) (hL : L ≤ 3) : CT l yX1_runsTold cX1_runsTold 4 (some FieldType.int) (rm_X1_runsTold) G b0 [.ref h] [oC h ad sn hsh, oX (ad 1) 1 [.ref (ad 11), .int (nI L), .int stp, .int why], aI G (ad 11) 64 st, oX (ad 3) 5 [.ref (ad 12)], aI G (ad 12) 8 li, aI G (ad 6) 64 pa, aR G (ad 2) 3 (orF ad), oX (ad (15 + L)) 2 [.ref (ad (16 + 3 * L)), .ref (ad (17 + 3 * L)), .ref (ad (18 + 3 * L)), .int (nI 64)], aI G (ad (16 + 3 * L)) 64 (nF (orT L))] sz (Ri G (fun (r_ : Int32) (u : Nat → Int32) => r_ = nI (rnN (splitP st L) L 0)) (fun (u : Nat → Int32) => [oC h ad sn hsh, oX (ad 1) 1 [.ref (ad 11), .int (nI L), .int stp, .int why], aI G (ad 11) 64 st, oX (ad 3) 5 [.ref (ad 12)], aI G (ad 12) 8 u, aI G (ad 6) 64 (splitP st L), aR G (ad 2) 3 (orF ad), oX (ad (15 + L)) 2 [.ref (ad (16 + 3 * L)), .ref (ad (17 + 3 * L)), .ref (ad (18 + 3 * L)), .int (nI 64)], aI G (ad (16 + 3 * L)) 64 (nF (orT L))])) := by
  refine CT.go (by decide) (Nat.le_of_ble_eq_true rfl) (fun p e s m below meth c A ls AR QQ hx hb hr hlk hml hown hnm hts hE hA hAb hsz hP hD hS hl hQQ => ?_)
  have hK := hE.1
  have hown : s.vm.findClass RX1 = some m.cls := hown
  have hl : lv_has ls 4 [(0, .ref h)] := hl
  clear hsz
  refine lv_aload_n hx hb dX1_runsTold_0 rfl (lv_at hl 0 rfl) ?_
  refine fin_r (ws' := (fun (u_1 : Nat → Int32) => [oC h ad sn hsh, oX (ad 1) 1 [.ref (ad 11), .int (nI L), .int stp, .int why], aI G (ad 11) 64 st, oX (ad 3) 5 [.ref (ad 12)], aI G (ad 12) 8 u_1, aI G (ad 6) 64 (splitP st L), aR G (ad 2) 3 (orF ad), oX (ad (15 + L)) 2 [.ref (ad (16 + 3 * L)), .ref (ad (17 + 3 * L)), .ref (ad (18 + 3 * L)), .int (nI 64)], aI G (ad (16 + 3 * L)) 64 (nF (orT L))])) hA hS hP hD [0, 1, 2, 3, 4, 5] rfl [(true, 0), (true, 1), (true, 2), (true, 3), (true, 4), (true, 5), (false, 6), (false, 7), (false, 8)] (fun _ => rfl) (by decide) (run_V (As := []) (rest := []) (n9 := 0) hx hb hml hown hts hE hAb hl.1 hS hP hD [0, 1, 2, 3, 4, 5] rfl (by decide) (t_X1_parted l G b0 _ h ad sn hsh L stp why st li pa (by omega) (by omega)) (lw_V q1063 q1065 qs19 q106 q1066) 0 rfl rfl ⟨rfl, by decide, by decide, by decide +kernel⟩ ⟨Nat.le_of_ble_eq_true rfl, Nat.le_of_ble_eq_true rfl⟩ ⟨by first | exact Nat.le_of_ble_eq_true rfl | (simp only [rm_X1_runsTold, rm_X1_parted]; omega), by first | exact Nat.le_of_ble_eq_true rfl | (simp only [rm_X1_runsTold, rm_X1_parted]; omega)⟩ dX1_runsTold_1 (Nat.le_of_ble_eq_true rfl) rfl rfl) (fun u_1 H locs h_1 hP hD hS => ?_)
  have hP : va_P G.1 vwCl [oC h ad sn hsh, oX (ad 1) 1 [.ref (ad 11), .int (nI L), .int stp, .int why], aI G (ad 11) 64 st, oX (ad 3) 5 [.ref (ad 12)], aI G (ad 12) 8 u_1, aI G (ad 6) 64 (splitP st L), aR G (ad 2) 3 (orF ad), oX (ad (15 + L)) 2 [.ref (ad (16 + 3 * L)), .ref (ad (17 + 3 * L)), .ref (ad (18 + 3 * L)), .int (nI 64)], aI G (ad (16 + 3 * L)) 64 (nF (orT L))] _ := hP
  have hD : va_D A [oC h ad sn hsh, oX (ad 1) 1 [.ref (ad 11), .int (nI L), .int stp, .int why], aI G (ad 11) 64 st, oX (ad 3) 5 [.ref (ad 12)], aI G (ad 12) 8 u_1, aI G (ad 6) 64 (splitP st L), aR G (ad 2) 3 (orF ad), oX (ad (15 + L)) 2 [.ref (ad (16 + 3 * L)), .ref (ad (17 + 3 * L)), .ref (ad (18 + 3 * L)), .int (nI 64)], aI G (ad (16 + 3 * L)) 64 (nF (orT L))] := hD
  refine W.eq (g2 := F0 m 4 ls [.ref (ad 6)]) rfl ?_
  refine lv_pop hx hb dX1_runsTold_4 rfl ?_
  refine lv_iconst (v := nI 0) hx hb dX1_runsTold_5 (by decide) ?_
  refine lv_istore_n (lv' := [(1, .int (nI 0)), (0, .ref h)]) hx hb dX1_runsTold_6 rfl hl (by decide) rfl (fun ls hl => ?_)
  refine lv_iconst (v := nI 0) hx hb dX1_runsTold_7 (by decide) ?_
  refine lv_istore_n (lv' := [(2, .int (nI 0)), (1, .int (nI 0)), (0, .ref h)]) hx hb dX1_runsTold_8 rfl hl (by decide) rfl (fun ls hl => ?_)
  have lp_9 : ∀ (n_9 : Nat) (p_ q_ : Nat), (p_ ≤ 64) → (q_ + rnN (splitP st L) L p_ = rnN (splitP st L) L 0) → (64 - p_) < n_9 → ∀ (H : Heap) (locs : List Loc) (ls : Array Slot), va_P G.1 vwCl [oC h ad sn hsh, oX (ad 1) 1 [.ref (ad 11), .int (nI L), .int stp, .int why], aI G (ad 11) 64 st, oX (ad 3) 5 [.ref (ad 12)], aI G (ad 12) 8 u_1, aI G (ad 6) 64 (splitP st L), aR G (ad 2) 3 (orF ad), oX (ad (15 + L)) 2 [.ref (ad (16 + 3 * L)), .ref (ad (17 + 3 * L)), .ref (ad (18 + 3 * L)), .int (nI 64)], aI G (ad (16 + 3 * L)) 64 (nF (orT L))] H → va_D A [oC h ad sn hsh, oX (ad 1) 1 [.ref (ad 11), .int (nI L), .int stp, .int why], aI G (ad 11) 64 st, oX (ad 3) 5 [.ref (ad 12)], aI G (ad 12) 8 u_1, aI G (ad 6) 64 (splitP st L), aR G (ad 2) 3 (orF ad), oX (ad (15 + L)) 2 [.ref (ad (16 + 3 * L)), .ref (ad (17 + 3 * L)), .ref (ad (18 + 3 * L)), .int (nI 64)], aI G (ad (16 + 3 * L)) 64 (nF (orT L))] → va_S A s.heap H locs → lv_has ls 4 [(0, .ref h), (1, .int (nI q_)), (2, .int (nI p_))] → W p l e (rm_X1_runsTold) s m AR below meth c H locs 0 0 QQ (F0 m 9 ls []) := by
    intro n_9
    induction n_9 with
    | zero => intro p_ q_ hp hq hn_; exact absurd hn_ (Nat.not_lt_zero _)
    | succ n_9 ih_9 =>
      intro p_ q_ hp hq hn_9 H locs ls hP hD hS hl
      refine lv_iload_n hx hb dX1_runsTold_9 rfl (lv_at hl 2 rfl) ?_
      refine lv_bipush (v := nI 64) hx hb dX1_runsTold_10 (by decide) ?_
      refine N_icmp_ge (tgt := 51) hx hb dX1_runsTold_12 (by decide) (by omega) (by omega) (fun c_12 => ?_) (fun c_12 => ?_)
      · skip
        refine lv_iload_n hx hb dX1_runsTold_51 rfl (lv_at hl 1 rfl) ?_
        rw [hQQ]
        exact rt_i hx hb hr hlk  u_1 dX1_runsTold_52 hP hD hS (by first | exact Nat.le_of_ble_eq_true rfl | (simp only [rm_X1_runsTold, rm_X1_parted]; omega) | omega) (by first | exact Nat.le_of_ble_eq_true rfl | (simp only [rm_X1_runsTold, rm_X1_parted]; omega) | omega) (by rw [← hq, rnN_ge (by omega), Nat.add_zero])
      · skip
        refine lv_aload_n hx hb dX1_runsTold_15 rfl (lv_at hl 0 rfl) ?_
        refine va_get (D := G.1) (ci := 0) (v := .ref (ad 6)) (C := RX1) (T := TX1) (N := 12) hx hb hts in_X1 hown hK hP 0 rfl rfl 5 (by decide) (hts _ q499) (fun _ h9 => h9) rfl dX1_runsTold_16 ?_
        refine lv_aload_n hx hb dX1_runsTold_19 rfl (lv_at hl 0 rfl) ?_
        refine fin_r (ws' := (fun (_ : Unit) => [oC h ad sn hsh, oX (ad 1) 1 [.ref (ad 11), .int (nI L), .int stp, .int why], aI G (ad 11) 64 st, oX (ad 3) 5 [.ref (ad 12)], aI G (ad 12) 8 u_1, aI G (ad 6) 64 (splitP st L), aR G (ad 2) 3 (orF ad), oX (ad (15 + L)) 2 [.ref (ad (16 + 3 * L)), .ref (ad (17 + 3 * L)), .ref (ad (18 + 3 * L)), .int (nI 64)], aI G (ad (16 + 3 * L)) 64 (nF (orT L))])) hA hS hP hD [0, 1, 6] rfl [(true, 0), (true, 1), (false, 2), (false, 3), (false, 4), (false, 5), (true, 2), (false, 7), (false, 8)] (fun _ => rfl) (by decide) (run_V (As := []) (rest := [.ref (ad 6)]) (n9 := 0) hx hb hml hown hts hE hAb hl.1 hS hP hD [0, 1, 6] rfl (by decide) (t_X1_order l G b0 _ h ad sn hsh L stp why (by omega) (by omega)) (lw_V q1083 q1085 qs22 q106 q1086) 0 rfl rfl ⟨rfl, by decide, by decide, by decide +kernel⟩ ⟨Nat.le_of_ble_eq_true rfl, Nat.le_of_ble_eq_true rfl⟩ ⟨by first | exact Nat.le_of_ble_eq_true rfl | (simp only [rm_X1_runsTold, rm_X1_order, rm_X1_parted]; omega), by first | exact Nat.le_of_ble_eq_true rfl | (simp only [rm_X1_runsTold, rm_X1_order, rm_X1_parted]; omega)⟩ dX1_runsTold_20 (Nat.le_of_ble_eq_true rfl) rfl rfl) (fun u_2 H locs h_2 hP hD hS => ?_)
        have hP : va_P G.1 vwCl [oC h ad sn hsh, oX (ad 1) 1 [.ref (ad 11), .int (nI L), .int stp, .int why], aI G (ad 11) 64 st, oX (ad 3) 5 [.ref (ad 12)], aI G (ad 12) 8 u_1, aI G (ad 6) 64 (splitP st L), aR G (ad 2) 3 (orF ad), oX (ad (15 + L)) 2 [.ref (ad (16 + 3 * L)), .ref (ad (17 + 3 * L)), .ref (ad (18 + 3 * L)), .int (nI 64)], aI G (ad (16 + 3 * L)) 64 (nF (orT L))] _ := hP
        have hD : va_D A [oC h ad sn hsh, oX (ad 1) 1 [.ref (ad 11), .int (nI L), .int stp, .int why], aI G (ad 11) 64 st, oX (ad 3) 5 [.ref (ad 12)], aI G (ad 12) 8 u_1, aI G (ad 6) 64 (splitP st L), aR G (ad 2) 3 (orF ad), oX (ad (15 + L)) 2 [.ref (ad (16 + 3 * L)), .ref (ad (17 + 3 * L)), .ref (ad (18 + 3 * L)), .int (nI 64)], aI G (ad (16 + 3 * L)) 64 (nF (orT L))] := hD
        refine W.eq (g2 := F0 m 23 ls [.ref (ad (15 + L)), .ref (ad 6)]) rfl ?_
        refine lv_iload_n hx hb dX1_runsTold_23 rfl (lv_at hl 2 rfl) ?_
        refine fin_i (ws' := (fun (_ : Unit) => [oC h ad sn hsh, oX (ad 1) 1 [.ref (ad 11), .int (nI L), .int stp, .int why], aI G (ad 11) 64 st, oX (ad 3) 5 [.ref (ad 12)], aI G (ad 12) 8 u_1, aI G (ad 6) 64 (splitP st L), aR G (ad 2) 3 (orF ad), oX (ad (15 + L)) 2 [.ref (ad (16 + 3 * L)), .ref (ad (17 + 3 * L)), .ref (ad (18 + 3 * L)), .int (nI 64)], aI G (ad (16 + 3 * L)) 64 (nF (orT L))])) hA hS hP hD [7, 8, 5] rfl [(false, 0), (false, 1), (false, 2), (false, 3), (false, 4), (true, 2), (false, 6), (true, 0), (true, 1)] (fun _ => rfl) (by decide) (run_S (As := [.ref (ad 6), .ref (ad (15 + L)), .int (nI p_)]) (rest := []) (n9 := 3) hx hb hml hown hts hE hAb hl.1 hS hP hD [7, 8, 5] rfl (by decide) (t_X8_runFrom l G b0 _ (ad (15 + L)) (ad (16 + 3 * L)) (ad (17 + 3 * L)) (ad (18 + 3 * L)) 64 (ad 6) L (splitP st L) p_ (by omega) (by omega) (by omega)) (lw_S q1180 q1096 q120 q1097) ⟨by decide, by decide, by decide +kernel⟩ ⟨Nat.le_of_ble_eq_true rfl, Nat.le_of_ble_eq_true rfl⟩ ⟨by first | exact Nat.le_of_ble_eq_true rfl | (simp only [rm_X1_runsTold, rm_X8_runFrom, rm_X1_parted, rm_X1_order]; omega), by first | exact Nat.le_of_ble_eq_true rfl | (simp only [rm_X1_runsTold, rm_X8_runFrom, rm_X1_parted, rm_X1_order]; omega)⟩ dX1_runsTold_24 (Nat.le_of_ble_eq_true rfl) rfl rfl) (fun r_3 u_3 H locs h_3 hP hD hS => ?_)
        have hP : va_P G.1 vwCl [oC h ad sn hsh, oX (ad 1) 1 [.ref (ad 11), .int (nI L), .int stp, .int why], aI G (ad 11) 64 st, oX (ad 3) 5 [.ref (ad 12)], aI G (ad 12) 8 u_1, aI G (ad 6) 64 (splitP st L), aR G (ad 2) 3 (orF ad), oX (ad (15 + L)) 2 [.ref (ad (16 + 3 * L)), .ref (ad (17 + 3 * L)), .ref (ad (18 + 3 * L)), .int (nI 64)], aI G (ad (16 + 3 * L)) 64 (nF (orT L))] _ := hP
        have hD : va_D A [oC h ad sn hsh, oX (ad 1) 1 [.ref (ad 11), .int (nI L), .int stp, .int why], aI G (ad 11) 64 st, oX (ad 3) 5 [.ref (ad 12)], aI G (ad 12) 8 u_1, aI G (ad 6) 64 (splitP st L), aR G (ad 2) 3 (orF ad), oX (ad (15 + L)) 2 [.ref (ad (16 + 3 * L)), .ref (ad (17 + 3 * L)), .ref (ad (18 + 3 * L)), .int (nI 64)], aI G (ad (16 + 3 * L)) 64 (nF (orT L))] := hD
        have h_3 : r_3 = (nI (zrN (splitP st L) L p_)) := h_3
        rw [h_3]
        refine lv_istore_n (lv' := [(3, .int (nI (zrN (splitP st L) L p_))), (0, .ref h), (1, .int (nI q_)), (2, .int (nI p_))]) hx hb dX1_runsTold_27 rfl hl (by decide) rfl (fun ls hl => ?_)
        have hzr := zrN_le (splitP st L) L p_ hp
        refine lv_iload_n hx hb dX1_runsTold_28 rfl (lv_at hl 2 rfl) ?_
        refine lv_iload_n hx hb dX1_runsTold_29 rfl (lv_at hl 0 rfl) ?_
        have K_30 : ∀ (v_4 : Nat) (_ : v_4 = if 0 < (zrN (splitP st L) L p_) then 1 else 0) (H : Heap) (locs : List Loc) (ls : Array Slot), va_P G.1 vwCl [oC h ad sn hsh, oX (ad 1) 1 [.ref (ad 11), .int (nI L), .int stp, .int why], aI G (ad 11) 64 st, oX (ad 3) 5 [.ref (ad 12)], aI G (ad 12) 8 u_1, aI G (ad 6) 64 (splitP st L), aR G (ad 2) 3 (orF ad), oX (ad (15 + L)) 2 [.ref (ad (16 + 3 * L)), .ref (ad (17 + 3 * L)), .ref (ad (18 + 3 * L)), .int (nI 64)], aI G (ad (16 + 3 * L)) 64 (nF (orT L))] H → va_D A [oC h ad sn hsh, oX (ad 1) 1 [.ref (ad 11), .int (nI L), .int stp, .int why], aI G (ad 11) 64 st, oX (ad 3) 5 [.ref (ad 12)], aI G (ad 12) 8 u_1, aI G (ad 6) 64 (splitP st L), aR G (ad 2) 3 (orF ad), oX (ad (15 + L)) 2 [.ref (ad (16 + 3 * L)), .ref (ad (17 + 3 * L)), .ref (ad (18 + 3 * L)), .int (nI 64)], aI G (ad (16 + 3 * L)) 64 (nF (orT L))] → va_S A s.heap H locs → lv_has ls 4 [(3, .int (nI (zrN (splitP st L) L p_))), (0, .ref h), (1, .int (nI q_)), (2, .int (nI p_))] → W p l e (rm_X1_runsTold) s m AR below meth c H locs 0 0 QQ (F0 m 38 ls [.int (nI v_4), .int (nI q_)]) := by
          intro v_4 e_v_4 H locs ls hP hD hS hl
          subst e_v_4
          refine N_iadd hx hb dX1_runsTold_38 ?_
          refine lv_istore_n (lv' := [(1, .int (nI (q_ + (if 0 < (zrN (splitP st L) L p_) then 1 else 0)))), (3, .int (nI (zrN (splitP st L) L p_))), (0, .ref h), (2, .int (nI p_))]) hx hb dX1_runsTold_39 rfl hl (by decide) rfl (fun ls hl => ?_)
          refine lv_iload_n hx hb dX1_runsTold_40 rfl (lv_at hl 3 rfl) ?_
          refine lv_iconst (v := nI 1) hx hb dX1_runsTold_41 (by decide) ?_
          refine lv_iload_n hx hb dX1_runsTold_42 rfl (lv_at hl 1 rfl) ?_
          refine M_max hx hb (hml.trans hl.1.symm) hown hts q1181 q586 q137 q587 (Nat.le_of_ble_eq_true rfl) (Nat.le_of_ble_eq_true rfl) (by first | exact Nat.le_of_ble_eq_true rfl | omega | (simp only [rm_X1_runsTold, rm_X1_parted, rm_X1_order, rm_X8_runFrom]; omega)) (by first | exact Nat.le_of_ble_eq_true rfl | omega | (simp only [rm_X1_runsTold, rm_X1_parted, rm_X1_order, rm_X8_runFrom]; omega)) dX1_runsTold_43 ?_
          refine W.eq (g2 := F0 m 46 ls [.int (nI (tokS (splitP st L) L p_)), .int (nI p_)]) (by rw [max1_t (by omega)]) ?_
          refine N_iadd hx hb dX1_runsTold_46 ?_
          refine lv_istore_n (lv' := [(2, .int (nI (p_ + (tokS (splitP st L) L p_)))), (1, .int (nI (q_ + (if 0 < (zrN (splitP st L) L p_) then 1 else 0)))), (3, .int (nI (zrN (splitP st L) L p_))), (0, .ref h)]) hx hb dX1_runsTold_47 rfl hl (by decide) rfl (fun ls hl => ?_)
          refine lv_goto (tgt := 9) hx hb dX1_runsTold_48 (by decide) ?_
          have hl : lv_has ls 4 [(0, .ref h), (1, .int (nI (q_ + (if 0 < (zrN (splitP st L) L p_) then 1 else 0)))), (2, .int (nI (p_ + (tokS (splitP st L) L p_))))] := lv_sub hl [3, 1, 0] rfl
          exact ih_9 (p_ + (tokS (splitP st L) L p_)) (q_ + (if 0 < (zrN (splitP st L) L p_) then 1 else 0)) (by exact stp_le hp c_12) (by rw [← hq, rnN_lt c_12, Nat.add_assoc]) (by have := tokS_pos (splitP st L) L p_; omega) _ _ _ hP hD hS hl
        refine N_if_le (tgt := 37) hx hb dX1_runsTold_30 (by decide) (by omega) (fun c_30 => ?_) (fun c_30 => ?_)
        · skip
          refine lv_iconst (v := nI 0) hx hb dX1_runsTold_37 (by decide) ?_
          exact K_30 0 (by first | rfl | (try rw [if_neg (by omega)]) | simp_all) _ _ _ hP hD hS (lv_sub hl [0, 1, 2, 3] rfl)
        · skip
          refine lv_iconst (v := nI 1) hx hb dX1_runsTold_33 (by decide) ?_
          refine lv_goto (tgt := 38) hx hb dX1_runsTold_34 (by decide) ?_
          exact K_30 1 (by first | rfl | (try rw [if_pos c_30]) | simp_all) _ _ _ hP hD hS (lv_sub hl [0, 1, 2, 3] rfl)
  have hl : lv_has ls 4 [(0, .ref h), (1, .int (nI 0)), (2, .int (nI 0))] := lv_sub hl [2, 1, 0] rfl
  exact lp_9 _ 0 0 (by omega) (by exact Nat.zero_add _) (Nat.lt_succ_self _) _ _ _ hP hD hS hl
def rm_X1_shareTold : Room := ({ frames := 4, cells := 0, slots := 0, locals := 110 } : Room)
set_option maxHeartbeats 400000 in
set_option maxRecDepth 100000 in
theorem t_X1_shareTold (l : Launch) (G : GG) (b0 sz : Nat) (h : Nat) (ad : Nat → Nat) (sn : Value) (hsh : Int64) (L : Nat) (stp why : Int32) (st : Nat → Int32) (li : Nat → Int32) (pa : Nat → Int32) (hL1 : 1 ≤ L) (hL : L ≤ 3) : CT l yX1_shareTold cX1_shareTold 6 (some FieldType.double) (rm_X1_shareTold) G b0 [.ref h] [oC h ad sn hsh, oX (ad 1) 1 [.ref (ad 11), .int (nI L), .int stp, .int why], aI G (ad 11) 64 st, oX (ad 3) 5 [.ref (ad 12)], aI G (ad 12) 8 li, aI G (ad 6) 64 pa] sz (Rd G (fun (r_ : UInt64) (u : Nat → Int32) => r_ = shrD (zcN (splitP st L) 64)) (fun (u : Nat → Int32) => [oC h ad sn hsh, oX (ad 1) 1 [.ref (ad 11), .int (nI L), .int stp, .int why], aI G (ad 11) 64 st, oX (ad 3) 5 [.ref (ad 12)], aI G (ad 12) 8 u, aI G (ad 6) 64 (splitP st L)])) := by
  refine CT.go (by decide) (Nat.le_of_ble_eq_true rfl) (fun p e s m below meth c A ls AR QQ hx hb hr hlk hml hown hnm hts hE hA hAb hsz hP hD hS hl hQQ => ?_)
  have hK := hE.1
  have hown : s.vm.findClass RX1 = some m.cls := hown
  have hl : lv_has ls 6 [(0, .ref h)] := hl
  clear hsz
  refine lv_aload_n hx hb dX1_shareTold_0 rfl (lv_at hl 0 rfl) ?_
  refine fin_r (ws' := (fun (u_1 : Nat → Int32) => [oC h ad sn hsh, oX (ad 1) 1 [.ref (ad 11), .int (nI L), .int stp, .int why], aI G (ad 11) 64 st, oX (ad 3) 5 [.ref (ad 12)], aI G (ad 12) 8 u_1, aI G (ad 6) 64 (splitP st L)])) hA hS hP hD [0, 1, 2, 3, 4, 5] rfl [(true, 0), (true, 1), (true, 2), (true, 3), (true, 4), (true, 5)] (fun _ => rfl) (by decide) (run_V (As := []) (rest := []) (n9 := 0) hx hb hml hown hts hE hAb hl.1 hS hP hD [0, 1, 2, 3, 4, 5] rfl (by decide) (t_X1_parted l G b0 _ h ad sn hsh L stp why st li pa (by omega) (by omega)) (lw_V q1063 q1065 qs19 q106 q1066) 0 rfl rfl ⟨rfl, by decide, by decide, by decide +kernel⟩ ⟨Nat.le_of_ble_eq_true rfl, Nat.le_of_ble_eq_true rfl⟩ ⟨by first | exact Nat.le_of_ble_eq_true rfl | (simp only [rm_X1_shareTold, rm_X1_parted]; omega), by first | exact Nat.le_of_ble_eq_true rfl | (simp only [rm_X1_shareTold, rm_X1_parted]; omega)⟩ dX1_shareTold_1 (Nat.le_of_ble_eq_true rfl) rfl rfl) (fun u_1 H locs h_1 hP hD hS => ?_)
  have hP : va_P G.1 vwCl [oC h ad sn hsh, oX (ad 1) 1 [.ref (ad 11), .int (nI L), .int stp, .int why], aI G (ad 11) 64 st, oX (ad 3) 5 [.ref (ad 12)], aI G (ad 12) 8 u_1, aI G (ad 6) 64 (splitP st L)] _ := hP
  have hD : va_D A [oC h ad sn hsh, oX (ad 1) 1 [.ref (ad 11), .int (nI L), .int stp, .int why], aI G (ad 11) 64 st, oX (ad 3) 5 [.ref (ad 12)], aI G (ad 12) 8 u_1, aI G (ad 6) 64 (splitP st L)] := hD
  refine W.eq (g2 := F0 m 4 ls [.ref (ad 6)]) rfl ?_
  refine lv_pop hx hb dX1_shareTold_4 rfl ?_
  refine lv_iconst (v := nI 0) hx hb dX1_shareTold_5 (by decide) ?_
  refine lv_istore_n (lv' := [(1, .int (nI 0)), (0, .ref h)]) hx hb dX1_shareTold_6 rfl hl (by decide) rfl (fun ls hl => ?_)
  refine lv_aload_n hx hb dX1_shareTold_7 rfl (lv_at hl 1 rfl) ?_
  refine va_get (D := G.1) (ci := 0) (v := .ref (ad 6)) (C := RX1) (T := TX1) (N := 12) hx hb hts in_X1 hown hK hP 0 rfl rfl 5 (by decide) (hts _ q499) (fun _ h9 => h9) rfl dX1_shareTold_8 ?_
  refine lv_astore_n (lv' := [(2, .ref (ad 6)), (1, .int (nI 0)), (0, .ref h)]) hx hb dX1_shareTold_11 rfl hl (by decide) rfl (fun ls hl => ?_)
  refine lv_aload_n hx hb dX1_shareTold_12 rfl (lv_at hl 0 rfl) ?_
  refine va_alen (v := nI 64) hx hb hK hP 5 0 rfl rfl rfl dX1_shareTold_13 ?_
  refine lv_istore_n (lv' := [(3, .int (nI 64)), (2, .ref (ad 6)), (1, .int (nI 0)), (0, .ref h)]) hx hb dX1_shareTold_14 rfl hl (by decide) rfl (fun ls hl => ?_)
  refine lv_iconst (v := nI 0) hx hb dX1_shareTold_15 (by decide) ?_
  refine lv_istore (lv' := [(4, .int (nI 0)), (3, .int (nI 64)), (2, .ref (ad 6)), (1, .int (nI 0)), (0, .ref h)]) hx hb dX1_shareTold_16 hl (by decide) rfl (fun ls hl => ?_)
  have lp_18 : ∀ (n_18 : Nat) (k : Nat), (k ≤ 64) → (64 - k) < n_18 → ∀ (H : Heap) (locs : List Loc) (ls : Array Slot), va_P G.1 vwCl [oC h ad sn hsh, oX (ad 1) 1 [.ref (ad 11), .int (nI L), .int stp, .int why], aI G (ad 11) 64 st, oX (ad 3) 5 [.ref (ad 12)], aI G (ad 12) 8 u_1, aI G (ad 6) 64 (splitP st L)] H → va_D A [oC h ad sn hsh, oX (ad 1) 1 [.ref (ad 11), .int (nI L), .int stp, .int why], aI G (ad 11) 64 st, oX (ad 3) 5 [.ref (ad 12)], aI G (ad 12) 8 u_1, aI G (ad 6) 64 (splitP st L)] → va_S A s.heap H locs → lv_has ls 6 [(0, .ref h), (1, .int (nI (zcN (splitP st L) k))), (2, .ref (ad 6)), (3, .int (nI 64)), (4, .int (nI k))] → W p l e (rm_X1_shareTold) s m AR below meth c H locs 0 0 QQ (F0 m 18 ls []) := by
    intro n_18
    induction n_18 with
    | zero => intro k hk hn_; exact absurd hn_ (Nat.not_lt_zero _)
    | succ n_18 ih_18 =>
      intro k hk hn_18 H locs ls hP hD hS hl
      refine lv_iload hx hb dX1_shareTold_18 (lv_at hl 4 rfl) ?_
      refine lv_iload_n hx hb dX1_shareTold_20 rfl (lv_at hl 3 rfl) ?_
      refine N_icmp_ge (tgt := 49) hx hb dX1_shareTold_21 (by decide) (by omega) (by omega) (fun c_21 => ?_) (fun c_21 => ?_)
      · skip
        obtain rfl : k = 64 := by omega
        refine lv_iload_n hx hb dX1_shareTold_49 rfl (lv_at hl 1 rfl) ?_
        refine lv_i2d hx hb dX1_shareTold_50 ?_
        refine lv_ldc2d (v := 4634204016564240384) hx hb hown (hts _ q1190) dX1_shareTold_51 ?_
        refine lv_ddiv hx hb dX1_shareTold_54 (by exact shr_nn _ (cntN_le _ _)) ?_
        rw [hQQ]
        exact rt_d hx hb hr hlk  u_1 dX1_shareTold_55 hP hD hS (by first | exact Nat.le_of_ble_eq_true rfl | (simp only [rm_X1_shareTold, rm_X1_parted]; omega) | omega) (by first | exact Nat.le_of_ble_eq_true rfl | (simp only [rm_X1_shareTold, rm_X1_parted]; omega) | omega) (by rfl)
      · skip
        refine lv_aload_n hx hb dX1_shareTold_24 rfl (lv_at hl 2 rfl) ?_
        refine lv_iload hx hb dX1_shareTold_25 (lv_at hl 4 rfl) ?_
        refine N_iald hx hb dX1_shareTold_27 hK hP 5 0 rfl rfl (by omega) (by omega) ?_
        refine lv_istore (lv' := [(5, .int ((splitP st L) k)), (0, .ref h), (1, .int (nI (zcN (splitP st L) k))), (2, .ref (ad 6)), (3, .int (nI 64)), (4, .int (nI k))]) hx hb dX1_shareTold_28 hl (by decide) rfl (fun ls hl => ?_)
        refine lv_iload_n hx hb dX1_shareTold_30 rfl (lv_at hl 2 rfl) ?_
        refine lv_iload hx hb dX1_shareTold_31 (lv_at hl 0 rfl) ?_
        have K_33 : ∀ (v_2 : Nat) (_ : v_2 = if ((splitP st L) k) = 0 then 1 else 0) (H : Heap) (locs : List Loc) (ls : Array Slot), va_P G.1 vwCl [oC h ad sn hsh, oX (ad 1) 1 [.ref (ad 11), .int (nI L), .int stp, .int why], aI G (ad 11) 64 st, oX (ad 3) 5 [.ref (ad 12)], aI G (ad 12) 8 u_1, aI G (ad 6) 64 (splitP st L)] H → va_D A [oC h ad sn hsh, oX (ad 1) 1 [.ref (ad 11), .int (nI L), .int stp, .int why], aI G (ad 11) 64 st, oX (ad 3) 5 [.ref (ad 12)], aI G (ad 12) 8 u_1, aI G (ad 6) 64 (splitP st L)] → va_S A s.heap H locs → lv_has ls 6 [(5, .int ((splitP st L) k)), (0, .ref h), (1, .int (nI (zcN (splitP st L) k))), (2, .ref (ad 6)), (3, .int (nI 64)), (4, .int (nI k))] → W p l e (rm_X1_shareTold) s m AR below meth c H locs 0 0 QQ (F0 m 41 ls [.int (nI v_2), .int (nI (zcN (splitP st L) k))]) := by
          intro v_2 e_v_2 H locs ls hP hD hS hl
          subst e_v_2
          refine N_iadd hx hb dX1_shareTold_41 ?_
          refine lv_istore_n (lv' := [(1, .int (nI ((zcN (splitP st L) k) + (if ((splitP st L) k) = 0 then 1 else 0)))), (5, .int ((splitP st L) k)), (0, .ref h), (2, .ref (ad 6)), (3, .int (nI 64)), (4, .int (nI k))]) hx hb dX1_shareTold_42 rfl hl (by decide) rfl (fun ls hl => ?_)
          refine N_iinc (a := k) (b := 1) (k9 := 5) (lv' := [(4, .int (nI (k + 1))), (1, .int (nI ((zcN (splitP st L) k) + (if ((splitP st L) k) = 0 then 1 else 0)))), (5, .int ((splitP st L) k)), (0, .ref h), (2, .ref (ad 6)), (3, .int (nI 64))]) hx hb dX1_shareTold_43 hl rfl rfl (by decide) rfl (fun ls hl => ?_)
          refine lv_goto (tgt := 18) hx hb dX1_shareTold_46 (by decide) ?_
          have hl : lv_has ls 6 [(0, .ref h), (1, .int (nI ((zcN (splitP st L) k) + (if ((splitP st L) k) = 0 then 1 else 0)))), (2, .ref (ad 6)), (3, .int (nI 64)), (4, .int (nI (k + 1)))] := lv_sub hl [3, 1, 4, 5, 0] rfl
          have e_3 : (nI ((zcN (splitP st L) k) + (if ((splitP st L) k) = 0 then 1 else 0))) = (nI (zcN (splitP st L) (k + 1))) := by rw [zcN_1]
          rw [e_3] at hl
          have hl : lv_has ls 6 [(0, .ref h), (1, .int (nI (zcN (splitP st L) (k + 1)))), (2, .ref (ad 6)), (3, .int (nI 64)), (4, .int (nI (k + 1)))] := hl
          exact ih_18 (k + 1) (by omega) (by omega) _ _ _ hP hD hS hl
        refine lv_if_ne (tgt := 40) hx hb dX1_shareTold_33 (by decide) (fun c_33 => ?_) (fun c_33 => ?_)
        · skip
          refine lv_iconst (v := nI 0) hx hb dX1_shareTold_40 (by decide) ?_
          exact K_33 0 (by first | rfl | (try rw [if_neg c_33]) | simp_all) _ _ _ hP hD hS (lv_sub hl [0, 1, 2, 3, 4, 5] rfl)
        · skip
          refine lv_iconst (v := nI 1) hx hb dX1_shareTold_36 (by decide) ?_
          refine lv_goto (tgt := 41) hx hb dX1_shareTold_37 (by decide) ?_
          exact K_33 1 (by first | rfl | (try rw [if_pos c_33]) | simp_all) _ _ _ hP hD hS (lv_sub hl [0, 1, 2, 3, 4, 5] rfl)
  have hl : lv_has ls 6 [(0, .ref h), (1, .int (nI 0)), (2, .ref (ad 6)), (3, .int (nI 64)), (4, .int (nI 0))] := lv_sub hl [4, 3, 2, 1, 0] rfl
  have e_4 : (nI 0) = (nI (zcN (splitP st L) 0)) := by rfl
  rw [e_4] at hl
  have hl : lv_has ls 6 [(0, .ref h), (1, .int (nI (zcN (splitP st L) 0))), (2, .ref (ad 6)), (3, .int (nI 64)), (4, .int (nI 0))] := hl
  exact lp_18 _ 0 (by omega) (Nat.lt_succ_self _) _ _ _ hP hD hS hl
def rm_X1_numberAt_0 : Room := ({ frames := 1, cells := 0, slots := 0, locals := 30 } : Room)
set_option maxHeartbeats 400000 in
set_option maxRecDepth 100000 in
theorem t_X1_numberAt_0 (l : Launch) (G : GG) (b0 sz : Nat) (h : Nat) (ad : Nat → Nat) (sn : Value) (hsh : Int64) (L : Nat) (stp why : Int32) (pa : Nat → Int32) (i r c_ : Nat) (hid : i = L) (hL : L ≤ 3) (hr8 : r < 8 / 2 ^ i) (hc8 : c_ < 8 / 2 ^ i) : CT l yX1_numberAt cX1_numberAt 9 (some FieldType.int) (rm_X1_numberAt_0) G b0 [.ref h, .int (nI i), .int (nI r), .int (nI c_)] [oC h ad sn hsh, oX (ad 1) 1 [.ref (ad 11), .int (nI L), .int stp, .int why], aI G (ad 6) 64 pa] sz (Ri G (fun (r_ : Int32) (_ : Unit) => r_ = nmA pa 0 i r c_) (fun (_ : Unit) => [oC h ad sn hsh, oX (ad 1) 1 [.ref (ad 11), .int (nI L), .int stp, .int why], aI G (ad 6) 64 pa])) := by
  refine CT.go (by decide) (Nat.le_of_ble_eq_true rfl) (fun p e s m below meth c A ls AR QQ hx hb hr hlk hml hown hnm hts hE hA hAb hsz hP hD hS hl hQQ => ?_)
  have hK := hE.1
  have hown : s.vm.findClass RX1 = some m.cls := hown
  have hl : lv_has ls 9 [(0, .ref h), (1, .int (nI i)), (2, .int (nI r)), (3, .int (nI c_))] := hl
  clear hsz
  have hsz : 8 / 2 ^ i ≤ 8 := Nat.div_le_self _ _
  refine lv_iload_n hx hb dX1_numberAt_0 rfl (lv_at hl 1 rfl) ?_
  refine lv_aload_n hx hb dX1_numberAt_1 rfl (lv_at hl 0 rfl) ?_
  refine va_get (D := G.1) (ci := 0) (v := .ref (ad 1)) (C := RX1) (T := TX1) (N := 12) hx hb hts in_X1 hown hK hP 0 rfl rfl 0 (by decide) (hts _ q494) (fun _ h9 => h9) rfl dX1_numberAt_2 ?_
  refine va_getN (D := G.1) (ci := 1) (v := .int (nI L)) (C := RX2) (T := TX2) (N := 4) hx hb hts in_X2 hown hK hP 1 rfl rfl 1 (by decide) (hE.nb q161 rfl) (fun _ h9 => h9) rfl dX1_numberAt_5 ?_
  refine N_icmp_ne (tgt := 23) hx hb dX1_numberAt_8 (by decide) (by omega) (by omega) (fun c_8 => ?_) (fun c_8 => ?_)
  · skip
    exfalso; omega
  · skip
    refine lv_aload_n hx hb dX1_numberAt_11 rfl (lv_at hl 0 rfl) ?_
    refine va_get (D := G.1) (ci := 0) (v := .ref (ad 6)) (C := RX1) (T := TX1) (N := 12) hx hb hts in_X1 hown hK hP 0 rfl rfl 5 (by decide) (hts _ q499) (fun _ h9 => h9) rfl dX1_numberAt_12 ?_
    refine lv_bipush (v := nI 8) hx hb dX1_numberAt_15 (by decide) ?_
    refine lv_iload_n hx hb dX1_numberAt_17 rfl (lv_at hl 2 rfl) ?_
    refine N_imul hx hb dX1_numberAt_18 ?_
    refine lv_iload_n hx hb dX1_numberAt_19 rfl (lv_at hl 3 rfl) ?_
    refine N_iadd hx hb dX1_numberAt_20 ?_
    refine N_iald hx hb dX1_numberAt_21 hK hP 2 0 rfl rfl (by omega) (by omega) ?_
    rw [hQQ]
    exact rt_i hx hb hr hlk  ((())) dX1_numberAt_22 hP hD hS (by first | exact Nat.le_of_ble_eq_true rfl | (simp only [rm_X1_numberAt_0]; omega) | omega) (by first | exact Nat.le_of_ble_eq_true rfl | (simp only [rm_X1_numberAt_0]; omega) | omega) (by rfl)
def rm_X1_numberAt_1 : Room := ({ frames := 2, cells := 0, slots := 0, locals := 70 } : Room)
set_option maxHeartbeats 400000 in
set_option maxRecDepth 100000 in
theorem t_X1_numberAt_1 (l : Launch) (G : GG) (b0 sz : Nat) (h : Nat) (ad : Nat → Nat) (sn : Value) (hsh : Int64) (L : Nat) (stp why : Int32) (pa : Nat → Int32) (i r c_ : Nat) (hid : i + 1 = L) (hL : L ≤ 3) (hr8 : r < 8 / 2 ^ i) (hc8 : c_ < 8 / 2 ^ i) : CT l yX1_numberAt cX1_numberAt 9 (some FieldType.int) (rm_X1_numberAt_1) G b0 [.ref h, .int (nI i), .int (nI r), .int (nI c_)] [oC h ad sn hsh, oX (ad 1) 1 [.ref (ad 11), .int (nI L), .int stp, .int why], aI G (ad 6) 64 pa] sz (Ri G (fun (r_ : Int32) (_ : Unit) => r_ = nmA pa 1 i r c_) (fun (_ : Unit) => [oC h ad sn hsh, oX (ad 1) 1 [.ref (ad 11), .int (nI L), .int stp, .int why], aI G (ad 6) 64 pa])) := by
  refine CT.go (by decide) (Nat.le_of_ble_eq_true rfl) (fun p e s m below meth c A ls AR QQ hx hb hr hlk hml hown hnm hts hE hA hAb hsz hP hD hS hl hQQ => ?_)
  have hK := hE.1
  have hown : s.vm.findClass RX1 = some m.cls := hown
  have hl : lv_has ls 9 [(0, .ref h), (1, .int (nI i)), (2, .int (nI r)), (3, .int (nI c_))] := hl
  clear hsz
  have hsz : 8 / 2 ^ i = 2 * (8 / 2 ^ (i + 1)) ∧ 8 / 2 ^ (i + 1) ≤ 4 := by have h9 : i = 0 ∨ i = 1 ∨ i = 2 := (by omega); rcases h9 with h9 | h9 | h9 <;> rw [h9] <;> decide
  refine lv_iload_n hx hb dX1_numberAt_0 rfl (lv_at hl 1 rfl) ?_
  refine lv_aload_n hx hb dX1_numberAt_1 rfl (lv_at hl 0 rfl) ?_
  refine va_get (D := G.1) (ci := 0) (v := .ref (ad 1)) (C := RX1) (T := TX1) (N := 12) hx hb hts in_X1 hown hK hP 0 rfl rfl 0 (by decide) (hts _ q494) (fun _ h9 => h9) rfl dX1_numberAt_2 ?_
  refine va_getN (D := G.1) (ci := 1) (v := .int (nI L)) (C := RX2) (T := TX2) (N := 4) hx hb hts in_X2 hown hK hP 1 rfl rfl 1 (by decide) (hE.nb q161 rfl) (fun _ h9 => h9) rfl dX1_numberAt_5 ?_
  refine N_icmp_ne (tgt := 23) hx hb dX1_numberAt_8 (by decide) (by omega) (by omega) (fun c_8 => ?_) (fun c_8 => ?_)
  · skip
    refine lv_bipush (v := nI 8) hx hb dX1_numberAt_23 (by decide) ?_
    refine lv_iload_n hx hb dX1_numberAt_25 rfl (lv_at hl 1 rfl) ?_
    refine lv_iconst (v := nI 1) hx hb dX1_numberAt_26 (by decide) ?_
    refine N_iadd hx hb dX1_numberAt_27 ?_
    refine N_ishr hx hb dX1_numberAt_28 (by omega) (by omega) ?_
    refine lv_istore (lv' := [(4, .int (nI (8 / 2 ^ (i + 1)))), (0, .ref h), (1, .int (nI i)), (2, .int (nI r)), (3, .int (nI c_))]) hx hb dX1_numberAt_29 hl (by decide) rfl (fun ls hl => ?_)
    refine lv_iload_n hx hb dX1_numberAt_31 rfl (lv_at hl 3 rfl) ?_
    refine lv_iconst (v := nI 2) hx hb dX1_numberAt_32 (by decide) ?_
    refine N_idiv hx hb dX1_numberAt_33 (by omega) (by omega) (by omega) ?_
    refine lv_istore (lv' := [(5, .int (nI (r / 2))), (4, .int (nI (8 / 2 ^ (i + 1)))), (0, .ref h), (1, .int (nI i)), (2, .int (nI r)), (3, .int (nI c_))]) hx hb dX1_numberAt_34 hl (by decide) rfl (fun ls hl => ?_)
    refine lv_iload_n hx hb dX1_numberAt_36 rfl (lv_at hl 5 rfl) ?_
    refine lv_iconst (v := nI 2) hx hb dX1_numberAt_37 (by decide) ?_
    refine N_idiv hx hb dX1_numberAt_38 (by omega) (by omega) (by omega) ?_
    refine lv_istore (lv' := [(6, .int (nI (c_ / 2))), (5, .int (nI (r / 2))), (4, .int (nI (8 / 2 ^ (i + 1)))), (0, .ref h), (1, .int (nI i)), (2, .int (nI r)), (3, .int (nI c_))]) hx hb dX1_numberAt_39 hl (by decide) rfl (fun ls hl => ?_)
    refine lv_aload_n hx hb dX1_numberAt_41 rfl (lv_at hl 3 rfl) ?_
    refine lv_iload_n hx hb dX1_numberAt_42 rfl (lv_at hl 4 rfl) ?_
    refine lv_iconst (v := nI 1) hx hb dX1_numberAt_43 (by decide) ?_
    refine N_iadd hx hb dX1_numberAt_44 ?_
    refine lv_iload hx hb dX1_numberAt_45 (lv_at hl 1 rfl) ?_
    refine lv_iload hx hb dX1_numberAt_47 (lv_at hl 0 rfl) ?_
    refine fin_i (ws' := (fun (_ : Unit) => [oC h ad sn hsh, oX (ad 1) 1 [.ref (ad 11), .int (nI L), .int stp, .int why], aI G (ad 6) 64 pa])) hA hS hP hD [0, 1, 2] rfl [(true, 0), (true, 1), (true, 2)] (fun _ => rfl) (by decide) (run_V (As := [.int (nI (i + 1)), .int (nI (r / 2)), .int (nI (c_ / 2))]) (rest := []) (n9 := 3) hx hb hml hown hts hE hAb hl.1 hS hP hD [0, 1, 2] rfl (by decide) (t_X1_numberAt_0 l G b0 _ h ad sn hsh L stp why pa (i + 1) (r / 2) (c_ / 2) (by omega) (by omega) (by omega) (by omega)) (lw_V q1216 q1218 qs34 q106 q1219) 0 rfl rfl ⟨rfl, by decide, by decide, by decide +kernel⟩ ⟨Nat.le_of_ble_eq_true rfl, Nat.le_of_ble_eq_true rfl⟩ ⟨by first | exact Nat.le_of_ble_eq_true rfl | (simp only [rm_X1_numberAt_1, rm_X1_numberAt_0]; omega), by first | exact Nat.le_of_ble_eq_true rfl | (simp only [rm_X1_numberAt_1, rm_X1_numberAt_0]; omega)⟩ dX1_numberAt_49 (Nat.le_of_ble_eq_true rfl) rfl rfl) (fun r_1 u_1 H locs h_1 hP hD hS => ?_)
    have hP : va_P G.1 vwCl [oC h ad sn hsh, oX (ad 1) 1 [.ref (ad 11), .int (nI L), .int stp, .int why], aI G (ad 6) 64 pa] _ := hP
    have hD : va_D A [oC h ad sn hsh, oX (ad 1) 1 [.ref (ad 11), .int (nI L), .int stp, .int why], aI G (ad 6) 64 pa] := hD
    have h_1 : r_1 = (nmA pa 0 (i + 1) (r / 2) (c_ / 2)) := h_1
    rw [h_1]
    refine lv_aload_n hx hb dX1_numberAt_52 rfl (lv_at hl 3 rfl) ?_
    refine va_get (D := G.1) (ci := 0) (v := .ref (ad 6)) (C := RX1) (T := TX1) (N := 12) hx hb hts in_X1 hown hK hP 0 rfl rfl 5 (by decide) (hts _ q499) (fun _ h9 => h9) rfl dX1_numberAt_53 ?_
    refine lv_bipush (v := nI 8) hx hb dX1_numberAt_56 (by decide) ?_
    refine lv_iload hx hb dX1_numberAt_58 (lv_at hl 2 rfl) ?_
    refine lv_iload hx hb dX1_numberAt_60 (lv_at hl 1 rfl) ?_
    refine N_iadd hx hb dX1_numberAt_62 ?_
    refine N_imul hx hb dX1_numberAt_63 ?_
    refine lv_iload hx hb dX1_numberAt_64 (lv_at hl 0 rfl) ?_
    refine N_iadd hx hb dX1_numberAt_66 ?_
    refine N_iald hx hb dX1_numberAt_67 hK hP 2 0 rfl rfl (by omega) (by omega) ?_
    refine lv_iload_n hx hb dX1_numberAt_68 rfl (lv_at hl 5 rfl) ?_
    refine lv_iconst (v := nI 2) hx hb dX1_numberAt_69 (by decide) ?_
    refine N_irem hx hb dX1_numberAt_70 (by omega) (by omega) (by omega) ?_
    refine fin_i (ws' := (fun (_ : Unit) => [oC h ad sn hsh, oX (ad 1) 1 [.ref (ad 11), .int (nI L), .int stp, .int why], aI G (ad 6) 64 pa])) hA hS hP hD [] rfl [(false, 0), (false, 1), (false, 2)] (fun _ => rfl) (by decide) (run_S (As := [.int (nmA pa 0 (i + 1) (r / 2) (c_ / 2)), .int (pa ((8 * ((8 / 2 ^ (i + 1)) + (r / 2))) + (c_ / 2))), .int (nI (r % 2))]) (rest := []) (n9 := 3) hx hb hml hown hts hE hAb hl.1 hS hP hD [] rfl (by decide) (t_X1_oneOf l G b0 _ (nmA pa 0 (i + 1) (r / 2) (c_ / 2)) (pa ((8 * ((8 / 2 ^ (i + 1)) + (r / 2))) + (c_ / 2))) (r % 2) (by omega)) (lw_S q1220 q1214 q106 q1215) ⟨by decide, by decide, by decide +kernel⟩ ⟨Nat.le_of_ble_eq_true rfl, Nat.le_of_ble_eq_true rfl⟩ ⟨by first | exact Nat.le_of_ble_eq_true rfl | (simp only [rm_X1_numberAt_1, rm_X1_oneOf, rm_X1_numberAt_0]; omega), by first | exact Nat.le_of_ble_eq_true rfl | (simp only [rm_X1_numberAt_1, rm_X1_oneOf, rm_X1_numberAt_0]; omega)⟩ dX1_numberAt_71 (Nat.le_of_ble_eq_true rfl) rfl rfl) (fun r_2 u_2 H locs h_2 hP hD hS => ?_)
    have hP : va_P G.1 vwCl [oC h ad sn hsh, oX (ad 1) 1 [.ref (ad 11), .int (nI L), .int stp, .int why], aI G (ad 6) 64 pa] _ := hP
    have hD : va_D A [oC h ad sn hsh, oX (ad 1) 1 [.ref (ad 11), .int (nI L), .int stp, .int why], aI G (ad 6) 64 pa] := hD
    have h_2 : r_2 = (oneO (nmA pa 0 (i + 1) (r / 2) (c_ / 2)) (pa ((8 * ((8 / 2 ^ (i + 1)) + (r / 2))) + (c_ / 2))) (r % 2)) := h_2
    rw [h_2]
    refine lv_istore (lv' := [(7, .int (oneO (nmA pa 0 (i + 1) (r / 2) (c_ / 2)) (pa ((8 * ((8 / 2 ^ (i + 1)) + (r / 2))) + (c_ / 2))) (r % 2))), (6, .int (nI (c_ / 2))), (5, .int (nI (r / 2))), (4, .int (nI (8 / 2 ^ (i + 1)))), (0, .ref h), (1, .int (nI i)), (2, .int (nI r)), (3, .int (nI c_))]) hx hb dX1_numberAt_74 hl (by decide) rfl (fun ls hl => ?_)
    refine lv_aload_n hx hb dX1_numberAt_76 rfl (lv_at hl 4 rfl) ?_
    refine va_get (D := G.1) (ci := 0) (v := .ref (ad 6)) (C := RX1) (T := TX1) (N := 12) hx hb hts in_X1 hown hK hP 0 rfl rfl 5 (by decide) (hts _ q499) (fun _ h9 => h9) rfl dX1_numberAt_77 ?_
    refine lv_bipush (v := nI 8) hx hb dX1_numberAt_80 (by decide) ?_
    refine lv_iload hx hb dX1_numberAt_82 (lv_at hl 2 rfl) ?_
    refine N_imul hx hb dX1_numberAt_84 ?_
    refine lv_iload hx hb dX1_numberAt_85 (lv_at hl 3 rfl) ?_
    refine N_iadd hx hb dX1_numberAt_87 ?_
    refine lv_iload hx hb dX1_numberAt_88 (lv_at hl 1 rfl) ?_
    refine N_iadd hx hb dX1_numberAt_90 ?_
    refine N_iald hx hb dX1_numberAt_91 hK hP 2 0 rfl rfl (by omega) (by omega) ?_
    refine lv_aload_n hx hb dX1_numberAt_92 rfl (lv_at hl 4 rfl) ?_
    refine va_get (D := G.1) (ci := 0) (v := .ref (ad 6)) (C := RX1) (T := TX1) (N := 12) hx hb hts in_X1 hown hK hP 0 rfl rfl 5 (by decide) (hts _ q499) (fun _ h9 => h9) rfl dX1_numberAt_93 ?_
    refine lv_bipush (v := nI 8) hx hb dX1_numberAt_96 (by decide) ?_
    refine lv_iload hx hb dX1_numberAt_98 (lv_at hl 3 rfl) ?_
    refine lv_iload hx hb dX1_numberAt_100 (lv_at hl 2 rfl) ?_
    refine N_iadd hx hb dX1_numberAt_102 ?_
    refine N_imul hx hb dX1_numberAt_103 ?_
    refine lv_iload hx hb dX1_numberAt_104 (lv_at hl 3 rfl) ?_
    refine N_iadd hx hb dX1_numberAt_106 ?_
    refine lv_iload hx hb dX1_numberAt_107 (lv_at hl 1 rfl) ?_
    refine N_iadd hx hb dX1_numberAt_109 ?_
    refine N_iald hx hb dX1_numberAt_110 hK hP 2 0 rfl rfl (by omega) (by omega) ?_
    refine lv_iload_n hx hb dX1_numberAt_111 rfl (lv_at hl 6 rfl) ?_
    refine lv_iconst (v := nI 2) hx hb dX1_numberAt_112 (by decide) ?_
    refine N_irem hx hb dX1_numberAt_113 (by omega) (by omega) (by omega) ?_
    refine fin_i (ws' := (fun (_ : Unit) => [oC h ad sn hsh, oX (ad 1) 1 [.ref (ad 11), .int (nI L), .int stp, .int why], aI G (ad 6) 64 pa])) hA hS hP hD [] rfl [(false, 0), (false, 1), (false, 2)] (fun _ => rfl) (by decide) (run_S (As := [.int (pa (((8 * (r / 2)) + (8 / 2 ^ (i + 1))) + (c_ / 2))), .int (pa (((8 * ((8 / 2 ^ (i + 1)) + (r / 2))) + (8 / 2 ^ (i + 1))) + (c_ / 2))), .int (nI (r % 2))]) (rest := []) (n9 := 3) hx hb hml hown hts hE hAb hl.1 hS hP hD [] rfl (by decide) (t_X1_oneOf l G b0 _ (pa (((8 * (r / 2)) + (8 / 2 ^ (i + 1))) + (c_ / 2))) (pa (((8 * ((8 / 2 ^ (i + 1)) + (r / 2))) + (8 / 2 ^ (i + 1))) + (c_ / 2))) (r % 2) (by omega)) (lw_S q1220 q1214 q106 q1215) ⟨by decide, by decide, by decide +kernel⟩ ⟨Nat.le_of_ble_eq_true rfl, Nat.le_of_ble_eq_true rfl⟩ ⟨by first | exact Nat.le_of_ble_eq_true rfl | (simp only [rm_X1_numberAt_1, rm_X1_oneOf, rm_X1_numberAt_0]; omega), by first | exact Nat.le_of_ble_eq_true rfl | (simp only [rm_X1_numberAt_1, rm_X1_oneOf, rm_X1_numberAt_0]; omega)⟩ dX1_numberAt_114 (Nat.le_of_ble_eq_true rfl) rfl rfl) (fun r_3 u_3 H locs h_3 hP hD hS => ?_)
    have hP : va_P G.1 vwCl [oC h ad sn hsh, oX (ad 1) 1 [.ref (ad 11), .int (nI L), .int stp, .int why], aI G (ad 6) 64 pa] _ := hP
    have hD : va_D A [oC h ad sn hsh, oX (ad 1) 1 [.ref (ad 11), .int (nI L), .int stp, .int why], aI G (ad 6) 64 pa] := hD
    have h_3 : r_3 = (oneO (pa (((8 * (r / 2)) + (8 / 2 ^ (i + 1))) + (c_ / 2))) (pa (((8 * ((8 / 2 ^ (i + 1)) + (r / 2))) + (8 / 2 ^ (i + 1))) + (c_ / 2))) (r % 2)) := h_3
    rw [h_3]
    refine lv_istore (lv' := [(8, .int (oneO (pa (((8 * (r / 2)) + (8 / 2 ^ (i + 1))) + (c_ / 2))) (pa (((8 * ((8 / 2 ^ (i + 1)) + (r / 2))) + (8 / 2 ^ (i + 1))) + (c_ / 2))) (r % 2))), (7, .int (oneO (nmA pa 0 (i + 1) (r / 2) (c_ / 2)) (pa ((8 * ((8 / 2 ^ (i + 1)) + (r / 2))) + (c_ / 2))) (r % 2))), (6, .int (nI (c_ / 2))), (5, .int (nI (r / 2))), (4, .int (nI (8 / 2 ^ (i + 1)))), (0, .ref h), (1, .int (nI i)), (2, .int (nI r)), (3, .int (nI c_))]) hx hb dX1_numberAt_117 hl (by decide) rfl (fun ls hl => ?_)
    refine lv_iload hx hb dX1_numberAt_119 (lv_at hl 1 rfl) ?_
    refine lv_iload hx hb dX1_numberAt_121 (lv_at hl 0 rfl) ?_
    refine lv_iload_n hx hb dX1_numberAt_123 rfl (lv_at hl 8 rfl) ?_
    refine lv_iconst (v := nI 2) hx hb dX1_numberAt_124 (by decide) ?_
    refine N_irem hx hb dX1_numberAt_125 (by omega) (by omega) (by omega) ?_
    refine fin_i (ws' := (fun (_ : Unit) => [oC h ad sn hsh, oX (ad 1) 1 [.ref (ad 11), .int (nI L), .int stp, .int why], aI G (ad 6) 64 pa])) hA hS hP hD [] rfl [(false, 0), (false, 1), (false, 2)] (fun _ => rfl) (by decide) (run_S (As := [.int (oneO (nmA pa 0 (i + 1) (r / 2) (c_ / 2)) (pa ((8 * ((8 / 2 ^ (i + 1)) + (r / 2))) + (c_ / 2))) (r % 2)), .int (oneO (pa (((8 * (r / 2)) + (8 / 2 ^ (i + 1))) + (c_ / 2))) (pa (((8 * ((8 / 2 ^ (i + 1)) + (r / 2))) + (8 / 2 ^ (i + 1))) + (c_ / 2))) (r % 2)), .int (nI (c_ % 2))]) (rest := []) (n9 := 3) hx hb hml hown hts hE hAb hl.1 hS hP hD [] rfl (by decide) (t_X1_oneOf l G b0 _ (oneO (nmA pa 0 (i + 1) (r / 2) (c_ / 2)) (pa ((8 * ((8 / 2 ^ (i + 1)) + (r / 2))) + (c_ / 2))) (r % 2)) (oneO (pa (((8 * (r / 2)) + (8 / 2 ^ (i + 1))) + (c_ / 2))) (pa (((8 * ((8 / 2 ^ (i + 1)) + (r / 2))) + (8 / 2 ^ (i + 1))) + (c_ / 2))) (r % 2)) (c_ % 2) (by omega)) (lw_S q1220 q1214 q106 q1215) ⟨by decide, by decide, by decide +kernel⟩ ⟨Nat.le_of_ble_eq_true rfl, Nat.le_of_ble_eq_true rfl⟩ ⟨by first | exact Nat.le_of_ble_eq_true rfl | (simp only [rm_X1_numberAt_1, rm_X1_oneOf, rm_X1_numberAt_0]; omega), by first | exact Nat.le_of_ble_eq_true rfl | (simp only [rm_X1_numberAt_1, rm_X1_oneOf, rm_X1_numberAt_0]; omega)⟩ dX1_numberAt_126 (Nat.le_of_ble_eq_true rfl) rfl rfl) (fun r_4 u_4 H locs h_4 hP hD hS => ?_)
    have hP : va_P G.1 vwCl [oC h ad sn hsh, oX (ad 1) 1 [.ref (ad 11), .int (nI L), .int stp, .int why], aI G (ad 6) 64 pa] _ := hP
    have hD : va_D A [oC h ad sn hsh, oX (ad 1) 1 [.ref (ad 11), .int (nI L), .int stp, .int why], aI G (ad 6) 64 pa] := hD
    have h_4 : r_4 = (oneO (oneO (nmA pa 0 (i + 1) (r / 2) (c_ / 2)) (pa ((8 * ((8 / 2 ^ (i + 1)) + (r / 2))) + (c_ / 2))) (r % 2)) (oneO (pa (((8 * (r / 2)) + (8 / 2 ^ (i + 1))) + (c_ / 2))) (pa (((8 * ((8 / 2 ^ (i + 1)) + (r / 2))) + (8 / 2 ^ (i + 1))) + (c_ / 2))) (r % 2)) (c_ % 2)) := h_4
    rw [h_4]
    rw [hQQ]
    exact rt_i hx hb hr hlk  ((())) dX1_numberAt_129 hP hD hS (by first | exact Nat.le_of_ble_eq_true rfl | (simp only [rm_X1_numberAt_1, rm_X1_numberAt_0, rm_X1_oneOf]; omega) | omega) (by first | exact Nat.le_of_ble_eq_true rfl | (simp only [rm_X1_numberAt_1, rm_X1_numberAt_0, rm_X1_oneOf]; omega) | omega) (by rfl)
  · skip
    exfalso; omega
def rm_X1_numberAt_2 : Room := ({ frames := 3, cells := 0, slots := 0, locals := 110 } : Room)
set_option maxHeartbeats 400000 in
set_option maxRecDepth 100000 in
theorem t_X1_numberAt_2 (l : Launch) (G : GG) (b0 sz : Nat) (h : Nat) (ad : Nat → Nat) (sn : Value) (hsh : Int64) (L : Nat) (stp why : Int32) (pa : Nat → Int32) (i r c_ : Nat) (hid : i + 2 = L) (hL : L ≤ 3) (hr8 : r < 8 / 2 ^ i) (hc8 : c_ < 8 / 2 ^ i) : CT l yX1_numberAt cX1_numberAt 9 (some FieldType.int) (rm_X1_numberAt_2) G b0 [.ref h, .int (nI i), .int (nI r), .int (nI c_)] [oC h ad sn hsh, oX (ad 1) 1 [.ref (ad 11), .int (nI L), .int stp, .int why], aI G (ad 6) 64 pa] sz (Ri G (fun (r_ : Int32) (_ : Unit) => r_ = nmA pa 2 i r c_) (fun (_ : Unit) => [oC h ad sn hsh, oX (ad 1) 1 [.ref (ad 11), .int (nI L), .int stp, .int why], aI G (ad 6) 64 pa])) := by
  refine CT.go (by decide) (Nat.le_of_ble_eq_true rfl) (fun p e s m below meth c A ls AR QQ hx hb hr hlk hml hown hnm hts hE hA hAb hsz hP hD hS hl hQQ => ?_)
  have hK := hE.1
  have hown : s.vm.findClass RX1 = some m.cls := hown
  have hl : lv_has ls 9 [(0, .ref h), (1, .int (nI i)), (2, .int (nI r)), (3, .int (nI c_))] := hl
  clear hsz
  have hsz : 8 / 2 ^ i = 2 * (8 / 2 ^ (i + 1)) ∧ 8 / 2 ^ (i + 1) ≤ 4 := by have h9 : i = 0 ∨ i = 1 ∨ i = 2 := (by omega); rcases h9 with h9 | h9 | h9 <;> rw [h9] <;> decide
  refine lv_iload_n hx hb dX1_numberAt_0 rfl (lv_at hl 1 rfl) ?_
  refine lv_aload_n hx hb dX1_numberAt_1 rfl (lv_at hl 0 rfl) ?_
  refine va_get (D := G.1) (ci := 0) (v := .ref (ad 1)) (C := RX1) (T := TX1) (N := 12) hx hb hts in_X1 hown hK hP 0 rfl rfl 0 (by decide) (hts _ q494) (fun _ h9 => h9) rfl dX1_numberAt_2 ?_
  refine va_getN (D := G.1) (ci := 1) (v := .int (nI L)) (C := RX2) (T := TX2) (N := 4) hx hb hts in_X2 hown hK hP 1 rfl rfl 1 (by decide) (hE.nb q161 rfl) (fun _ h9 => h9) rfl dX1_numberAt_5 ?_
  refine N_icmp_ne (tgt := 23) hx hb dX1_numberAt_8 (by decide) (by omega) (by omega) (fun c_8 => ?_) (fun c_8 => ?_)
  · skip
    refine lv_bipush (v := nI 8) hx hb dX1_numberAt_23 (by decide) ?_
    refine lv_iload_n hx hb dX1_numberAt_25 rfl (lv_at hl 1 rfl) ?_
    refine lv_iconst (v := nI 1) hx hb dX1_numberAt_26 (by decide) ?_
    refine N_iadd hx hb dX1_numberAt_27 ?_
    refine N_ishr hx hb dX1_numberAt_28 (by omega) (by omega) ?_
    refine lv_istore (lv' := [(4, .int (nI (8 / 2 ^ (i + 1)))), (0, .ref h), (1, .int (nI i)), (2, .int (nI r)), (3, .int (nI c_))]) hx hb dX1_numberAt_29 hl (by decide) rfl (fun ls hl => ?_)
    refine lv_iload_n hx hb dX1_numberAt_31 rfl (lv_at hl 3 rfl) ?_
    refine lv_iconst (v := nI 2) hx hb dX1_numberAt_32 (by decide) ?_
    refine N_idiv hx hb dX1_numberAt_33 (by omega) (by omega) (by omega) ?_
    refine lv_istore (lv' := [(5, .int (nI (r / 2))), (4, .int (nI (8 / 2 ^ (i + 1)))), (0, .ref h), (1, .int (nI i)), (2, .int (nI r)), (3, .int (nI c_))]) hx hb dX1_numberAt_34 hl (by decide) rfl (fun ls hl => ?_)
    refine lv_iload_n hx hb dX1_numberAt_36 rfl (lv_at hl 5 rfl) ?_
    refine lv_iconst (v := nI 2) hx hb dX1_numberAt_37 (by decide) ?_
    refine N_idiv hx hb dX1_numberAt_38 (by omega) (by omega) (by omega) ?_
    refine lv_istore (lv' := [(6, .int (nI (c_ / 2))), (5, .int (nI (r / 2))), (4, .int (nI (8 / 2 ^ (i + 1)))), (0, .ref h), (1, .int (nI i)), (2, .int (nI r)), (3, .int (nI c_))]) hx hb dX1_numberAt_39 hl (by decide) rfl (fun ls hl => ?_)
    refine lv_aload_n hx hb dX1_numberAt_41 rfl (lv_at hl 3 rfl) ?_
    refine lv_iload_n hx hb dX1_numberAt_42 rfl (lv_at hl 4 rfl) ?_
    refine lv_iconst (v := nI 1) hx hb dX1_numberAt_43 (by decide) ?_
    refine N_iadd hx hb dX1_numberAt_44 ?_
    refine lv_iload hx hb dX1_numberAt_45 (lv_at hl 1 rfl) ?_
    refine lv_iload hx hb dX1_numberAt_47 (lv_at hl 0 rfl) ?_
    refine fin_i (ws' := (fun (_ : Unit) => [oC h ad sn hsh, oX (ad 1) 1 [.ref (ad 11), .int (nI L), .int stp, .int why], aI G (ad 6) 64 pa])) hA hS hP hD [0, 1, 2] rfl [(true, 0), (true, 1), (true, 2)] (fun _ => rfl) (by decide) (run_V (As := [.int (nI (i + 1)), .int (nI (r / 2)), .int (nI (c_ / 2))]) (rest := []) (n9 := 3) hx hb hml hown hts hE hAb hl.1 hS hP hD [0, 1, 2] rfl (by decide) (t_X1_numberAt_1 l G b0 _ h ad sn hsh L stp why pa (i + 1) (r / 2) (c_ / 2) (by omega) (by omega) (by omega) (by omega)) (lw_V q1216 q1218 qs34 q106 q1219) 0 rfl rfl ⟨rfl, by decide, by decide, by decide +kernel⟩ ⟨Nat.le_of_ble_eq_true rfl, Nat.le_of_ble_eq_true rfl⟩ ⟨by first | exact Nat.le_of_ble_eq_true rfl | (simp only [rm_X1_numberAt_2, rm_X1_numberAt_1]; omega), by first | exact Nat.le_of_ble_eq_true rfl | (simp only [rm_X1_numberAt_2, rm_X1_numberAt_1]; omega)⟩ dX1_numberAt_49 (Nat.le_of_ble_eq_true rfl) rfl rfl) (fun r_1 u_1 H locs h_1 hP hD hS => ?_)
    have hP : va_P G.1 vwCl [oC h ad sn hsh, oX (ad 1) 1 [.ref (ad 11), .int (nI L), .int stp, .int why], aI G (ad 6) 64 pa] _ := hP
    have hD : va_D A [oC h ad sn hsh, oX (ad 1) 1 [.ref (ad 11), .int (nI L), .int stp, .int why], aI G (ad 6) 64 pa] := hD
    have h_1 : r_1 = (nmA pa 1 (i + 1) (r / 2) (c_ / 2)) := h_1
    rw [h_1]
    refine lv_aload_n hx hb dX1_numberAt_52 rfl (lv_at hl 3 rfl) ?_
    refine va_get (D := G.1) (ci := 0) (v := .ref (ad 6)) (C := RX1) (T := TX1) (N := 12) hx hb hts in_X1 hown hK hP 0 rfl rfl 5 (by decide) (hts _ q499) (fun _ h9 => h9) rfl dX1_numberAt_53 ?_
    refine lv_bipush (v := nI 8) hx hb dX1_numberAt_56 (by decide) ?_
    refine lv_iload hx hb dX1_numberAt_58 (lv_at hl 2 rfl) ?_
    refine lv_iload hx hb dX1_numberAt_60 (lv_at hl 1 rfl) ?_
    refine N_iadd hx hb dX1_numberAt_62 ?_
    refine N_imul hx hb dX1_numberAt_63 ?_
    refine lv_iload hx hb dX1_numberAt_64 (lv_at hl 0 rfl) ?_
    refine N_iadd hx hb dX1_numberAt_66 ?_
    refine N_iald hx hb dX1_numberAt_67 hK hP 2 0 rfl rfl (by omega) (by omega) ?_
    refine lv_iload_n hx hb dX1_numberAt_68 rfl (lv_at hl 5 rfl) ?_
    refine lv_iconst (v := nI 2) hx hb dX1_numberAt_69 (by decide) ?_
    refine N_irem hx hb dX1_numberAt_70 (by omega) (by omega) (by omega) ?_
    refine fin_i (ws' := (fun (_ : Unit) => [oC h ad sn hsh, oX (ad 1) 1 [.ref (ad 11), .int (nI L), .int stp, .int why], aI G (ad 6) 64 pa])) hA hS hP hD [] rfl [(false, 0), (false, 1), (false, 2)] (fun _ => rfl) (by decide) (run_S (As := [.int (nmA pa 1 (i + 1) (r / 2) (c_ / 2)), .int (pa ((8 * ((8 / 2 ^ (i + 1)) + (r / 2))) + (c_ / 2))), .int (nI (r % 2))]) (rest := []) (n9 := 3) hx hb hml hown hts hE hAb hl.1 hS hP hD [] rfl (by decide) (t_X1_oneOf l G b0 _ (nmA pa 1 (i + 1) (r / 2) (c_ / 2)) (pa ((8 * ((8 / 2 ^ (i + 1)) + (r / 2))) + (c_ / 2))) (r % 2) (by omega)) (lw_S q1220 q1214 q106 q1215) ⟨by decide, by decide, by decide +kernel⟩ ⟨Nat.le_of_ble_eq_true rfl, Nat.le_of_ble_eq_true rfl⟩ ⟨by first | exact Nat.le_of_ble_eq_true rfl | (simp only [rm_X1_numberAt_2, rm_X1_oneOf, rm_X1_numberAt_1]; omega), by first | exact Nat.le_of_ble_eq_true rfl | (simp only [rm_X1_numberAt_2, rm_X1_oneOf, rm_X1_numberAt_1]; omega)⟩ dX1_numberAt_71 (Nat.le_of_ble_eq_true rfl) rfl rfl) (fun r_2 u_2 H locs h_2 hP hD hS => ?_)
    have hP : va_P G.1 vwCl [oC h ad sn hsh, oX (ad 1) 1 [.ref (ad 11), .int (nI L), .int stp, .int why], aI G (ad 6) 64 pa] _ := hP
    have hD : va_D A [oC h ad sn hsh, oX (ad 1) 1 [.ref (ad 11), .int (nI L), .int stp, .int why], aI G (ad 6) 64 pa] := hD
    have h_2 : r_2 = (oneO (nmA pa 1 (i + 1) (r / 2) (c_ / 2)) (pa ((8 * ((8 / 2 ^ (i + 1)) + (r / 2))) + (c_ / 2))) (r % 2)) := h_2
    rw [h_2]
    refine lv_istore (lv' := [(7, .int (oneO (nmA pa 1 (i + 1) (r / 2) (c_ / 2)) (pa ((8 * ((8 / 2 ^ (i + 1)) + (r / 2))) + (c_ / 2))) (r % 2))), (6, .int (nI (c_ / 2))), (5, .int (nI (r / 2))), (4, .int (nI (8 / 2 ^ (i + 1)))), (0, .ref h), (1, .int (nI i)), (2, .int (nI r)), (3, .int (nI c_))]) hx hb dX1_numberAt_74 hl (by decide) rfl (fun ls hl => ?_)
    refine lv_aload_n hx hb dX1_numberAt_76 rfl (lv_at hl 4 rfl) ?_
    refine va_get (D := G.1) (ci := 0) (v := .ref (ad 6)) (C := RX1) (T := TX1) (N := 12) hx hb hts in_X1 hown hK hP 0 rfl rfl 5 (by decide) (hts _ q499) (fun _ h9 => h9) rfl dX1_numberAt_77 ?_
    refine lv_bipush (v := nI 8) hx hb dX1_numberAt_80 (by decide) ?_
    refine lv_iload hx hb dX1_numberAt_82 (lv_at hl 2 rfl) ?_
    refine N_imul hx hb dX1_numberAt_84 ?_
    refine lv_iload hx hb dX1_numberAt_85 (lv_at hl 3 rfl) ?_
    refine N_iadd hx hb dX1_numberAt_87 ?_
    refine lv_iload hx hb dX1_numberAt_88 (lv_at hl 1 rfl) ?_
    refine N_iadd hx hb dX1_numberAt_90 ?_
    refine N_iald hx hb dX1_numberAt_91 hK hP 2 0 rfl rfl (by omega) (by omega) ?_
    refine lv_aload_n hx hb dX1_numberAt_92 rfl (lv_at hl 4 rfl) ?_
    refine va_get (D := G.1) (ci := 0) (v := .ref (ad 6)) (C := RX1) (T := TX1) (N := 12) hx hb hts in_X1 hown hK hP 0 rfl rfl 5 (by decide) (hts _ q499) (fun _ h9 => h9) rfl dX1_numberAt_93 ?_
    refine lv_bipush (v := nI 8) hx hb dX1_numberAt_96 (by decide) ?_
    refine lv_iload hx hb dX1_numberAt_98 (lv_at hl 3 rfl) ?_
    refine lv_iload hx hb dX1_numberAt_100 (lv_at hl 2 rfl) ?_
    refine N_iadd hx hb dX1_numberAt_102 ?_
    refine N_imul hx hb dX1_numberAt_103 ?_
    refine lv_iload hx hb dX1_numberAt_104 (lv_at hl 3 rfl) ?_
    refine N_iadd hx hb dX1_numberAt_106 ?_
    refine lv_iload hx hb dX1_numberAt_107 (lv_at hl 1 rfl) ?_
    refine N_iadd hx hb dX1_numberAt_109 ?_
    refine N_iald hx hb dX1_numberAt_110 hK hP 2 0 rfl rfl (by omega) (by omega) ?_
    refine lv_iload_n hx hb dX1_numberAt_111 rfl (lv_at hl 6 rfl) ?_
    refine lv_iconst (v := nI 2) hx hb dX1_numberAt_112 (by decide) ?_
    refine N_irem hx hb dX1_numberAt_113 (by omega) (by omega) (by omega) ?_
    refine fin_i (ws' := (fun (_ : Unit) => [oC h ad sn hsh, oX (ad 1) 1 [.ref (ad 11), .int (nI L), .int stp, .int why], aI G (ad 6) 64 pa])) hA hS hP hD [] rfl [(false, 0), (false, 1), (false, 2)] (fun _ => rfl) (by decide) (run_S (As := [.int (pa (((8 * (r / 2)) + (8 / 2 ^ (i + 1))) + (c_ / 2))), .int (pa (((8 * ((8 / 2 ^ (i + 1)) + (r / 2))) + (8 / 2 ^ (i + 1))) + (c_ / 2))), .int (nI (r % 2))]) (rest := []) (n9 := 3) hx hb hml hown hts hE hAb hl.1 hS hP hD [] rfl (by decide) (t_X1_oneOf l G b0 _ (pa (((8 * (r / 2)) + (8 / 2 ^ (i + 1))) + (c_ / 2))) (pa (((8 * ((8 / 2 ^ (i + 1)) + (r / 2))) + (8 / 2 ^ (i + 1))) + (c_ / 2))) (r % 2) (by omega)) (lw_S q1220 q1214 q106 q1215) ⟨by decide, by decide, by decide +kernel⟩ ⟨Nat.le_of_ble_eq_true rfl, Nat.le_of_ble_eq_true rfl⟩ ⟨by first | exact Nat.le_of_ble_eq_true rfl | (simp only [rm_X1_numberAt_2, rm_X1_oneOf, rm_X1_numberAt_1]; omega), by first | exact Nat.le_of_ble_eq_true rfl | (simp only [rm_X1_numberAt_2, rm_X1_oneOf, rm_X1_numberAt_1]; omega)⟩ dX1_numberAt_114 (Nat.le_of_ble_eq_true rfl) rfl rfl) (fun r_3 u_3 H locs h_3 hP hD hS => ?_)
    have hP : va_P G.1 vwCl [oC h ad sn hsh, oX (ad 1) 1 [.ref (ad 11), .int (nI L), .int stp, .int why], aI G (ad 6) 64 pa] _ := hP
    have hD : va_D A [oC h ad sn hsh, oX (ad 1) 1 [.ref (ad 11), .int (nI L), .int stp, .int why], aI G (ad 6) 64 pa] := hD
    have h_3 : r_3 = (oneO (pa (((8 * (r / 2)) + (8 / 2 ^ (i + 1))) + (c_ / 2))) (pa (((8 * ((8 / 2 ^ (i + 1)) + (r / 2))) + (8 / 2 ^ (i + 1))) + (c_ / 2))) (r % 2)) := h_3
    rw [h_3]
    refine lv_istore (lv' := [(8, .int (oneO (pa (((8 * (r / 2)) + (8 / 2 ^ (i + 1))) + (c_ / 2))) (pa (((8 * ((8 / 2 ^ (i + 1)) + (r / 2))) + (8 / 2 ^ (i + 1))) + (c_ / 2))) (r % 2))), (7, .int (oneO (nmA pa 1 (i + 1) (r / 2) (c_ / 2)) (pa ((8 * ((8 / 2 ^ (i + 1)) + (r / 2))) + (c_ / 2))) (r % 2))), (6, .int (nI (c_ / 2))), (5, .int (nI (r / 2))), (4, .int (nI (8 / 2 ^ (i + 1)))), (0, .ref h), (1, .int (nI i)), (2, .int (nI r)), (3, .int (nI c_))]) hx hb dX1_numberAt_117 hl (by decide) rfl (fun ls hl => ?_)
    refine lv_iload hx hb dX1_numberAt_119 (lv_at hl 1 rfl) ?_
    refine lv_iload hx hb dX1_numberAt_121 (lv_at hl 0 rfl) ?_
    refine lv_iload_n hx hb dX1_numberAt_123 rfl (lv_at hl 8 rfl) ?_
    refine lv_iconst (v := nI 2) hx hb dX1_numberAt_124 (by decide) ?_
    refine N_irem hx hb dX1_numberAt_125 (by omega) (by omega) (by omega) ?_
    refine fin_i (ws' := (fun (_ : Unit) => [oC h ad sn hsh, oX (ad 1) 1 [.ref (ad 11), .int (nI L), .int stp, .int why], aI G (ad 6) 64 pa])) hA hS hP hD [] rfl [(false, 0), (false, 1), (false, 2)] (fun _ => rfl) (by decide) (run_S (As := [.int (oneO (nmA pa 1 (i + 1) (r / 2) (c_ / 2)) (pa ((8 * ((8 / 2 ^ (i + 1)) + (r / 2))) + (c_ / 2))) (r % 2)), .int (oneO (pa (((8 * (r / 2)) + (8 / 2 ^ (i + 1))) + (c_ / 2))) (pa (((8 * ((8 / 2 ^ (i + 1)) + (r / 2))) + (8 / 2 ^ (i + 1))) + (c_ / 2))) (r % 2)), .int (nI (c_ % 2))]) (rest := []) (n9 := 3) hx hb hml hown hts hE hAb hl.1 hS hP hD [] rfl (by decide) (t_X1_oneOf l G b0 _ (oneO (nmA pa 1 (i + 1) (r / 2) (c_ / 2)) (pa ((8 * ((8 / 2 ^ (i + 1)) + (r / 2))) + (c_ / 2))) (r % 2)) (oneO (pa (((8 * (r / 2)) + (8 / 2 ^ (i + 1))) + (c_ / 2))) (pa (((8 * ((8 / 2 ^ (i + 1)) + (r / 2))) + (8 / 2 ^ (i + 1))) + (c_ / 2))) (r % 2)) (c_ % 2) (by omega)) (lw_S q1220 q1214 q106 q1215) ⟨by decide, by decide, by decide +kernel⟩ ⟨Nat.le_of_ble_eq_true rfl, Nat.le_of_ble_eq_true rfl⟩ ⟨by first | exact Nat.le_of_ble_eq_true rfl | (simp only [rm_X1_numberAt_2, rm_X1_oneOf, rm_X1_numberAt_1]; omega), by first | exact Nat.le_of_ble_eq_true rfl | (simp only [rm_X1_numberAt_2, rm_X1_oneOf, rm_X1_numberAt_1]; omega)⟩ dX1_numberAt_126 (Nat.le_of_ble_eq_true rfl) rfl rfl) (fun r_4 u_4 H locs h_4 hP hD hS => ?_)
    have hP : va_P G.1 vwCl [oC h ad sn hsh, oX (ad 1) 1 [.ref (ad 11), .int (nI L), .int stp, .int why], aI G (ad 6) 64 pa] _ := hP
    have hD : va_D A [oC h ad sn hsh, oX (ad 1) 1 [.ref (ad 11), .int (nI L), .int stp, .int why], aI G (ad 6) 64 pa] := hD
    have h_4 : r_4 = (oneO (oneO (nmA pa 1 (i + 1) (r / 2) (c_ / 2)) (pa ((8 * ((8 / 2 ^ (i + 1)) + (r / 2))) + (c_ / 2))) (r % 2)) (oneO (pa (((8 * (r / 2)) + (8 / 2 ^ (i + 1))) + (c_ / 2))) (pa (((8 * ((8 / 2 ^ (i + 1)) + (r / 2))) + (8 / 2 ^ (i + 1))) + (c_ / 2))) (r % 2)) (c_ % 2)) := h_4
    rw [h_4]
    rw [hQQ]
    exact rt_i hx hb hr hlk  ((())) dX1_numberAt_129 hP hD hS (by first | exact Nat.le_of_ble_eq_true rfl | (simp only [rm_X1_numberAt_2, rm_X1_numberAt_1, rm_X1_oneOf]; omega) | omega) (by first | exact Nat.le_of_ble_eq_true rfl | (simp only [rm_X1_numberAt_2, rm_X1_numberAt_1, rm_X1_oneOf]; omega) | omega) (by rfl)
  · skip
    exfalso; omega
def rm_X1_numberAt_3 : Room := ({ frames := 4, cells := 0, slots := 0, locals := 150 } : Room)
set_option maxHeartbeats 400000 in
set_option maxRecDepth 100000 in
theorem t_X1_numberAt_3 (l : Launch) (G : GG) (b0 sz : Nat) (h : Nat) (ad : Nat → Nat) (sn : Value) (hsh : Int64) (L : Nat) (stp why : Int32) (pa : Nat → Int32) (i r c_ : Nat) (hid : i + 3 = L) (hL : L ≤ 3) (hr8 : r < 8 / 2 ^ i) (hc8 : c_ < 8 / 2 ^ i) : CT l yX1_numberAt cX1_numberAt 9 (some FieldType.int) (rm_X1_numberAt_3) G b0 [.ref h, .int (nI i), .int (nI r), .int (nI c_)] [oC h ad sn hsh, oX (ad 1) 1 [.ref (ad 11), .int (nI L), .int stp, .int why], aI G (ad 6) 64 pa] sz (Ri G (fun (r_ : Int32) (_ : Unit) => r_ = nmA pa 3 i r c_) (fun (_ : Unit) => [oC h ad sn hsh, oX (ad 1) 1 [.ref (ad 11), .int (nI L), .int stp, .int why], aI G (ad 6) 64 pa])) := by
  refine CT.go (by decide) (Nat.le_of_ble_eq_true rfl) (fun p e s m below meth c A ls AR QQ hx hb hr hlk hml hown hnm hts hE hA hAb hsz hP hD hS hl hQQ => ?_)
  have hK := hE.1
  have hown : s.vm.findClass RX1 = some m.cls := hown
  have hl : lv_has ls 9 [(0, .ref h), (1, .int (nI i)), (2, .int (nI r)), (3, .int (nI c_))] := hl
  clear hsz
  have hsz : 8 / 2 ^ i = 2 * (8 / 2 ^ (i + 1)) ∧ 8 / 2 ^ (i + 1) ≤ 4 := by have h9 : i = 0 ∨ i = 1 ∨ i = 2 := (by omega); rcases h9 with h9 | h9 | h9 <;> rw [h9] <;> decide
  refine lv_iload_n hx hb dX1_numberAt_0 rfl (lv_at hl 1 rfl) ?_
  refine lv_aload_n hx hb dX1_numberAt_1 rfl (lv_at hl 0 rfl) ?_
  refine va_get (D := G.1) (ci := 0) (v := .ref (ad 1)) (C := RX1) (T := TX1) (N := 12) hx hb hts in_X1 hown hK hP 0 rfl rfl 0 (by decide) (hts _ q494) (fun _ h9 => h9) rfl dX1_numberAt_2 ?_
  refine va_getN (D := G.1) (ci := 1) (v := .int (nI L)) (C := RX2) (T := TX2) (N := 4) hx hb hts in_X2 hown hK hP 1 rfl rfl 1 (by decide) (hE.nb q161 rfl) (fun _ h9 => h9) rfl dX1_numberAt_5 ?_
  refine N_icmp_ne (tgt := 23) hx hb dX1_numberAt_8 (by decide) (by omega) (by omega) (fun c_8 => ?_) (fun c_8 => ?_)
  · skip
    refine lv_bipush (v := nI 8) hx hb dX1_numberAt_23 (by decide) ?_
    refine lv_iload_n hx hb dX1_numberAt_25 rfl (lv_at hl 1 rfl) ?_
    refine lv_iconst (v := nI 1) hx hb dX1_numberAt_26 (by decide) ?_
    refine N_iadd hx hb dX1_numberAt_27 ?_
    refine N_ishr hx hb dX1_numberAt_28 (by omega) (by omega) ?_
    refine lv_istore (lv' := [(4, .int (nI (8 / 2 ^ (i + 1)))), (0, .ref h), (1, .int (nI i)), (2, .int (nI r)), (3, .int (nI c_))]) hx hb dX1_numberAt_29 hl (by decide) rfl (fun ls hl => ?_)
    refine lv_iload_n hx hb dX1_numberAt_31 rfl (lv_at hl 3 rfl) ?_
    refine lv_iconst (v := nI 2) hx hb dX1_numberAt_32 (by decide) ?_
    refine N_idiv hx hb dX1_numberAt_33 (by omega) (by omega) (by omega) ?_
    refine lv_istore (lv' := [(5, .int (nI (r / 2))), (4, .int (nI (8 / 2 ^ (i + 1)))), (0, .ref h), (1, .int (nI i)), (2, .int (nI r)), (3, .int (nI c_))]) hx hb dX1_numberAt_34 hl (by decide) rfl (fun ls hl => ?_)
    refine lv_iload_n hx hb dX1_numberAt_36 rfl (lv_at hl 5 rfl) ?_
    refine lv_iconst (v := nI 2) hx hb dX1_numberAt_37 (by decide) ?_
    refine N_idiv hx hb dX1_numberAt_38 (by omega) (by omega) (by omega) ?_
    refine lv_istore (lv' := [(6, .int (nI (c_ / 2))), (5, .int (nI (r / 2))), (4, .int (nI (8 / 2 ^ (i + 1)))), (0, .ref h), (1, .int (nI i)), (2, .int (nI r)), (3, .int (nI c_))]) hx hb dX1_numberAt_39 hl (by decide) rfl (fun ls hl => ?_)
    refine lv_aload_n hx hb dX1_numberAt_41 rfl (lv_at hl 3 rfl) ?_
    refine lv_iload_n hx hb dX1_numberAt_42 rfl (lv_at hl 4 rfl) ?_
    refine lv_iconst (v := nI 1) hx hb dX1_numberAt_43 (by decide) ?_
    refine N_iadd hx hb dX1_numberAt_44 ?_
    refine lv_iload hx hb dX1_numberAt_45 (lv_at hl 1 rfl) ?_
    refine lv_iload hx hb dX1_numberAt_47 (lv_at hl 0 rfl) ?_
    refine fin_i (ws' := (fun (_ : Unit) => [oC h ad sn hsh, oX (ad 1) 1 [.ref (ad 11), .int (nI L), .int stp, .int why], aI G (ad 6) 64 pa])) hA hS hP hD [0, 1, 2] rfl [(true, 0), (true, 1), (true, 2)] (fun _ => rfl) (by decide) (run_V (As := [.int (nI (i + 1)), .int (nI (r / 2)), .int (nI (c_ / 2))]) (rest := []) (n9 := 3) hx hb hml hown hts hE hAb hl.1 hS hP hD [0, 1, 2] rfl (by decide) (t_X1_numberAt_2 l G b0 _ h ad sn hsh L stp why pa (i + 1) (r / 2) (c_ / 2) (by omega) (by omega) (by omega) (by omega)) (lw_V q1216 q1218 qs34 q106 q1219) 0 rfl rfl ⟨rfl, by decide, by decide, by decide +kernel⟩ ⟨Nat.le_of_ble_eq_true rfl, Nat.le_of_ble_eq_true rfl⟩ ⟨by first | exact Nat.le_of_ble_eq_true rfl | (simp only [rm_X1_numberAt_3, rm_X1_numberAt_2]; omega), by first | exact Nat.le_of_ble_eq_true rfl | (simp only [rm_X1_numberAt_3, rm_X1_numberAt_2]; omega)⟩ dX1_numberAt_49 (Nat.le_of_ble_eq_true rfl) rfl rfl) (fun r_1 u_1 H locs h_1 hP hD hS => ?_)
    have hP : va_P G.1 vwCl [oC h ad sn hsh, oX (ad 1) 1 [.ref (ad 11), .int (nI L), .int stp, .int why], aI G (ad 6) 64 pa] _ := hP
    have hD : va_D A [oC h ad sn hsh, oX (ad 1) 1 [.ref (ad 11), .int (nI L), .int stp, .int why], aI G (ad 6) 64 pa] := hD
    have h_1 : r_1 = (nmA pa 2 (i + 1) (r / 2) (c_ / 2)) := h_1
    rw [h_1]
    refine lv_aload_n hx hb dX1_numberAt_52 rfl (lv_at hl 3 rfl) ?_
    refine va_get (D := G.1) (ci := 0) (v := .ref (ad 6)) (C := RX1) (T := TX1) (N := 12) hx hb hts in_X1 hown hK hP 0 rfl rfl 5 (by decide) (hts _ q499) (fun _ h9 => h9) rfl dX1_numberAt_53 ?_
    refine lv_bipush (v := nI 8) hx hb dX1_numberAt_56 (by decide) ?_
    refine lv_iload hx hb dX1_numberAt_58 (lv_at hl 2 rfl) ?_
    refine lv_iload hx hb dX1_numberAt_60 (lv_at hl 1 rfl) ?_
    refine N_iadd hx hb dX1_numberAt_62 ?_
    refine N_imul hx hb dX1_numberAt_63 ?_
    refine lv_iload hx hb dX1_numberAt_64 (lv_at hl 0 rfl) ?_
    refine N_iadd hx hb dX1_numberAt_66 ?_
    refine N_iald hx hb dX1_numberAt_67 hK hP 2 0 rfl rfl (by omega) (by omega) ?_
    refine lv_iload_n hx hb dX1_numberAt_68 rfl (lv_at hl 5 rfl) ?_
    refine lv_iconst (v := nI 2) hx hb dX1_numberAt_69 (by decide) ?_
    refine N_irem hx hb dX1_numberAt_70 (by omega) (by omega) (by omega) ?_
    refine fin_i (ws' := (fun (_ : Unit) => [oC h ad sn hsh, oX (ad 1) 1 [.ref (ad 11), .int (nI L), .int stp, .int why], aI G (ad 6) 64 pa])) hA hS hP hD [] rfl [(false, 0), (false, 1), (false, 2)] (fun _ => rfl) (by decide) (run_S (As := [.int (nmA pa 2 (i + 1) (r / 2) (c_ / 2)), .int (pa ((8 * ((8 / 2 ^ (i + 1)) + (r / 2))) + (c_ / 2))), .int (nI (r % 2))]) (rest := []) (n9 := 3) hx hb hml hown hts hE hAb hl.1 hS hP hD [] rfl (by decide) (t_X1_oneOf l G b0 _ (nmA pa 2 (i + 1) (r / 2) (c_ / 2)) (pa ((8 * ((8 / 2 ^ (i + 1)) + (r / 2))) + (c_ / 2))) (r % 2) (by omega)) (lw_S q1220 q1214 q106 q1215) ⟨by decide, by decide, by decide +kernel⟩ ⟨Nat.le_of_ble_eq_true rfl, Nat.le_of_ble_eq_true rfl⟩ ⟨by first | exact Nat.le_of_ble_eq_true rfl | (simp only [rm_X1_numberAt_3, rm_X1_oneOf, rm_X1_numberAt_2]; omega), by first | exact Nat.le_of_ble_eq_true rfl | (simp only [rm_X1_numberAt_3, rm_X1_oneOf, rm_X1_numberAt_2]; omega)⟩ dX1_numberAt_71 (Nat.le_of_ble_eq_true rfl) rfl rfl) (fun r_2 u_2 H locs h_2 hP hD hS => ?_)
    have hP : va_P G.1 vwCl [oC h ad sn hsh, oX (ad 1) 1 [.ref (ad 11), .int (nI L), .int stp, .int why], aI G (ad 6) 64 pa] _ := hP
    have hD : va_D A [oC h ad sn hsh, oX (ad 1) 1 [.ref (ad 11), .int (nI L), .int stp, .int why], aI G (ad 6) 64 pa] := hD
    have h_2 : r_2 = (oneO (nmA pa 2 (i + 1) (r / 2) (c_ / 2)) (pa ((8 * ((8 / 2 ^ (i + 1)) + (r / 2))) + (c_ / 2))) (r % 2)) := h_2
    rw [h_2]
    refine lv_istore (lv' := [(7, .int (oneO (nmA pa 2 (i + 1) (r / 2) (c_ / 2)) (pa ((8 * ((8 / 2 ^ (i + 1)) + (r / 2))) + (c_ / 2))) (r % 2))), (6, .int (nI (c_ / 2))), (5, .int (nI (r / 2))), (4, .int (nI (8 / 2 ^ (i + 1)))), (0, .ref h), (1, .int (nI i)), (2, .int (nI r)), (3, .int (nI c_))]) hx hb dX1_numberAt_74 hl (by decide) rfl (fun ls hl => ?_)
    refine lv_aload_n hx hb dX1_numberAt_76 rfl (lv_at hl 4 rfl) ?_
    refine va_get (D := G.1) (ci := 0) (v := .ref (ad 6)) (C := RX1) (T := TX1) (N := 12) hx hb hts in_X1 hown hK hP 0 rfl rfl 5 (by decide) (hts _ q499) (fun _ h9 => h9) rfl dX1_numberAt_77 ?_
    refine lv_bipush (v := nI 8) hx hb dX1_numberAt_80 (by decide) ?_
    refine lv_iload hx hb dX1_numberAt_82 (lv_at hl 2 rfl) ?_
    refine N_imul hx hb dX1_numberAt_84 ?_
    refine lv_iload hx hb dX1_numberAt_85 (lv_at hl 3 rfl) ?_
    refine N_iadd hx hb dX1_numberAt_87 ?_
    refine lv_iload hx hb dX1_numberAt_88 (lv_at hl 1 rfl) ?_
    refine N_iadd hx hb dX1_numberAt_90 ?_
    refine N_iald hx hb dX1_numberAt_91 hK hP 2 0 rfl rfl (by omega) (by omega) ?_
    refine lv_aload_n hx hb dX1_numberAt_92 rfl (lv_at hl 4 rfl) ?_
    refine va_get (D := G.1) (ci := 0) (v := .ref (ad 6)) (C := RX1) (T := TX1) (N := 12) hx hb hts in_X1 hown hK hP 0 rfl rfl 5 (by decide) (hts _ q499) (fun _ h9 => h9) rfl dX1_numberAt_93 ?_
    refine lv_bipush (v := nI 8) hx hb dX1_numberAt_96 (by decide) ?_
    refine lv_iload hx hb dX1_numberAt_98 (lv_at hl 3 rfl) ?_
    refine lv_iload hx hb dX1_numberAt_100 (lv_at hl 2 rfl) ?_
    refine N_iadd hx hb dX1_numberAt_102 ?_
    refine N_imul hx hb dX1_numberAt_103 ?_
    refine lv_iload hx hb dX1_numberAt_104 (lv_at hl 3 rfl) ?_
    refine N_iadd hx hb dX1_numberAt_106 ?_
    refine lv_iload hx hb dX1_numberAt_107 (lv_at hl 1 rfl) ?_
    refine N_iadd hx hb dX1_numberAt_109 ?_
    refine N_iald hx hb dX1_numberAt_110 hK hP 2 0 rfl rfl (by omega) (by omega) ?_
    refine lv_iload_n hx hb dX1_numberAt_111 rfl (lv_at hl 6 rfl) ?_
    refine lv_iconst (v := nI 2) hx hb dX1_numberAt_112 (by decide) ?_
    refine N_irem hx hb dX1_numberAt_113 (by omega) (by omega) (by omega) ?_
    refine fin_i (ws' := (fun (_ : Unit) => [oC h ad sn hsh, oX (ad 1) 1 [.ref (ad 11), .int (nI L), .int stp, .int why], aI G (ad 6) 64 pa])) hA hS hP hD [] rfl [(false, 0), (false, 1), (false, 2)] (fun _ => rfl) (by decide) (run_S (As := [.int (pa (((8 * (r / 2)) + (8 / 2 ^ (i + 1))) + (c_ / 2))), .int (pa (((8 * ((8 / 2 ^ (i + 1)) + (r / 2))) + (8 / 2 ^ (i + 1))) + (c_ / 2))), .int (nI (r % 2))]) (rest := []) (n9 := 3) hx hb hml hown hts hE hAb hl.1 hS hP hD [] rfl (by decide) (t_X1_oneOf l G b0 _ (pa (((8 * (r / 2)) + (8 / 2 ^ (i + 1))) + (c_ / 2))) (pa (((8 * ((8 / 2 ^ (i + 1)) + (r / 2))) + (8 / 2 ^ (i + 1))) + (c_ / 2))) (r % 2) (by omega)) (lw_S q1220 q1214 q106 q1215) ⟨by decide, by decide, by decide +kernel⟩ ⟨Nat.le_of_ble_eq_true rfl, Nat.le_of_ble_eq_true rfl⟩ ⟨by first | exact Nat.le_of_ble_eq_true rfl | (simp only [rm_X1_numberAt_3, rm_X1_oneOf, rm_X1_numberAt_2]; omega), by first | exact Nat.le_of_ble_eq_true rfl | (simp only [rm_X1_numberAt_3, rm_X1_oneOf, rm_X1_numberAt_2]; omega)⟩ dX1_numberAt_114 (Nat.le_of_ble_eq_true rfl) rfl rfl) (fun r_3 u_3 H locs h_3 hP hD hS => ?_)
    have hP : va_P G.1 vwCl [oC h ad sn hsh, oX (ad 1) 1 [.ref (ad 11), .int (nI L), .int stp, .int why], aI G (ad 6) 64 pa] _ := hP
    have hD : va_D A [oC h ad sn hsh, oX (ad 1) 1 [.ref (ad 11), .int (nI L), .int stp, .int why], aI G (ad 6) 64 pa] := hD
    have h_3 : r_3 = (oneO (pa (((8 * (r / 2)) + (8 / 2 ^ (i + 1))) + (c_ / 2))) (pa (((8 * ((8 / 2 ^ (i + 1)) + (r / 2))) + (8 / 2 ^ (i + 1))) + (c_ / 2))) (r % 2)) := h_3
    rw [h_3]
    refine lv_istore (lv' := [(8, .int (oneO (pa (((8 * (r / 2)) + (8 / 2 ^ (i + 1))) + (c_ / 2))) (pa (((8 * ((8 / 2 ^ (i + 1)) + (r / 2))) + (8 / 2 ^ (i + 1))) + (c_ / 2))) (r % 2))), (7, .int (oneO (nmA pa 2 (i + 1) (r / 2) (c_ / 2)) (pa ((8 * ((8 / 2 ^ (i + 1)) + (r / 2))) + (c_ / 2))) (r % 2))), (6, .int (nI (c_ / 2))), (5, .int (nI (r / 2))), (4, .int (nI (8 / 2 ^ (i + 1)))), (0, .ref h), (1, .int (nI i)), (2, .int (nI r)), (3, .int (nI c_))]) hx hb dX1_numberAt_117 hl (by decide) rfl (fun ls hl => ?_)
    refine lv_iload hx hb dX1_numberAt_119 (lv_at hl 1 rfl) ?_
    refine lv_iload hx hb dX1_numberAt_121 (lv_at hl 0 rfl) ?_
    refine lv_iload_n hx hb dX1_numberAt_123 rfl (lv_at hl 8 rfl) ?_
    refine lv_iconst (v := nI 2) hx hb dX1_numberAt_124 (by decide) ?_
    refine N_irem hx hb dX1_numberAt_125 (by omega) (by omega) (by omega) ?_
    refine fin_i (ws' := (fun (_ : Unit) => [oC h ad sn hsh, oX (ad 1) 1 [.ref (ad 11), .int (nI L), .int stp, .int why], aI G (ad 6) 64 pa])) hA hS hP hD [] rfl [(false, 0), (false, 1), (false, 2)] (fun _ => rfl) (by decide) (run_S (As := [.int (oneO (nmA pa 2 (i + 1) (r / 2) (c_ / 2)) (pa ((8 * ((8 / 2 ^ (i + 1)) + (r / 2))) + (c_ / 2))) (r % 2)), .int (oneO (pa (((8 * (r / 2)) + (8 / 2 ^ (i + 1))) + (c_ / 2))) (pa (((8 * ((8 / 2 ^ (i + 1)) + (r / 2))) + (8 / 2 ^ (i + 1))) + (c_ / 2))) (r % 2)), .int (nI (c_ % 2))]) (rest := []) (n9 := 3) hx hb hml hown hts hE hAb hl.1 hS hP hD [] rfl (by decide) (t_X1_oneOf l G b0 _ (oneO (nmA pa 2 (i + 1) (r / 2) (c_ / 2)) (pa ((8 * ((8 / 2 ^ (i + 1)) + (r / 2))) + (c_ / 2))) (r % 2)) (oneO (pa (((8 * (r / 2)) + (8 / 2 ^ (i + 1))) + (c_ / 2))) (pa (((8 * ((8 / 2 ^ (i + 1)) + (r / 2))) + (8 / 2 ^ (i + 1))) + (c_ / 2))) (r % 2)) (c_ % 2) (by omega)) (lw_S q1220 q1214 q106 q1215) ⟨by decide, by decide, by decide +kernel⟩ ⟨Nat.le_of_ble_eq_true rfl, Nat.le_of_ble_eq_true rfl⟩ ⟨by first | exact Nat.le_of_ble_eq_true rfl | (simp only [rm_X1_numberAt_3, rm_X1_oneOf, rm_X1_numberAt_2]; omega), by first | exact Nat.le_of_ble_eq_true rfl | (simp only [rm_X1_numberAt_3, rm_X1_oneOf, rm_X1_numberAt_2]; omega)⟩ dX1_numberAt_126 (Nat.le_of_ble_eq_true rfl) rfl rfl) (fun r_4 u_4 H locs h_4 hP hD hS => ?_)
    have hP : va_P G.1 vwCl [oC h ad sn hsh, oX (ad 1) 1 [.ref (ad 11), .int (nI L), .int stp, .int why], aI G (ad 6) 64 pa] _ := hP
    have hD : va_D A [oC h ad sn hsh, oX (ad 1) 1 [.ref (ad 11), .int (nI L), .int stp, .int why], aI G (ad 6) 64 pa] := hD
    have h_4 : r_4 = (oneO (oneO (nmA pa 2 (i + 1) (r / 2) (c_ / 2)) (pa ((8 * ((8 / 2 ^ (i + 1)) + (r / 2))) + (c_ / 2))) (r % 2)) (oneO (pa (((8 * (r / 2)) + (8 / 2 ^ (i + 1))) + (c_ / 2))) (pa (((8 * ((8 / 2 ^ (i + 1)) + (r / 2))) + (8 / 2 ^ (i + 1))) + (c_ / 2))) (r % 2)) (c_ % 2)) := h_4
    rw [h_4]
    rw [hQQ]
    exact rt_i hx hb hr hlk  ((())) dX1_numberAt_129 hP hD hS (by first | exact Nat.le_of_ble_eq_true rfl | (simp only [rm_X1_numberAt_3, rm_X1_numberAt_2, rm_X1_oneOf]; omega) | omega) (by first | exact Nat.le_of_ble_eq_true rfl | (simp only [rm_X1_numberAt_3, rm_X1_numberAt_2, rm_X1_oneOf]; omega) | omega) (by rfl)
  · skip
    exfalso; omega
def rm_X1_mix : Room := ({ frames := 0, cells := 0, slots := 0, locals := 0 } : Room)
set_option maxHeartbeats 400000 in
set_option maxRecDepth 100000 in
theorem t_X1_mix (l : Launch) (G : GG) (b0 sz : Nat) (h : Nat) (ad : Nat → Nat) (sn : Value) (hsh v : Int64) : CT l yX1_mix cX1_mix 3 none (rm_X1_mix) G b0 [.ref h, .long v] [oC h ad sn hsh] sz (Rv G (fun (_ : Unit) => True) (fun (_ : Unit) => [oC h ad sn (mxJ hsh v)])) := by
  refine CT.go (by decide) (Nat.le_of_ble_eq_true rfl) (fun p e s m below meth c A ls AR QQ hx hb hr hlk hml hown hnm hts hE hA hAb hsz hP hD hS hl hQQ => ?_)
  have hK := hE.1
  have hown : s.vm.findClass RX1 = some m.cls := hown
  have hl : lv_has ls 3 [(0, .ref h), (1, .long v)] := hl
  clear hsz
  refine lv_aload_n hx hb dX1_mix_0 rfl (lv_at hl 0 rfl) ?_
  refine lv_ldc2 (v := 31) hx hb hown (hts _ q1200) dX1_mix_1 ?_
  refine lv_aload_n hx hb dX1_mix_4 rfl (lv_at hl 0 rfl) ?_
  refine va_get (D := G.1) (ci := 0) (v := .long hsh) (C := RX1) (T := TX1) (N := 12) hx hb hts in_X1 hown hK hP 0 rfl rfl 11 (by decide) (hts _ q506) (fun _ h9 => h9) rfl dX1_mix_5 ?_
  refine lv_lmul hx hb dX1_mix_8 ?_
  refine lv_lload_n hx hb dX1_mix_9 rfl (lv_at hl 1 rfl) ?_
  refine lv_ladd hx hb dX1_mix_10 ?_
  refine va_put (D := G.1) (ci := 0) (v := .long ((31 * hsh) + v)) (ty := .long) (C := RX1) (T := TX1) (N := 12) hx hb hts in_X1 tyX1 tyX1_ok nmX1 hown hK hP hD hS 0 rfl rfl 11 (by decide) (hts _ q506) (fun _ h9 => h9) rfl (by decide +kernel) rfl rfl (Nat.le_of_ble_eq_true rfl) dX1_mix_11 (fun H locs hP hD hS => ?_)
  have hP : va_P G.1 vwCl [oC h ad sn ((31 * hsh) + v)] _ := hP
  have hD : va_D A [oC h ad sn ((31 * hsh) + v)] := hD
  have hP : va_P G.1 vwCl [oC h ad sn (mxJ hsh v)] _ := hP
  have hD : va_D A [oC h ad sn (mxJ hsh v)] := hD
  rw [hQQ]
  exact rt_v hx hb hr hlk ((())) dX1_mix_14 hP hD hS (by first | exact Nat.le_of_ble_eq_true rfl | (simp only [rm_X1_mix]; omega) | omega) (by first | exact Nat.le_of_ble_eq_true rfl | (simp only [rm_X1_mix]; omega) | omega) trivial
def rm_X1_mixIf : Room := ({ frames := 1, cells := 0, slots := 0, locals := 30 } : Room)
set_option maxHeartbeats 400000 in
set_option maxRecDepth 100000 in
theorem t_X1_mixIf (l : Launch) (G : GG) (b0 sz : Nat) (h : Nat) (ad : Nat → Nat) (sn : Value) (hsh : Int64) (b : Bool) : CT l yX1_mixIf cX1_mixIf 2 none (rm_X1_mixIf) G b0 [.ref h, .int (bI b)] [oC h ad sn hsh] sz (Rv G (fun (_ : Unit) => True) (fun (_ : Unit) => [oC h ad sn (mxJ hsh (if b = true then 1 else 0))])) := by
  refine CT.go (by decide) (Nat.le_of_ble_eq_true rfl) (fun p e s m below meth c A ls AR QQ hx hb hr hlk hml hown hnm hts hE hA hAb hsz hP hD hS hl hQQ => ?_)
  have hK := hE.1
  have hown : s.vm.findClass RX1 = some m.cls := hown
  have hl : lv_has ls 2 [(0, .ref h), (1, .int (bI b))] := hl
  clear hsz
  refine lv_aload_n hx hb dX1_mixIf_0 rfl (lv_at hl 0 rfl) ?_
  refine lv_iload_n hx hb dX1_mixIf_1 rfl (lv_at hl 1 rfl) ?_
  refine B_if_eq (tgt := 9) hx hb dX1_mixIf_2 (by decide) (fun c_2 => ?_) (fun c_2 => ?_)
  · skip
    refine lv_lconst (v := 0) hx hb dX1_mixIf_9 (by decide) ?_
    refine fin_v (ws' := (fun (_ : Unit) => [oC h ad sn (mxJ hsh 0)])) hA hS hP hD [0] rfl [(true, 0)] (fun _ => rfl) (by decide) (run_V (As := [.long 0]) (rest := []) (n9 := 1) hx hb hml hown hts hE hAb hl.1 hS hP hD [0] rfl (by decide) (t_X1_mix l G b0 _ h ad sn hsh 0 ) (lw_V q1196 q1198 qs31 q106 q1199) 0 rfl rfl ⟨rfl, by decide, by decide, by decide +kernel⟩ ⟨Nat.le_of_ble_eq_true rfl, Nat.le_of_ble_eq_true rfl⟩ ⟨by first | exact Nat.le_of_ble_eq_true rfl | (simp only [rm_X1_mixIf, rm_X1_mix]; omega), by first | exact Nat.le_of_ble_eq_true rfl | (simp only [rm_X1_mixIf, rm_X1_mix]; omega)⟩ dX1_mixIf_10 (Nat.le_of_ble_eq_true rfl) rfl rfl) (fun u_1 H locs h_1 hP hD hS => ?_)
    have hP : va_P G.1 vwCl [oC h ad sn (mxJ hsh 0)] _ := hP
    have hD : va_D A [oC h ad sn (mxJ hsh 0)] := hD
    have e_2 : (mxJ hsh 0) = (mxJ hsh (if b = true then 1 else 0)) := by first | rw [if_pos c_2] | rw [if_neg (ne_true_of_eq_false c_2)]
    rw [show [oC h ad sn (mxJ hsh 0)] = [oC h ad sn (mxJ hsh (if b = true then 1 else 0))] from congrArg (fun z_ => [oC h ad sn z_]) e_2] at hP hD
    have hP : va_P G.1 vwCl [oC h ad sn (mxJ hsh (if b = true then 1 else 0))] _ := hP
    have hD : va_D A [oC h ad sn (mxJ hsh (if b = true then 1 else 0))] := hD
    rw [hQQ]
    exact rt_v hx hb hr hlk ((())) dX1_mixIf_13 hP hD hS (by first | exact Nat.le_of_ble_eq_true rfl | (simp only [rm_X1_mixIf, rm_X1_mix]; omega) | omega) (by first | exact Nat.le_of_ble_eq_true rfl | (simp only [rm_X1_mixIf, rm_X1_mix]; omega) | omega) trivial
  · skip
    refine lv_lconst (v := 1) hx hb dX1_mixIf_5 (by decide) ?_
    refine lv_goto (tgt := 10) hx hb dX1_mixIf_6 (by decide) ?_
    refine fin_v (ws' := (fun (_ : Unit) => [oC h ad sn (mxJ hsh 1)])) hA hS hP hD [0] rfl [(true, 0)] (fun _ => rfl) (by decide) (run_V (As := [.long 1]) (rest := []) (n9 := 1) hx hb hml hown hts hE hAb hl.1 hS hP hD [0] rfl (by decide) (t_X1_mix l G b0 _ h ad sn hsh 1 ) (lw_V q1196 q1198 qs31 q106 q1199) 0 rfl rfl ⟨rfl, by decide, by decide, by decide +kernel⟩ ⟨Nat.le_of_ble_eq_true rfl, Nat.le_of_ble_eq_true rfl⟩ ⟨by first | exact Nat.le_of_ble_eq_true rfl | (simp only [rm_X1_mixIf, rm_X1_mix]; omega), by first | exact Nat.le_of_ble_eq_true rfl | (simp only [rm_X1_mixIf, rm_X1_mix]; omega)⟩ dX1_mixIf_10 (Nat.le_of_ble_eq_true rfl) rfl rfl) (fun u_3 H locs h_3 hP hD hS => ?_)
    have hP : va_P G.1 vwCl [oC h ad sn (mxJ hsh 1)] _ := hP
    have hD : va_D A [oC h ad sn (mxJ hsh 1)] := hD
    have e_4 : (mxJ hsh 1) = (mxJ hsh (if b = true then 1 else 0)) := by first | rw [if_pos c_2] | rw [if_neg (ne_true_of_eq_false c_2)]
    rw [show [oC h ad sn (mxJ hsh 1)] = [oC h ad sn (mxJ hsh (if b = true then 1 else 0))] from congrArg (fun z_ => [oC h ad sn z_]) e_4] at hP hD
    have hP : va_P G.1 vwCl [oC h ad sn (mxJ hsh (if b = true then 1 else 0))] _ := hP
    have hD : va_D A [oC h ad sn (mxJ hsh (if b = true then 1 else 0))] := hD
    rw [hQQ]
    exact rt_v hx hb hr hlk ((())) dX1_mixIf_13 hP hD hS (by first | exact Nat.le_of_ble_eq_true rfl | (simp only [rm_X1_mixIf, rm_X1_mix]; omega) | omega) (by first | exact Nat.le_of_ble_eq_true rfl | (simp only [rm_X1_mixIf, rm_X1_mix]; omega) | omega) trivial
