/-! ===== the code: write ===== -/
theorem bI_sg {x : Int32} : bI (if 0 ≤ x then false else true) = if 0 ≤ x then nI 0 else nI 1 := by
  by_cases c : 0 ≤ x
  · rw [if_pos c, if_pos c]; rfl
  · rw [if_neg c, if_neg c]; rfl
theorem max1_z {r : Nat} (h : r < 2147483648) : maxI (nI 1) (nI r) = nI (if 0 < r then r else 1) := by
  unfold maxI
  by_cases c : 1 < r
  · rw [if_pos ((nI_ltI (by decide) h).mpr c), if_pos (by omega)]
  · rw [if_neg (fun z => c ((nI_ltI (by decide) h).mp z))]
    by_cases d : 0 < r
    · rw [if_pos d, show r = 1 by omega]
    · rw [if_neg d]
theorem lg_9 {v : Nat} (h1 : 1 ≤ v) (h : v < 1024) : lgN v ≤ 9 := (lg_tab v h h1).2
theorem wr_end {pa : Nat → Int32} {L ln p wu n' : Nat} {w : Nat → Int64} (hp : 64 ≤ p) (h : wrI pa L ln p w wu) (hB : BW n' wu w) : ln = lenC pa L 0 ∧ (∀ i, i < lenC pa L 0 → bI (rb w wu i) = bitS pa L i 0) := by
  obtain ⟨a, b, -⟩ := h
  have e : lenC pa L p = 0 := by rw [lenC, if_neg (by omega)]
  have e2 : ln = lenC pa L 0 := by omega
  exact ⟨e2, by rw [← e2]; exact b⟩
theorem fir_ge {p : Nat → Bool} : ∀ (f i : Nat), i ≤ firN p f i := by
  intro f
  induction f with
  | zero => intro i; exact Nat.le_refl _
  | succ f ih =>
    intro i
    show i ≤ (if p i = true then i else firN p f (i + 1))
    split
    · exact Nat.le_refl _
    · exact Nat.le_trans (Nat.le_succ _) (ih (i + 1))
theorem fir_not {p : Nat → Bool} : ∀ (f i j : Nat), i ≤ j → j < firN p f i → p j = false := by
  intro f
  induction f with
  | zero => intro i j h1 h2; exact absurd h2 (Nat.not_lt.mpr h1)
  | succ f ih =>
    intro i j h1 h2
    replace h2 : j < (if p i = true then i else firN p f (i + 1)) := h2
    by_cases c : p i = true
    · rw [if_pos c] at h2
      omega
    · rw [if_neg c] at h2
      by_cases e : i = j
      · rw [← e]
        exact Bool.eq_false_iff.mpr c
      · exact ih (i + 1) j (by omega) h2
theorem zr_all {pa : Nat → Int32} {L p j : Nat} (h : j < zrN pa L p) : p + j < 64 ∧ pa (orT L (p + j)) = 0 := by
  have e := fir_not (p := fun n => if p + n < 64 then (if pa (orT L (p + n)) = 0 then false else true) else true) 65 0 j (Nat.zero_le _) h
  replace e : (if p + j < 64 then (if pa (orT L (p + j)) = 0 then false else true) else true) = false := e
  by_cases c : p + j < 64
  · rw [if_pos c] at e
    by_cases d : pa (orT L (p + j)) = 0
    · exact ⟨c, d⟩
    · rw [if_neg d] at e
      cases e
  · rw [if_neg c] at e
    cases e
theorem zr_ne {pa : Nat → Int32} {L p : Nat} (hp : p < 64) (h : zrN pa L p = 0) : pa (orT L p) ≠ 0 := by
  intro e
  have h9 : zrN pa L p = firN (fun n => if p + n < 64 then (if pa (orT L (p + n)) = 0 then false else true) else true) 64 1 := by
    show (if (if p + 0 < 64 then (if pa (orT L (p + 0)) = 0 then false else true) else true) = true then 0 else _) = _
    rw [if_pos (show p + 0 < 64 by omega), Nat.add_zero, if_pos e, if_neg (by decide)]
  have := fir_ge (p := fun n => if p + n < 64 then (if pa (orT L (p + n)) = 0 then false else true) else true) 64 1
  omega
def rm_X8_write : Room := ({ frames := 8, cells := 44, slots := 88, locals := 320 } : Room)
set_option maxHeartbeats 400000 in
set_option maxRecDepth 100000 in
theorem t_X8_write (l : Launch) (G : GG) (b0 sz : Nat) (h bs cp a n wu ln at_ : Nat) (w : Nat → Int64) (o a1 a2 a3 om sp L : Nat) (pa : Nat → Int32) (mg : Nat → Nat) (hB : BW n wu w) (hn : n ≤ 44) (hL1 : 1 ≤ L) (hL : L ≤ 3) (hm : mgOK pa mg) : CT l yX8_write cX8_write 5 (some (FieldType.object "CrumbPictures$Code")) (rm_X8_write) G b0 [.ref h, .ref sp, .ref o] [oX h 7 [.ref bs, .ref cp, .int (nI ln), .int (nI at_)], oX bs 10 [.ref a, .int (nI wu), .int (bI false)], aJ G a n w, oX o 2 [.ref a1, .ref a2, .ref a3, .int (nI om)], aI G a1 64 (nF (orT L)), aI G sp 64 pa] sz (Rr G (fun (u : Nat × Nat × Nat × (Nat → Int64)) => (∀ i, i < lenC pa L 0 → bI (rb u.2.2.2 u.2.2.1 i) = bitS pa L i 0) ∧ BW u.2.1 u.2.2.1 u.2.2.2 ∧ lenC pa L 0 ≤ 1344 ∧ n ≤ u.2.1 ∧ u.2.1 ≤ 44) (fun (u : Nat × Nat × Nat × (Nat → Int64)) => h) (fun (u : Nat × Nat × Nat × (Nat → Int64)) => [oX h 7 [.ref bs, .ref cp, .int (nI (lenC pa L 0)), .int (nI at_)], oX bs 10 [.ref u.1, .int (nI u.2.2.1), .int (bI false)], aJ G u.1 u.2.1 u.2.2.2, oX o 2 [.ref a1, .ref a2, .ref a3, .int (nI om)], aI G a1 64 (nF (orT L)), aI G sp 64 pa])) := by
  refine CT.go (by decide) (Nat.le_of_ble_eq_true rfl) (fun p e s m below meth c A ls AR QQ hx hb hr hlk hml hown hnm hts hE hA hAb hsz hP hD hS hl hQQ => ?_)
  have hK := hE.1
  have hown : s.vm.findClass RX8 = some m.cls := hown
  have hl : lv_has ls 5 [(0, .ref h), (1, .ref sp), (2, .ref o)] := hl
  clear hsz
  have hn1 := hB.1
  have hwn := hB.2.1
  have hpo := (pl_or hL1 hL).1
  have hB0 := BW_0 hB
  refine lv_aload_n hx hb dX8_write_0 rfl (lv_at hl 0 rfl) ?_
  refine va_get (D := G.1) (ci := 7) (v := .ref bs) (C := RX8) (T := TX8) (N := 4) hx hb hts in_X8 hown hK hP 0 rfl rfl 0 (by decide) (hts _ q420) (fun _ h9 => h9) rfl dX8_write_1 ?_
  refine fin_v (ws' := (fun (_ : Unit) => [oX h 7 [.ref bs, .ref cp, .int (nI ln), .int (nI at_)], oX bs 10 [.ref a, .int (nI 0), .int (bI false)], aJ G a n (clJ w wu 0), oX o 2 [.ref a1, .ref a2, .ref a3, .int (nI om)], aI G a1 64 (nF (orT L)), aI G sp 64 pa])) hA hS hP hD [1, 2] rfl [(false, 0), (true, 0), (true, 1), (false, 3), (false, 4), (false, 5)] (fun _ => rfl) (by decide) (run_V (As := []) (rest := []) (n9 := 0) hx hb hml hown hts hE hAb hl.1 hS hP hD [1, 2] rfl (by decide) (t_J6_clear l G b0 _ bs a n wu w (by omega) (by omega)) (lw_V q1091 q1092 q1093 q121 q1094) 1 rfl rfl ⟨rfl, by decide, by decide, by decide +kernel⟩ ⟨Nat.le_of_ble_eq_true rfl, Nat.le_of_ble_eq_true rfl⟩ ⟨by first | exact Nat.le_of_ble_eq_true rfl | (simp only [rm_X8_write, rm_J6_clear]; omega), by first | exact Nat.le_of_ble_eq_true rfl | (simp only [rm_X8_write, rm_J6_clear]; omega)⟩ dX8_write_4 (Nat.le_of_ble_eq_true rfl) rfl rfl) (fun u_1 H locs h_1 hP hD hS => ?_)
  have hP : va_P G.1 vwCl [oX h 7 [.ref bs, .ref cp, .int (nI ln), .int (nI at_)], oX bs 10 [.ref a, .int (nI 0), .int (bI false)], aJ G a n (clJ w wu 0), oX o 2 [.ref a1, .ref a2, .ref a3, .int (nI om)], aI G a1 64 (nF (orT L)), aI G sp 64 pa] _ := hP
  have hD : va_D A [oX h 7 [.ref bs, .ref cp, .int (nI ln), .int (nI at_)], oX bs 10 [.ref a, .int (nI 0), .int (bI false)], aJ G a n (clJ w wu 0), oX o 2 [.ref a1, .ref a2, .ref a3, .int (nI om)], aI G a1 64 (nF (orT L)), aI G sp 64 pa] := hD
  refine lv_aload_n hx hb dX8_write_7 rfl (lv_at hl 0 rfl) ?_
  refine lv_iconst (v := nI 0) hx hb dX8_write_8 (by decide) ?_
  refine va_put (D := G.1) (ci := 7) (v := .int (nI 0)) (ty := .int) (C := RX8) (T := TX8) (N := 4) hx hb hts in_X8 tyX8 tyX8_ok nmX8 hown hK hP hD hS 0 rfl rfl 2 (by decide) (hts _ q423) (fun _ h9 => h9) rfl (by decide +kernel) rfl rfl (Nat.le_of_ble_eq_true rfl) dX8_write_9 (fun H locs hP hD hS => ?_)
  have hP : va_P G.1 vwCl [oX h 7 [.ref bs, .ref cp, .int (nI 0), .int (nI at_)], oX bs 10 [.ref a, .int (nI 0), .int (bI false)], aJ G a n (clJ w wu 0), oX o 2 [.ref a1, .ref a2, .ref a3, .int (nI om)], aI G a1 64 (nF (orT L)), aI G sp 64 pa] _ := hP
  have hD : va_D A [oX h 7 [.ref bs, .ref cp, .int (nI 0), .int (nI at_)], oX bs 10 [.ref a, .int (nI 0), .int (bI false)], aJ G a n (clJ w wu 0), oX o 2 [.ref a1, .ref a2, .ref a3, .int (nI om)], aI G a1 64 (nF (orT L)), aI G sp 64 pa] := hD
  refine lv_iconst (v := nI 0) hx hb dX8_write_12 (by decide) ?_
  refine lv_istore_n (lv' := [(3, .int (nI 0)), (0, .ref h), (1, .ref sp), (2, .ref o)]) hx hb dX8_write_13 rfl hl (by decide) rfl (fun ls hl => ?_)
  have lp_14 : ∀ (n_14 : Nat) (p_ ln_ a_ n_ wu_ : Nat) (w_ : Nat → Int64), (p_ ≤ 64) → (wrI pa L ln_ p_ w_ wu_) → (BW n_ wu_ w_) → (ln_ ≤ 21 * p_) → (n ≤ n_) → (n_ ≤ 44) → (64 - p_) < n_14 → ∀ (H : Heap) (locs : List Loc) (ls : Array Slot), va_P G.1 vwCl [oX h 7 [.ref bs, .ref cp, .int (nI ln_), .int (nI at_)], oX bs 10 [.ref a_, .int (nI wu_), .int (bI false)], aJ G a_ n_ w_, oX o 2 [.ref a1, .ref a2, .ref a3, .int (nI om)], aI G a1 64 (nF (orT L)), aI G sp 64 pa] H → va_D A [oX h 7 [.ref bs, .ref cp, .int (nI ln_), .int (nI at_)], oX bs 10 [.ref a_, .int (nI wu_), .int (bI false)], aJ G a_ n_ w_, oX o 2 [.ref a1, .ref a2, .ref a3, .int (nI om)], aI G a1 64 (nF (orT L)), aI G sp 64 pa] → va_S A s.heap H locs → lv_has ls 5 [(0, .ref h), (1, .ref sp), (2, .ref o), (3, .int (nI p_))] → W p l e (rm_X8_write) s m AR below meth c H locs (n_ - n) (2 * (n_ - n)) QQ (F0 m 14 ls []) := by
    intro n_14
    induction n_14 with
    | zero => intro p_ ln_ a_ n_ wu_ w_ hp hwr hBn hln hnn hn4 hn_; exact absurd hn_ (Nat.not_lt_zero _)
    | succ n_14 ih_14 =>
      intro p_ ln_ a_ n_ wu_ w_ hp hwr hBn hln hnn hn4 hn_14 H locs ls hP hD hS hl
      refine lv_iload_n hx hb dX8_write_14 rfl (lv_at hl 3 rfl) ?_
      refine lv_bipush (v := nI 64) hx hb dX8_write_15 (by decide) ?_
      refine N_icmp_ge (tgt := 99) hx hb dX8_write_17 (by decide) (by omega) (by omega) (fun c_17 => ?_) (fun c_17 => ?_)
      · skip
        obtain ⟨hend, hbits⟩ := wr_end (by omega) hwr hBn
        have hl13 : lenC pa L 0 ≤ 1344 := by omega
        refine lv_aload_n hx hb dX8_write_99 rfl (lv_at hl 0 rfl) ?_
        have e_2 : (ln_) = (lenC pa L 0) := by exact hend
        rw [e_2] at hP hD
        have hP : va_P G.1 vwCl [oX h 7 [.ref bs, .ref cp, .int (nI (lenC pa L 0)), .int (nI at_)], oX bs 10 [.ref a_, .int (nI wu_), .int (bI false)], aJ G a_ n_ w_, oX o 2 [.ref a1, .ref a2, .ref a3, .int (nI om)], aI G a1 64 (nF (orT L)), aI G sp 64 pa] _ := hP
        have hD : va_D A [oX h 7 [.ref bs, .ref cp, .int (nI (lenC pa L 0)), .int (nI at_)], oX bs 10 [.ref a_, .int (nI wu_), .int (bI false)], aJ G a_ n_ w_, oX o 2 [.ref a1, .ref a2, .ref a3, .int (nI om)], aI G a1 64 (nF (orT L)), aI G sp 64 pa] := hD
        rw [hQQ]
        exact rt_r hx hb hr hlk (by first | exact Or.inl ⟨_, rfl⟩ | exact Or.inr ⟨_, rfl⟩) (((a_, n_, wu_, w_))) dX8_write_100 hP hD hS (by first | exact Nat.le_of_ble_eq_true rfl | (simp only [rm_X8_write, rm_J6_clear]; omega) | omega) (by first | exact Nat.le_of_ble_eq_true rfl | (simp only [rm_X8_write, rm_J6_clear]; omega) | omega) (by rfl) (by exact ⟨hbits, hBn, hl13, hnn, hn4⟩)
      · skip
        refine lv_aload_n hx hb dX8_write_20 rfl (lv_at hl 1 rfl) ?_
        refine lv_aload_n hx hb dX8_write_21 rfl (lv_at hl 2 rfl) ?_
        refine lv_iload_n hx hb dX8_write_22 rfl (lv_at hl 3 rfl) ?_
        refine fin_i (ws' := (fun (_ : Unit) => [oX h 7 [.ref bs, .ref cp, .int (nI ln_), .int (nI at_)], oX bs 10 [.ref a_, .int (nI wu_), .int (bI false)], aJ G a_ n_ w_, oX o 2 [.ref a1, .ref a2, .ref a3, .int (nI om)], aI G a1 64 (nF (orT L)), aI G sp 64 pa])) hA hS hP hD [3, 4, 5] rfl [(false, 0), (false, 1), (false, 2), (true, 0), (true, 1), (true, 2)] (fun _ => rfl) (by decide) (run_S (As := [.ref sp, .ref o, .int (nI p_)]) (rest := []) (n9 := 3) hx hb hml hown hts hE hAb hl.1 hS hP hD [3, 4, 5] rfl (by decide) (t_X8_runFrom l G b0 _ o a1 a2 a3 om sp L pa p_ (by omega) (by omega) (by omega)) (lw_S q1095 q1096 q120 q1097) ⟨by decide, by decide, by decide +kernel⟩ ⟨Nat.le_of_ble_eq_true rfl, Nat.le_of_ble_eq_true rfl⟩ ⟨by first | exact Nat.le_of_ble_eq_true rfl | (simp only [rm_X8_write, rm_X8_runFrom, rm_J6_clear]; omega), by first | exact Nat.le_of_ble_eq_true rfl | (simp only [rm_X8_write, rm_X8_runFrom, rm_J6_clear]; omega)⟩ dX8_write_23 (Nat.le_of_ble_eq_true rfl) rfl rfl) (fun r_3 u_3 H locs h_3 hP hD hS => ?_)
        have hP : va_P G.1 vwCl [oX h 7 [.ref bs, .ref cp, .int (nI ln_), .int (nI at_)], oX bs 10 [.ref a_, .int (nI wu_), .int (bI false)], aJ G a_ n_ w_, oX o 2 [.ref a1, .ref a2, .ref a3, .int (nI om)], aI G a1 64 (nF (orT L)), aI G sp 64 pa] _ := hP
        have hD : va_D A [oX h 7 [.ref bs, .ref cp, .int (nI ln_), .int (nI at_)], oX bs 10 [.ref a_, .int (nI wu_), .int (bI false)], aJ G a_ n_ w_, oX o 2 [.ref a1, .ref a2, .ref a3, .int (nI om)], aI G a1 64 (nF (orT L)), aI G sp 64 pa] := hD
        have h_3 : r_3 = (nI (zrN pa L p_)) := h_3
        rw [h_3]
        refine lv_istore (lv' := [(4, .int (nI (zrN pa L p_))), (0, .ref h), (1, .ref sp), (2, .ref o), (3, .int (nI p_))]) hx hb dX8_write_26 hl (by decide) rfl (fun ls hl => ?_)
        have hzl := zrN_le pa L p_ (by omega)
        refine lv_iload hx hb dX8_write_28 (lv_at hl 0 rfl) ?_
        refine N_if_le (tgt := 47) hx hb dX8_write_30 (by decide) (by omega) (fun c_30 => ?_) (fun c_30 => ?_)
        · skip
          have hz0 : zrN pa L p_ = 0 := by omega
          have hxx := orT_lt hL1 hL (show p_ < 64 by omega)
          obtain ⟨hm1, hm2, hm3⟩ := hm _ hxx
          have hv1 : 1 ≤ mg (orT L p_) := hm3 (zr_ne (by omega) hz0)
          have hk9 := lg_9 hv1 (by omega)
          have hn1 := hBn.1
          have hc1 := capB_le (n := n_) (i := ln_) (b := true) (m := 44) (by omega) hn4 hn1
          have hg1 := capB_ge (n := n_) (i := ln_) (b := true)
          refine lv_aload_n hx hb dX8_write_47 rfl (lv_at hl 1 rfl) ?_
          refine lv_iconst (v := nI 1) hx hb dX8_write_48 (by decide) ?_
          refine fin_v (ws' := (fun (u_4 : Nat × Nat × Nat × (Nat → Int64)) => [oX h 7 [.ref bs, .ref cp, .int (nI (ln_ + 1)), .int (nI at_)], oX bs 10 [.ref u_4.1, .int (nI u_4.2.2.1), .int (bI false)], aJ G u_4.1 u_4.2.1 u_4.2.2.2, oX o 2 [.ref a1, .ref a2, .ref a3, .int (nI om)], aI G a1 64 (nF (orT L)), aI G sp 64 pa])) hA hS hP hD [0, 1, 2] rfl [(true, 0), (true, 1), (true, 2), (false, 3), (false, 4), (false, 5)] (fun _ => rfl) (by decide) (run_V (As := [.int (nI 1)]) (rest := []) (n9 := 1) hx hb hml hown hts hE hAb hl.1 hS hP hD [0, 1, 2] rfl (by decide) (t_X8_bit l G b0 _ h bs cp a_ n_ wu_ ln_ at_ w_ true (by exact hBn) (by omega) (by omega)) (lw_V q1098 q1100 qs23 q120 q1101) 0 rfl rfl ⟨rfl, by decide, by decide, by decide +kernel⟩ ⟨Nat.le_of_ble_eq_true rfl, Nat.le_of_ble_eq_true rfl⟩ ⟨by first | exact Nat.le_of_ble_eq_true rfl | (simp only [rm_X8_write, rm_X8_bit, rm_J6_clear, rm_X8_runFrom]; omega), by first | exact Nat.le_of_ble_eq_true rfl | (simp only [rm_X8_write, rm_X8_bit, rm_J6_clear, rm_X8_runFrom]; omega)⟩ dX8_write_49 (Nat.le_of_ble_eq_true rfl) rfl rfl) (fun u_4 H locs h_4 hP hD hS => ?_)
          have hP : va_P G.1 vwCl [oX h 7 [.ref bs, .ref cp, .int (nI (ln_ + 1)), .int (nI at_)], oX bs 10 [.ref u_4.1, .int (nI u_4.2.2.1), .int (bI false)], aJ G u_4.1 u_4.2.1 u_4.2.2.2, oX o 2 [.ref a1, .ref a2, .ref a3, .int (nI om)], aI G a1 64 (nF (orT L)), aI G sp 64 pa] _ := hP
          have hD : va_D A [oX h 7 [.ref bs, .ref cp, .int (nI (ln_ + 1)), .int (nI at_)], oX bs 10 [.ref u_4.1, .int (nI u_4.2.2.1), .int (bI false)], aJ G u_4.1 u_4.2.1 u_4.2.2.2, oX o 2 [.ref a1, .ref a2, .ref a3, .int (nI om)], aI G a1 64 (nF (orT L)), aI G sp 64 pa] := hD
          have f_4 : BF n_ wu_ w_ ln_ true u_4.2.1 u_4.2.2.1 u_4.2.2.2 := h_4
          have hfb1 := f_4
          have hfc1 := hfb1.1
          have hfB1 := hfb1.2.1
          have hfn1 := hfB1.1
          refine lv_aload_n hx hb dX8_write_52 rfl (lv_at hl 1 rfl) ?_
          refine lv_aload_n hx hb dX8_write_53 rfl (lv_at hl 2 rfl) ?_
          refine lv_aload_n hx hb dX8_write_54 rfl (lv_at hl 3 rfl) ?_
          refine va_getN (D := G.1) (ci := 2) (v := .ref a1) (C := RX3) (T := TX3) (N := 4) hx hb hts in_X3 hown hK hP 3 rfl rfl 0 (by decide) (hE.nb q345 rfl) (fun _ h9 => h9) rfl dX8_write_55 ?_
          refine lv_iload_n hx hb dX8_write_58 rfl (lv_at hl 4 rfl) ?_
          refine N_iald hx hb dX8_write_59 hK hP 4 0 rfl rfl (by omega) (by omega) ?_
          refine top_i (y := nI ((orT L) p_)) rfl ?_
          refine N_iald hx hb dX8_write_60 hK hP 5 0 rfl rfl (by exact hxx) (by omega) ?_
          have K_61 : ∀ (v_5 : Bool) (_ : v_5 = if 0 ≤ (pa ((orT L) p_)) then false else true) (H : Heap) (locs : List Loc) (ls : Array Slot), va_P G.1 vwCl [oX h 7 [.ref bs, .ref cp, .int (nI (ln_ + 1)), .int (nI at_)], oX bs 10 [.ref u_4.1, .int (nI u_4.2.2.1), .int (bI false)], aJ G u_4.1 u_4.2.1 u_4.2.2.2, oX o 2 [.ref a1, .ref a2, .ref a3, .int (nI om)], aI G a1 64 (nF (orT L)), aI G sp 64 pa] H → va_D A [oX h 7 [.ref bs, .ref cp, .int (nI (ln_ + 1)), .int (nI at_)], oX bs 10 [.ref u_4.1, .int (nI u_4.2.2.1), .int (bI false)], aJ G u_4.1 u_4.2.1 u_4.2.2.2, oX o 2 [.ref a1, .ref a2, .ref a3, .int (nI om)], aI G a1 64 (nF (orT L)), aI G sp 64 pa] → va_S A s.heap H locs → lv_has ls 5 [(4, .int (nI (zrN pa L p_))), (0, .ref h), (1, .ref sp), (2, .ref o), (3, .int (nI p_))] → W p l e (rm_X8_write) s m AR below meth c H locs ((n_ - n) + (capB n_ ln_ true - n_)) ((2 * (n_ - n)) + (2 * (capB n_ ln_ true - n_))) QQ (F0 m 69 ls [.int (bI v_5), .ref h]) := by
            intro v_5 e_v_5 H locs ls hP hD hS hl
            subst e_v_5
            have hc2 := capB_le (n := u_4.2.1) (i := ln_ + 1) (b := if 0 ≤ (pa ((orT L) p_)) then false else true) (m := 44) (by omega) (by omega) (by omega)
            have hg2 := capB_ge (n := u_4.2.1) (i := ln_ + 1) (b := if 0 ≤ (pa ((orT L) p_)) then false else true)
            refine fin_v (ws' := (fun (u_6 : Nat × Nat × Nat × (Nat → Int64)) => [oX h 7 [.ref bs, .ref cp, .int (nI ((ln_ + 1) + 1)), .int (nI at_)], oX bs 10 [.ref u_6.1, .int (nI u_6.2.2.1), .int (bI false)], aJ G u_6.1 u_6.2.1 u_6.2.2.2, oX o 2 [.ref a1, .ref a2, .ref a3, .int (nI om)], aI G a1 64 (nF (orT L)), aI G sp 64 pa])) hA hS hP hD [0, 1, 2] rfl [(true, 0), (true, 1), (true, 2), (false, 3), (false, 4), (false, 5)] (fun _ => rfl) (by decide) (run_V (As := [.int (bI (if 0 ≤ (pa ((orT L) p_)) then false else true))]) (rest := []) (n9 := 1) hx hb hml hown hts hE hAb hl.1 hS hP hD [0, 1, 2] rfl (by decide) (t_X8_bit l G b0 _ h bs cp u_4.1 u_4.2.1 u_4.2.2.1 (ln_ + 1) at_ u_4.2.2.2 (if 0 ≤ (pa ((orT L) p_)) then false else true) (by exact hfB1) (by omega) (by omega)) (lw_V q1098 q1100 qs23 q120 q1101) 0 rfl rfl ⟨rfl, by decide, by decide, by decide +kernel⟩ ⟨Nat.le_of_ble_eq_true rfl, Nat.le_of_ble_eq_true rfl⟩ ⟨by first | exact Nat.le_of_ble_eq_true rfl | (simp only [rm_X8_write, rm_X8_bit, rm_J6_clear, rm_X8_runFrom]; omega), by first | exact Nat.le_of_ble_eq_true rfl | (simp only [rm_X8_write, rm_X8_bit, rm_J6_clear, rm_X8_runFrom]; omega)⟩ dX8_write_69 (Nat.le_of_ble_eq_true rfl) rfl rfl) (fun u_6 H locs h_6 hP hD hS => ?_)
            have hP : va_P G.1 vwCl [oX h 7 [.ref bs, .ref cp, .int (nI ((ln_ + 1) + 1)), .int (nI at_)], oX bs 10 [.ref u_6.1, .int (nI u_6.2.2.1), .int (bI false)], aJ G u_6.1 u_6.2.1 u_6.2.2.2, oX o 2 [.ref a1, .ref a2, .ref a3, .int (nI om)], aI G a1 64 (nF (orT L)), aI G sp 64 pa] _ := hP
            have hD : va_D A [oX h 7 [.ref bs, .ref cp, .int (nI ((ln_ + 1) + 1)), .int (nI at_)], oX bs 10 [.ref u_6.1, .int (nI u_6.2.2.1), .int (bI false)], aJ G u_6.1 u_6.2.1 u_6.2.2.2, oX o 2 [.ref a1, .ref a2, .ref a3, .int (nI om)], aI G a1 64 (nF (orT L)), aI G sp 64 pa] := hD
            have f_6 : BF u_4.2.1 u_4.2.2.1 u_4.2.2.2 (ln_ + 1) (if 0 ≤ (pa ((orT L) p_)) then false else true) u_6.2.1 u_6.2.2.1 u_6.2.2.2 := h_6
            have hfb2 := f_6
            have hfc2 := hfb2.1
            have hfB2 := hfb2.2.1
            have hfn2 := hfB2.1
            refine lv_aload_n hx hb dX8_write_72 rfl (lv_at hl 1 rfl) ?_
            refine lv_aload_n hx hb dX8_write_73 rfl (lv_at hl 2 rfl) ?_
            refine lv_aload_n hx hb dX8_write_74 rfl (lv_at hl 3 rfl) ?_
            refine va_getN (D := G.1) (ci := 2) (v := .ref a1) (C := RX3) (T := TX3) (N := 4) hx hb hts in_X3 hown hK hP 3 rfl rfl 0 (by decide) (hE.nb q345 rfl) (fun _ h9 => h9) rfl dX8_write_75 ?_
            refine lv_iload_n hx hb dX8_write_78 rfl (lv_at hl 4 rfl) ?_
            refine N_iald hx hb dX8_write_79 hK hP 4 0 rfl rfl (by omega) (by omega) ?_
            refine top_i (y := nI ((orT L) p_)) rfl ?_
            refine N_iald hx hb dX8_write_80 hK hP 5 0 rfl rfl (by exact hxx) (by omega) ?_
            refine M_abs hx hb (hml.trans hl.1.symm) hown hts q1168 q1169 q137 q1170 (Nat.le_of_ble_eq_true rfl) (Nat.le_of_ble_eq_true rfl) (by first | exact Nat.le_of_ble_eq_true rfl | omega | (simp only [rm_X8_write, rm_J6_clear, rm_X8_runFrom, rm_X8_bit]; omega)) (by first | exact Nat.le_of_ble_eq_true rfl | omega | (simp only [rm_X8_write, rm_J6_clear, rm_X8_runFrom, rm_X8_bit]; omega)) dX8_write_81 ?_
            have hab : absI (pa (orT L p_)) = nI (mg (orT L p_)) := (absI_siz _).trans hm1
            rw [hab]
            have hc3 := capF_le (n := u_6.2.1) (ln := ln_ + 1 + 1) (B := numB (lgN (mg (orT L p_))) (mg (orT L p_))) (m := 44) (by omega) (by omega) (2 * lgN (mg (orT L p_)) + 1) (by omega)
            have hg3 := capF_mono (n := u_6.2.1) (ln := ln_ + 1 + 1) (B := numB (lgN (mg (orT L p_))) (mg (orT L p_))) (Nat.zero_le (2 * lgN (mg (orT L p_)) + 1))
            have hg30 : capF u_6.2.1 (ln_ + 1 + 1) (numB (lgN (mg (orT L p_))) (mg (orT L p_))) 0 = u_6.2.1 := rfl
            refine fin_v (ws' := (fun (u_7 : Nat × Nat × Nat × (Nat → Int64)) => [oX h 7 [.ref bs, .ref cp, .int (nI (((ln_ + 1) + 1) + (2 * lgN (mg (orT L p_)) + 1))), .int (nI at_)], oX bs 10 [.ref u_7.1, .int (nI u_7.2.2.1), .int (bI false)], aJ G u_7.1 u_7.2.1 u_7.2.2.2, oX o 2 [.ref a1, .ref a2, .ref a3, .int (nI om)], aI G a1 64 (nF (orT L)), aI G sp 64 pa])) hA hS hP hD [0, 1, 2] rfl [(true, 0), (true, 1), (true, 2), (false, 3), (false, 4), (false, 5)] (fun _ => rfl) (by decide) (run_V (As := [.int (nI (mg (orT L p_)))]) (rest := []) (n9 := 1) hx hb hml hown hts hE hAb hl.1 hS hP hD [0, 1, 2] rfl (by decide) (t_X8_number l G b0 _ h bs cp u_6.1 u_6.2.1 u_6.2.2.1 ((ln_ + 1) + 1) at_ u_6.2.2.2 (mg (orT L p_)) (by exact hfB2) (by omega) (by omega) (by omega) (by omega)) (lw_V q1160 q1162 qs28 q120 q1163) 0 rfl rfl ⟨rfl, by decide, by decide, by decide +kernel⟩ ⟨Nat.le_of_ble_eq_true rfl, Nat.le_of_ble_eq_true rfl⟩ ⟨by first | exact Nat.le_of_ble_eq_true rfl | (simp only [rm_X8_write, rm_X8_number, rm_J6_clear, rm_X8_runFrom, rm_X8_bit]; omega), by first | exact Nat.le_of_ble_eq_true rfl | (simp only [rm_X8_write, rm_X8_number, rm_J6_clear, rm_X8_runFrom, rm_X8_bit]; omega)⟩ dX8_write_84 (Nat.le_of_ble_eq_true rfl) rfl rfl) (fun u_7 H locs h_7 hP hD hS => ?_)
            have hP : va_P G.1 vwCl [oX h 7 [.ref bs, .ref cp, .int (nI (((ln_ + 1) + 1) + (2 * lgN (mg (orT L p_)) + 1))), .int (nI at_)], oX bs 10 [.ref u_7.1, .int (nI u_7.2.2.1), .int (bI false)], aJ G u_7.1 u_7.2.1 u_7.2.2.2, oX o 2 [.ref a1, .ref a2, .ref a3, .int (nI om)], aI G a1 64 (nF (orT L)), aI G sp 64 pa] _ := hP
            have hD : va_D A [oX h 7 [.ref bs, .ref cp, .int (nI (((ln_ + 1) + 1) + (2 * lgN (mg (orT L p_)) + 1))), .int (nI at_)], oX bs 10 [.ref u_7.1, .int (nI u_7.2.2.1), .int (bI false)], aJ G u_7.1 u_7.2.1 u_7.2.2.2, oX o 2 [.ref a1, .ref a2, .ref a3, .int (nI om)], aI G a1 64 (nF (orT L)), aI G sp 64 pa] := hD
            have f_7 : SF u_6.2.1 u_6.2.2.1 u_6.2.2.2 ((ln_ + 1) + 1) (numB (lgN (mg (orT L p_))) (mg (orT L p_))) (2 * lgN (mg (orT L p_)) + 1) u_7.2.1 u_7.2.2.1 u_7.2.2.2 := h_7
            have hfb3 := f_7
            have hfc3 := hfb3.1
            have hfB3 := hfb3.2.1
            have hfn3 := hfB3.1
            refine lv_iload_n hx hb dX8_write_87 rfl (lv_at hl 4 rfl) ?_
            refine lv_iconst (v := nI 1) hx hb dX8_write_88 (by decide) ?_
            refine lv_iload hx hb dX8_write_89 (lv_at hl 0 rfl) ?_
            refine M_max hx hb (hml.trans hl.1.symm) hown hts q1171 q586 q137 q587 (Nat.le_of_ble_eq_true rfl) (Nat.le_of_ble_eq_true rfl) (by first | exact Nat.le_of_ble_eq_true rfl | omega | (simp only [rm_X8_write, rm_J6_clear, rm_X8_runFrom, rm_X8_bit, rm_X8_number]; omega)) (by first | exact Nat.le_of_ble_eq_true rfl | omega | (simp only [rm_X8_write, rm_J6_clear, rm_X8_runFrom, rm_X8_bit, rm_X8_number]; omega)) dX8_write_91 ?_
            have hmx : maxI (nI 1) (nI (zrN pa L p_)) = nI 1 := by rw [hz0]; rfl
            rw [hmx]
            have hwr := tok_val hL1 hL hm (by omega) hz0 bI_sg hfb1 hfb2 hv1 hfb3 hwr
            have hBn := hfB3
            refine N_iadd hx hb dX8_write_94 ?_
            refine lv_istore_n (lv' := [(3, .int (nI (p_ + 1))), (4, .int (nI (zrN pa L p_))), (0, .ref h), (1, .ref sp), (2, .ref o)]) hx hb dX8_write_95 rfl hl (by decide) rfl (fun ls hl => ?_)
            refine lv_goto (tgt := 14) hx hb dX8_write_96 (by decide) ?_
            have hl : lv_has ls 5 [(0, .ref h), (1, .ref sp), (2, .ref o), (3, .int (nI (p_ + 1)))] := lv_sub hl [2, 3, 4, 0] rfl
            refine W.widen (k := u_7.2.1 - n) (n := 2 * (u_7.2.1 - n)) (by first | omega | (simp only [rm_J6_clear, rm_X8_bit, rm_X8_number, rm_X8_runFrom]; omega)) (by first | omega | (simp only [rm_J6_clear, rm_X8_bit, rm_X8_number, rm_X8_runFrom]; omega)) ?_
            exact ih_14 (p_ + 1) (((ln_ + 1) + 1) + (2 * lgN (mg (orT L p_)) + 1)) u_7.1 u_7.2.1 u_7.2.2.1 u_7.2.2.2 (by omega) (by exact hwr) (by exact hBn) (by omega) (by omega) (by omega) (by omega) _ _ _ hP hD hS hl
          refine lv_if_ge (tgt := 68) hx hb dX8_write_61 (by decide) (fun c_61 => ?_) (fun c_61 => ?_)
          · skip
            refine lv_iconst (v := nI 0) hx hb dX8_write_68 (by decide) ?_
            exact K_61 false (by first | rfl | (try rw [if_pos c_61]) | simp_all) _ _ _ hP hD hS (lv_sub hl [0, 1, 2, 3, 4] rfl)
          · skip
            refine lv_iconst (v := nI 1) hx hb dX8_write_64 (by decide) ?_
            refine lv_goto (tgt := 69) hx hb dX8_write_65 (by decide) ?_
            exact K_61 true (by first | rfl | (try rw [if_neg c_61]) | simp_all) _ _ _ hP hD hS (lv_sub hl [0, 1, 2, 3, 4] rfl)
        · skip
          have hk9 := lg_9 (show 1 ≤ zrN pa L p_ by omega) (by omega)
          have hn1 := hBn.1
          have hc1 := capB_le (n := n_) (i := ln_) (b := false) (m := 44) (by omega) hn4 hn1
          have hg1 := capB_ge (n := n_) (i := ln_) (b := false)
          refine lv_aload_n hx hb dX8_write_33 rfl (lv_at hl 1 rfl) ?_
          refine lv_iconst (v := nI 0) hx hb dX8_write_34 (by decide) ?_
          refine fin_v (ws' := (fun (u_8 : Nat × Nat × Nat × (Nat → Int64)) => [oX h 7 [.ref bs, .ref cp, .int (nI (ln_ + 1)), .int (nI at_)], oX bs 10 [.ref u_8.1, .int (nI u_8.2.2.1), .int (bI false)], aJ G u_8.1 u_8.2.1 u_8.2.2.2, oX o 2 [.ref a1, .ref a2, .ref a3, .int (nI om)], aI G a1 64 (nF (orT L)), aI G sp 64 pa])) hA hS hP hD [0, 1, 2] rfl [(true, 0), (true, 1), (true, 2), (false, 3), (false, 4), (false, 5)] (fun _ => rfl) (by decide) (run_V (As := [.int (nI 0)]) (rest := []) (n9 := 1) hx hb hml hown hts hE hAb hl.1 hS hP hD [0, 1, 2] rfl (by decide) (t_X8_bit l G b0 _ h bs cp a_ n_ wu_ ln_ at_ w_ false (by exact hBn) (by omega) (by omega)) (lw_V q1098 q1100 qs23 q120 q1101) 0 rfl rfl ⟨rfl, by decide, by decide, by decide +kernel⟩ ⟨Nat.le_of_ble_eq_true rfl, Nat.le_of_ble_eq_true rfl⟩ ⟨by first | exact Nat.le_of_ble_eq_true rfl | (simp only [rm_X8_write, rm_X8_bit, rm_J6_clear, rm_X8_runFrom, rm_X8_number]; omega), by first | exact Nat.le_of_ble_eq_true rfl | (simp only [rm_X8_write, rm_X8_bit, rm_J6_clear, rm_X8_runFrom, rm_X8_number]; omega)⟩ dX8_write_35 (Nat.le_of_ble_eq_true rfl) rfl rfl) (fun u_8 H locs h_8 hP hD hS => ?_)
          have hP : va_P G.1 vwCl [oX h 7 [.ref bs, .ref cp, .int (nI (ln_ + 1)), .int (nI at_)], oX bs 10 [.ref u_8.1, .int (nI u_8.2.2.1), .int (bI false)], aJ G u_8.1 u_8.2.1 u_8.2.2.2, oX o 2 [.ref a1, .ref a2, .ref a3, .int (nI om)], aI G a1 64 (nF (orT L)), aI G sp 64 pa] _ := hP
          have hD : va_D A [oX h 7 [.ref bs, .ref cp, .int (nI (ln_ + 1)), .int (nI at_)], oX bs 10 [.ref u_8.1, .int (nI u_8.2.2.1), .int (bI false)], aJ G u_8.1 u_8.2.1 u_8.2.2.2, oX o 2 [.ref a1, .ref a2, .ref a3, .int (nI om)], aI G a1 64 (nF (orT L)), aI G sp 64 pa] := hD
          have f_8 : BF n_ wu_ w_ ln_ false u_8.2.1 u_8.2.2.1 u_8.2.2.2 := h_8
          have hfb1 := f_8
          have hfc1 := hfb1.1
          have hfB1 := hfb1.2.1
          have hfn1 := hfB1.1
          refine lv_aload_n hx hb dX8_write_38 rfl (lv_at hl 1 rfl) ?_
          refine lv_iload hx hb dX8_write_39 (lv_at hl 0 rfl) ?_
          have hc2 := capF_le (n := u_8.2.1) (ln := ln_ + 1) (B := numB (lgN (zrN pa L p_)) (zrN pa L p_)) (m := 44) (by omega) (by omega) (2 * lgN (zrN pa L p_) + 1) (by omega)
          have hg2 := capF_mono (n := u_8.2.1) (ln := ln_ + 1) (B := numB (lgN (zrN pa L p_)) (zrN pa L p_)) (Nat.zero_le (2 * lgN (zrN pa L p_) + 1))
          have hg20 : capF u_8.2.1 (ln_ + 1) (numB (lgN (zrN pa L p_)) (zrN pa L p_)) 0 = u_8.2.1 := rfl
          refine fin_v (ws' := (fun (u_9 : Nat × Nat × Nat × (Nat → Int64)) => [oX h 7 [.ref bs, .ref cp, .int (nI ((ln_ + 1) + (2 * lgN (zrN pa L p_) + 1))), .int (nI at_)], oX bs 10 [.ref u_9.1, .int (nI u_9.2.2.1), .int (bI false)], aJ G u_9.1 u_9.2.1 u_9.2.2.2, oX o 2 [.ref a1, .ref a2, .ref a3, .int (nI om)], aI G a1 64 (nF (orT L)), aI G sp 64 pa])) hA hS hP hD [0, 1, 2] rfl [(true, 0), (true, 1), (true, 2), (false, 3), (false, 4), (false, 5)] (fun _ => rfl) (by decide) (run_V (As := [.int (nI (zrN pa L p_))]) (rest := []) (n9 := 1) hx hb hml hown hts hE hAb hl.1 hS hP hD [0, 1, 2] rfl (by decide) (t_X8_number l G b0 _ h bs cp u_8.1 u_8.2.1 u_8.2.2.1 (ln_ + 1) at_ u_8.2.2.2 (zrN pa L p_) (by exact hfB1) (by omega) (by omega) (by omega) (by omega)) (lw_V q1160 q1162 qs28 q120 q1163) 0 rfl rfl ⟨rfl, by decide, by decide, by decide +kernel⟩ ⟨Nat.le_of_ble_eq_true rfl, Nat.le_of_ble_eq_true rfl⟩ ⟨by first | exact Nat.le_of_ble_eq_true rfl | (simp only [rm_X8_write, rm_X8_number, rm_J6_clear, rm_X8_runFrom, rm_X8_bit]; omega), by first | exact Nat.le_of_ble_eq_true rfl | (simp only [rm_X8_write, rm_X8_number, rm_J6_clear, rm_X8_runFrom, rm_X8_bit]; omega)⟩ dX8_write_41 (Nat.le_of_ble_eq_true rfl) rfl rfl) (fun u_9 H locs h_9 hP hD hS => ?_)
          have hP : va_P G.1 vwCl [oX h 7 [.ref bs, .ref cp, .int (nI ((ln_ + 1) + (2 * lgN (zrN pa L p_) + 1))), .int (nI at_)], oX bs 10 [.ref u_9.1, .int (nI u_9.2.2.1), .int (bI false)], aJ G u_9.1 u_9.2.1 u_9.2.2.2, oX o 2 [.ref a1, .ref a2, .ref a3, .int (nI om)], aI G a1 64 (nF (orT L)), aI G sp 64 pa] _ := hP
          have hD : va_D A [oX h 7 [.ref bs, .ref cp, .int (nI ((ln_ + 1) + (2 * lgN (zrN pa L p_) + 1))), .int (nI at_)], oX bs 10 [.ref u_9.1, .int (nI u_9.2.2.1), .int (bI false)], aJ G u_9.1 u_9.2.1 u_9.2.2.2, oX o 2 [.ref a1, .ref a2, .ref a3, .int (nI om)], aI G a1 64 (nF (orT L)), aI G sp 64 pa] := hD
          have f_9 : SF u_8.2.1 u_8.2.2.1 u_8.2.2.2 (ln_ + 1) (numB (lgN (zrN pa L p_)) (zrN pa L p_)) (2 * lgN (zrN pa L p_) + 1) u_9.2.1 u_9.2.2.1 u_9.2.2.2 := h_9
          have hfb2 := f_9
          have hfc2 := hfb2.1
          have hfB2 := hfb2.2.1
          have hfn2 := hfB2.1
          refine lv_goto (tgt := 87) hx hb dX8_write_44 (by decide) ?_
          refine lv_iload_n hx hb dX8_write_87 rfl (lv_at hl 4 rfl) ?_
          refine lv_iconst (v := nI 1) hx hb dX8_write_88 (by decide) ?_
          refine lv_iload hx hb dX8_write_89 (lv_at hl 0 rfl) ?_
          refine M_max hx hb (hml.trans hl.1.symm) hown hts q1171 q586 q137 q587 (Nat.le_of_ble_eq_true rfl) (Nat.le_of_ble_eq_true rfl) (by first | exact Nat.le_of_ble_eq_true rfl | omega | (simp only [rm_X8_write, rm_J6_clear, rm_X8_runFrom, rm_X8_bit, rm_X8_number]; omega)) (by first | exact Nat.le_of_ble_eq_true rfl | omega | (simp only [rm_X8_write, rm_J6_clear, rm_X8_runFrom, rm_X8_bit, rm_X8_number]; omega)) dX8_write_91 ?_
          have hmx : maxI (nI 1) (nI (zrN pa L p_)) = nI (zrN pa L p_) := (max1_z (by omega)).trans (congrArg nI (if_pos c_30))
          rw [hmx]
          have hwr := tok_run (by omega) c_30 hfb1 hfb2 hwr
          have hBn := hfB2
          refine N_iadd hx hb dX8_write_94 ?_
          refine lv_istore_n (lv' := [(3, .int (nI (p_ + (zrN pa L p_)))), (4, .int (nI (zrN pa L p_))), (0, .ref h), (1, .ref sp), (2, .ref o)]) hx hb dX8_write_95 rfl hl (by decide) rfl (fun ls hl => ?_)
          refine lv_goto (tgt := 14) hx hb dX8_write_96 (by decide) ?_
          have hl : lv_has ls 5 [(0, .ref h), (1, .ref sp), (2, .ref o), (3, .int (nI (p_ + (zrN pa L p_))))] := lv_sub hl [2, 3, 4, 0] rfl
          refine W.widen (k := u_9.2.1 - n) (n := 2 * (u_9.2.1 - n)) (by first | omega | (simp only [rm_J6_clear, rm_X8_bit, rm_X8_number, rm_X8_runFrom]; omega)) (by first | omega | (simp only [rm_J6_clear, rm_X8_bit, rm_X8_number, rm_X8_runFrom]; omega)) ?_
          exact ih_14 (p_ + (zrN pa L p_)) ((ln_ + 1) + (2 * lgN (zrN pa L p_) + 1)) u_9.1 u_9.2.1 u_9.2.2.1 u_9.2.2.2 (by omega) (by exact hwr) (by exact hBn) (by omega) (by omega) (by omega) (by omega) _ _ _ hP hD hS hl
  have hl : lv_has ls 5 [(0, .ref h), (1, .ref sp), (2, .ref o), (3, .int (nI 0))] := lv_sub hl [1, 2, 3, 0] rfl
  refine W.widen (k := n - n) (n := 2 * (n - n)) (by first | omega | (simp only [rm_J6_clear, rm_X8_bit, rm_X8_number, rm_X8_runFrom]; omega)) (by first | omega | (simp only [rm_J6_clear, rm_X8_bit, rm_X8_number, rm_X8_runFrom]; omega)) ?_
  exact lp_14 _ 0 0 a n 0 (clJ w wu 0) (by omega) (by exact wrI_0) (by exact hB0) (by omega) (by omega) (by omega) (Nat.lt_succ_self _) _ _ _ hP hD hS hl
