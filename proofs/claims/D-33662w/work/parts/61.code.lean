/-! ===== the code: read ===== -/
theorem bI_inj {a b : Bool} (h : bI a = bI b) : a = b := by
  revert h
  cases a <;> cases b <;> decide
theorem lg_top : ∀ v, v < 1024 → (1 ≤ v → v / 2 ^ lgN v = 1) := by decide +kernel
theorem lg_dv {v k j : Nat} (h : j < k) : 2 * (v / 2 ^ (k - j)) + v / 2 ^ (k - 1 - j) % 2 = v / 2 ^ (k - (j + 1)) := by
  rw [show k - j = (k - (j + 1)) + 1 by omega, show k - 1 - j = k - (j + 1) by omega, Nat.pow_succ, ← Nat.div_div_eq_div_mul]
  omega
theorem nb_lo {k v q : Nat} (h : q < k) : numB k v q = false := if_pos h
theorem nb_top {v : Nat} (h1 : 1 ≤ v) (h : v < 1024) : numB (lgN v) v (lgN v) = true := by
  unfold numB
  rw [if_neg (Nat.lt_irrefl _), show 2 * lgN v - lgN v = lgN v by omega, lg_top v h h1]
  rfl
theorem nb_nx {v j : Nat} (h1 : 1 ≤ v) (h : v < 1024) (hj : j < lgN v) : 2 * (v / 2 ^ (lgN v - j)) + (if numB (lgN v) v (lgN v + 1 + j) = true then 1 else 0) = v / 2 ^ (lgN v - (j + 1)) := by
  have h9 := lg_9 h1 h
  have e : (if numB (lgN v) v (lgN v + 1 + j) = true then 1 else 0) = v / 2 ^ (lgN v - 1 - j) % 2 := by
    have e0 : numB (lgN v) v (lgN v + 1 + j) = decide (v / 2 ^ (lgN v - 1 - j) % 2 = 1) := by
      unfold numB
      rw [if_neg (by omega), show 2 * lgN v - (lgN v + 1 + j) = lgN v - 1 - j by omega]
    rw [e0]
    by_cases c : v / 2 ^ (lgN v - 1 - j) % 2 = 1
    · rw [decide_eq_true c, if_pos rfl, c]
    · rw [decide_eq_false c, if_neg (by decide)]
      omega
  rw [e]
  exact lg_dv hj
/-- what is read so far -/
def rdI (pa : Nat → Int32) (L at_ p : Nat) : Prop := at_ + lenC pa L p = lenC pa L 0 ∧ ∀ q, bitS pa L (at_ + q) 0 = bitS pa L q p
theorem rdI_0 {pa : Nat → Int32} {L : Nat} : rdI pa L 0 0 := ⟨Nat.zero_add _, fun q => by rw [Nat.zero_add]⟩
theorem rd_s {pa : Nat → Int32} {L at_ p : Nat} (hp : p < 64) (h : rdI pa L at_ p) : rdI pa L (at_ + tokL pa L p) (p + tokS pa L p) := by
  obtain ⟨h1, h3⟩ := h
  refine ⟨by rw [← h1, lenC_lt hp]; omega, fun q => ?_⟩
  rw [Nat.add_assoc, h3, bitS_lt hp, if_neg (by omega), Nat.add_sub_cancel_left]
theorem rd_lt {pa : Nat → Int32} {L at_ p : Nat} (h : rdI pa L at_ p) (hl : at_ < lenC pa L 0) : p < 64 := by
  by_cases c : p < 64
  · exact c
  · have e : lenC pa L p = 0 := by rw [lenC, if_neg c]
    have := h.1
    omega
theorem rd_64 {pa : Nat → Int32} {L at_ p : Nat} (h : rdI pa L at_ p) (hp : p ≤ 64) (hl : lenC pa L 0 ≤ at_) : p = 64 ∧ at_ = lenC pa L 0 := by
  have h1 := h.1
  by_cases c : p < 64
  · have := lenC_lt (f := pa) (L := L) c
    have : 1 ≤ tokL pa L p := by unfold tokL; omega
    omega
  · omega
theorem rd_b {pa : Nat → Int32} {L at_ p wu : Nat} {w : Nat → Int64} (hp : p < 64) (h : rdI pa L at_ p) (hb : ∀ i, i < lenC pa L 0 → bI (rb w wu i) = bitS pa L i 0) {q : Nat} (hq : q < tokL pa L p) : bI (rb w wu (at_ + q)) = tokB pa L p q := by
  have h1 := h.1
  have h2 := lenC_lt (f := pa) (L := L) hp
  rw [hb _ (by omega), h.2 q, bitS_lt hp, if_pos hq]
theorem tk_0 {pa : Nat → Int32} {L p : Nat} : tokB pa L p 0 = bI (if 0 < zrN pa L p then false else true) := by
  have hH : 0 < tokH pa L p := by unfold tokH; split <;> omega
  unfold tokB
  rw [if_pos hH, if_pos rfl]
  unfold tokH
  split <;> rfl
theorem tk_p {pa : Nat → Int32} {L p : Nat} : 0 < tokL pa L p := by unfold tokL; omega
theorem rd_f {pa : Nat → Int32} {L at_ p wu : Nat} {w : Nat → Int64} (hp : p < 64) (h : rdI pa L at_ p) (hb : ∀ i, i < lenC pa L 0 → bI (rb w wu i) = bitS pa L i 0) : rb w wu at_ = if 0 < zrN pa L p then false else true := bI_inj ((rd_b hp h hb tk_p).trans tk_0)
theorem rd_run {pa : Nat → Int32} {L at_ p wu : Nat} {w : Nat → Int64} (hp : p < 64) (h : rdI pa L at_ p) (hb : ∀ i, i < lenC pa L 0 → bI (rb w wu i) = bitS pa L i 0) (hz : 0 < zrN pa L p) : (∀ q, q < 2 * lgN (zrN pa L p) + 1 → rb w wu (at_ + 1 + q) = numB (lgN (zrN pa L p)) (zrN pa L p) q) ∧ rdI pa L (at_ + 1 + (2 * lgN (zrN pa L p) + 1)) (p + zrN pa L p) := by
  have hzl := zrN_lt (pa := pa) (L := L) (Nat.le_of_lt hp)
  have eV : tokV pa L p = nI (zrN pa L p) := if_pos hz
  have eH : tokH pa L p = 1 := if_pos hz
  have eS : tokS pa L p = zrN pa L p := if_pos hz
  have eL : tokL pa L p = 1 + (2 * lgN (zrN pa L p) + 1) := by
    unfold tokL
    rw [eH, eV, bb_lg _ (by omega) hz]
    omega
  refine ⟨fun q hq => bI_inj ?_, ?_⟩
  · have k := rd_b hp h hb (q := 1 + q) (by omega)
    rw [Nat.add_assoc, k]
    unfold tokB
    rw [eH, eV, if_neg (by omega), Nat.add_sub_cancel_left]
    exact (bitV_n hz (by omega) (by omega)).symm
  · have k := rd_s hp h
    rw [eL, eS] at k
    rw [Nat.add_assoc]
    exact k
theorem rd_val {pa : Nat → Int32} {mg : Nat → Nat} {L at_ p wu : Nat} {w : Nat → Int64} (hL1 : 1 ≤ L) (hL : L ≤ 3) (hm : mgOK pa mg) (hp : p < 64) (h : rdI pa L at_ p) (hb : ∀ i, i < lenC pa L 0 → bI (rb w wu i) = bitS pa L i 0) (hz : zrN pa L p = 0) : 1 ≤ mg (orT L p) ∧ mg (orT L p) ≤ 510 ∧ (∀ q, q < 2 * lgN (mg (orT L p)) + 1 → rb w wu (at_ + 1 + 1 + q) = numB (lgN (mg (orT L p))) (mg (orT L p)) q) ∧ (if rb w wu (at_ + 1) = true then -(nI (mg (orT L p))) else nI (mg (orT L p))) = pa (orT L p) ∧ rdI pa L (at_ + 1 + 1 + (2 * lgN (mg (orT L p)) + 1)) (p + 1) := by
  have hx := orT_lt hL1 hL hp
  obtain ⟨m1, m2, m3⟩ := hm _ hx
  have hv1 := m3 (zr_ne hp hz)
  have eV : tokV pa L p = nI (mg (orT L p)) := (if_neg (by omega)).trans m1
  have eH : tokH pa L p = 2 := if_neg (by omega)
  have eS : tokS pa L p = 1 := if_neg (by omega)
  have eL : tokL pa L p = 2 + (2 * lgN (mg (orT L p)) + 1) := by
    unfold tokL
    rw [eH, eV, bb_lg _ (by omega) hv1]
    omega
  refine ⟨hv1, m2, fun q hq => bI_inj ?_, ?_, ?_⟩
  · have k := rd_b hp h hb (q := 2 + q) (by omega)
    rw [show at_ + 1 + 1 + q = at_ + (2 + q) by omega, k]
    unfold tokB
    rw [eH, eV, if_neg (by omega), Nat.add_sub_cancel_left]
    exact (bitV_n hv1 (by omega) (by omega)).symm
  · have k := rd_b hp h hb (q := 1) (by omega)
    unfold tokB at k
    rw [eH, if_pos (by omega), if_neg (by omega)] at k
    rw [← m1]
    unfold sizI
    by_cases c : 0 ≤ pa (orT L p)
    · rw [if_pos c] at k
      have e : rb w wu (at_ + 1) = false := bI_inj (b := false) k
      rw [e, if_neg (by decide), if_pos c]
    · rw [if_neg c] at k
      have e : rb w wu (at_ + 1) = true := bI_inj (b := true) k
      rw [e, if_pos rfl, if_neg c, Int32.neg_neg]
  · have k := rd_s hp h
    rw [eL, eS] at k
    rw [show at_ + 1 + 1 + (2 * lgN (mg (orT L p)) + 1) = at_ + (2 + (2 * lgN (mg (orT L p)) + 1)) by omega]
    exact k
def rm_X8_readNumber : Room := ({ frames := 4, cells := 0, slots := 0, locals := 130 } : Room)
set_option maxHeartbeats 400000 in
set_option maxRecDepth 100000 in
theorem t_X8_readNumber (l : Launch) (G : GG) (b0 sz : Nat) (h bs cp a n wu ln at_ : Nat) (w : Nat → Int64) (v : Nat) (hB : BW n wu w) (hn : n ≤ 500) (hat : at_ < 3000) (hv1 : 1 ≤ v) (hv : v < 1024) (hbt : ∀ q, q < 2 * lgN v + 1 → rb w wu (at_ + q) = numB (lgN v) v q) : CT l yX8_readNumber cX8_readNumber 4 (some FieldType.int) (rm_X8_readNumber) G b0 [.ref h] [oX h 7 [.ref bs, .ref cp, .int (nI ln), .int (nI at_)], oX bs 10 [.ref a, .int (nI wu), .int (bI false)], aJ G a n w] sz (Ri G (fun (r_ : Int32) (_ : Unit) => r_ = nI v) (fun (_ : Unit) => [oX h 7 [.ref bs, .ref cp, .int (nI ln), .int (nI (at_ + (2 * lgN v + 1)))], oX bs 10 [.ref a, .int (nI wu), .int (bI false)], aJ G a n w])) := by
  refine CT.go (by decide) (Nat.le_of_ble_eq_true rfl) (fun p e s m below meth c A ls AR QQ hx hb hr hlk hml hown hnm hts hE hA hAb hsz hP hD hS hl hQQ => ?_)
  have hK := hE.1
  have hown : s.vm.findClass RX8 = some m.cls := hown
  have hl : lv_has ls 4 [(0, .ref h)] := hl
  clear hsz
  have hn1 := hB.1
  have hwn := hB.2.1
  have hk9 := lg_9 hv1 hv
  refine lv_iconst (v := nI 0) hx hb dX8_readNumber_0 (by decide) ?_
  refine lv_istore_n (lv' := [(1, .int (nI 0)), (0, .ref h)]) hx hb dX8_readNumber_1 rfl hl (by decide) rfl (fun ls hl => ?_)
  have lp_2 : ∀ (n_2 : Nat) (k : Nat), (k ≤ lgN v) → (lgN v + 1 - k) < n_2 → ∀ (H : Heap) (locs : List Loc) (ls : Array Slot), va_P G.1 vwCl [oX h 7 [.ref bs, .ref cp, .int (nI ln), .int (nI (at_ + k))], oX bs 10 [.ref a, .int (nI wu), .int (bI false)], aJ G a n w] H → va_D A [oX h 7 [.ref bs, .ref cp, .int (nI ln), .int (nI (at_ + k))], oX bs 10 [.ref a, .int (nI wu), .int (bI false)], aJ G a n w] → va_S A s.heap H locs → lv_has ls 4 [(0, .ref h), (1, .int (nI k))] → W p l e (rm_X8_readNumber) s m AR below meth c H locs 0 0 QQ (F0 m 2 ls []) := by
    intro n_2
    induction n_2 with
    | zero => intro k hk hn_; exact absurd hn_ (Nat.not_lt_zero _)
    | succ n_2 ih_2 =>
      intro k hk hn_2 H locs ls hP hD hS hl
      refine lv_aload_n hx hb dX8_readNumber_2 rfl (lv_at hl 0 rfl) ?_
      refine fin_i (ws' := (fun (_ : Unit) => [oX h 7 [.ref bs, .ref cp, .int (nI ln), .int (nI ((at_ + k) + 1))], oX bs 10 [.ref a, .int (nI wu), .int (bI false)], aJ G a n w])) hA hS hP hD [0, 1, 2] rfl [(true, 0), (true, 1), (true, 2)] (fun _ => rfl) (by decide) (run_V (As := []) (rest := []) (n9 := 0) hx hb hml hown hts hE hAb hl.1 hS hP hD [0, 1, 2] rfl (by decide) (t_X8_next l G b0 _ h bs cp a n wu ln (at_ + k) w (by first | exact hB | omega) (by first | exact hB | omega) (by first | exact hB | omega)) (lw_V q1314 q1316 qs52 q120 q1317) 0 rfl rfl ⟨rfl, by decide, by decide, by decide +kernel⟩ ⟨Nat.le_of_ble_eq_true rfl, Nat.le_of_ble_eq_true rfl⟩ ⟨by first | exact Nat.le_of_ble_eq_true rfl | (simp only [rm_X8_readNumber, rm_X8_next]; omega), by first | exact Nat.le_of_ble_eq_true rfl | (simp only [rm_X8_readNumber, rm_X8_next]; omega)⟩ dX8_readNumber_3 (Nat.le_of_ble_eq_true rfl) rfl rfl) (fun r_1 u_1 H locs h_1 hP hD hS => ?_)
      have hP : va_P G.1 vwCl [oX h 7 [.ref bs, .ref cp, .int (nI ln), .int (nI ((at_ + k) + 1))], oX bs 10 [.ref a, .int (nI wu), .int (bI false)], aJ G a n w] _ := hP
      have hD : va_D A [oX h 7 [.ref bs, .ref cp, .int (nI ln), .int (nI ((at_ + k) + 1))], oX bs 10 [.ref a, .int (nI wu), .int (bI false)], aJ G a n w] := hD
      have h_1 : r_1 = (bI (rb w wu (at_ + k))) := h_1
      rw [h_1]
      refine B_if_ne (tgt := 15) hx hb dX8_readNumber_6 (by decide) (fun c_6 => ?_) (fun c_6 => ?_)
      · skip
        have hkl : k = lgN v := by rcases Nat.lt_or_ge k (lgN v) with z | z; exact absurd (c_6.symm.trans ((hbt k (by omega)).trans (nb_lo z))) (by decide); omega
        subst hkl
        refine lv_iconst (v := nI 1) hx hb dX8_readNumber_15 (by decide) ?_
        refine lv_istore_n (lv' := [(2, .int (nI 1)), (0, .ref h), (1, .int (nI (lgN v)))]) hx hb dX8_readNumber_16 rfl hl (by decide) rfl (fun ls hl => ?_)
        refine lv_iconst (v := nI 0) hx hb dX8_readNumber_17 (by decide) ?_
        refine lv_istore_n (lv' := [(3, .int (nI 0)), (2, .int (nI 1)), (0, .ref h), (1, .int (nI (lgN v)))]) hx hb dX8_readNumber_18 rfl hl (by decide) rfl (fun ls hl => ?_)
        have lp_19 : ∀ (n_19 : Nat) (j : Nat), (j ≤ lgN v) → (lgN v - j) < n_19 → ∀ (H : Heap) (locs : List Loc) (ls : Array Slot), va_P G.1 vwCl [oX h 7 [.ref bs, .ref cp, .int (nI ln), .int (nI (at_ + (lgN v + 1 + j)))], oX bs 10 [.ref a, .int (nI wu), .int (bI false)], aJ G a n w] H → va_D A [oX h 7 [.ref bs, .ref cp, .int (nI ln), .int (nI (at_ + (lgN v + 1 + j)))], oX bs 10 [.ref a, .int (nI wu), .int (bI false)], aJ G a n w] → va_S A s.heap H locs → lv_has ls 4 [(0, .ref h), (1, .int (nI (lgN v))), (2, .int (nI (v / 2 ^ (lgN v - j)))), (3, .int (nI j))] → W p l e (rm_X8_readNumber) s m AR below meth c H locs 0 0 QQ (F0 m 19 ls []) := by
          intro n_19
          induction n_19 with
          | zero => intro j hj hn_; exact absurd hn_ (Nat.not_lt_zero _)
          | succ n_19 ih_19 =>
            intro j hj hn_19 H locs ls hP hD hS hl
            refine lv_iload_n hx hb dX8_readNumber_19 rfl (lv_at hl 3 rfl) ?_
            refine lv_iload_n hx hb dX8_readNumber_20 rfl (lv_at hl 1 rfl) ?_
            refine N_icmp_ge (tgt := 47) hx hb dX8_readNumber_21 (by decide) (by omega) (by omega) (fun c_21 => ?_) (fun c_21 => ?_)
            · skip
              obtain rfl : lgN v = j := by omega
              refine lv_iload_n hx hb dX8_readNumber_47 rfl (lv_at hl 2 rfl) ?_
              have e_2 : (at_ + (lgN v + 1 + (lgN v))) = (at_ + (2 * lgN v + 1)) := by omega
              rw [show [oX h 7 [.ref bs, .ref cp, .int (nI ln), .int (nI (at_ + (lgN v + 1 + (lgN v))))], oX bs 10 [.ref a, .int (nI wu), .int (bI false)], aJ G a n w] = [oX h 7 [.ref bs, .ref cp, .int (nI ln), .int (nI (at_ + (2 * lgN v + 1)))], oX bs 10 [.ref a, .int (nI wu), .int (bI false)], aJ G a n w] from congrArg (fun z_ => [oX h 7 [.ref bs, .ref cp, .int (nI ln), .int (nI z_)], oX bs 10 [.ref a, .int (nI wu), .int (bI false)], aJ G a n w]) e_2] at hP hD
              have hP : va_P G.1 vwCl [oX h 7 [.ref bs, .ref cp, .int (nI ln), .int (nI (at_ + (2 * lgN v + 1)))], oX bs 10 [.ref a, .int (nI wu), .int (bI false)], aJ G a n w] _ := hP
              have hD : va_D A [oX h 7 [.ref bs, .ref cp, .int (nI ln), .int (nI (at_ + (2 * lgN v + 1)))], oX bs 10 [.ref a, .int (nI wu), .int (bI false)], aJ G a n w] := hD
              rw [hQQ]
              exact rt_i hx hb hr hlk  ((())) dX8_readNumber_48 hP hD hS (by first | exact Nat.le_of_ble_eq_true rfl | (simp only [rm_X8_readNumber, rm_X8_next]; omega) | omega) (by first | exact Nat.le_of_ble_eq_true rfl | (simp only [rm_X8_readNumber, rm_X8_next]; omega) | omega) (by (rw [Nat.sub_self, Nat.pow_zero, Nat.div_one]))
            · skip
              refine lv_iconst (v := nI 2) hx hb dX8_readNumber_24 (by decide) ?_
              refine lv_iload_n hx hb dX8_readNumber_25 rfl (lv_at hl 2 rfl) ?_
              refine N_imul hx hb dX8_readNumber_26 ?_
              refine lv_aload_n hx hb dX8_readNumber_27 rfl (lv_at hl 0 rfl) ?_
              refine fin_i (ws' := (fun (_ : Unit) => [oX h 7 [.ref bs, .ref cp, .int (nI ln), .int (nI ((at_ + (lgN v + 1 + j)) + 1))], oX bs 10 [.ref a, .int (nI wu), .int (bI false)], aJ G a n w])) hA hS hP hD [0, 1, 2] rfl [(true, 0), (true, 1), (true, 2)] (fun _ => rfl) (by decide) (run_V (As := []) (rest := [.int (nI (2 * (v / 2 ^ (lgN v - j))))]) (n9 := 0) hx hb hml hown hts hE hAb hl.1 hS hP hD [0, 1, 2] rfl (by decide) (t_X8_next l G b0 _ h bs cp a n wu ln (at_ + (lgN v + 1 + j)) w (by first | exact hB | omega) (by first | exact hB | omega) (by first | exact hB | omega)) (lw_V q1314 q1316 qs52 q120 q1317) 0 rfl rfl ⟨rfl, by decide, by decide, by decide +kernel⟩ ⟨Nat.le_of_ble_eq_true rfl, Nat.le_of_ble_eq_true rfl⟩ ⟨by first | exact Nat.le_of_ble_eq_true rfl | (simp only [rm_X8_readNumber, rm_X8_next]; omega), by first | exact Nat.le_of_ble_eq_true rfl | (simp only [rm_X8_readNumber, rm_X8_next]; omega)⟩ dX8_readNumber_28 (Nat.le_of_ble_eq_true rfl) rfl rfl) (fun r_3 u_3 H locs h_3 hP hD hS => ?_)
              have hP : va_P G.1 vwCl [oX h 7 [.ref bs, .ref cp, .int (nI ln), .int (nI ((at_ + (lgN v + 1 + j)) + 1))], oX bs 10 [.ref a, .int (nI wu), .int (bI false)], aJ G a n w] _ := hP
              have hD : va_D A [oX h 7 [.ref bs, .ref cp, .int (nI ln), .int (nI ((at_ + (lgN v + 1 + j)) + 1))], oX bs 10 [.ref a, .int (nI wu), .int (bI false)], aJ G a n w] := hD
              have h_3 : r_3 = (bI (rb w wu (at_ + (lgN v + 1 + j)))) := h_3
              rw [h_3]
              have K_31 : ∀ (v_4 : Nat) (_ : v_4 = if (rb w wu (at_ + (lgN v + 1 + j))) = true then 1 else 0) (H : Heap) (locs : List Loc) (ls : Array Slot), va_P G.1 vwCl [oX h 7 [.ref bs, .ref cp, .int (nI ln), .int (nI ((at_ + (lgN v + 1 + j)) + 1))], oX bs 10 [.ref a, .int (nI wu), .int (bI false)], aJ G a n w] H → va_D A [oX h 7 [.ref bs, .ref cp, .int (nI ln), .int (nI ((at_ + (lgN v + 1 + j)) + 1))], oX bs 10 [.ref a, .int (nI wu), .int (bI false)], aJ G a n w] → va_S A s.heap H locs → lv_has ls 4 [(0, .ref h), (1, .int (nI (lgN v))), (2, .int (nI (v / 2 ^ (lgN v - j)))), (3, .int (nI j))] → W p l e (rm_X8_readNumber) s m AR below meth c H locs 0 0 QQ (F0 m 39 ls [.int (nI v_4), .int (nI (2 * (v / 2 ^ (lgN v - j))))]) := by
                intro v_4 e_v_4 H locs ls hP hD hS hl
                subst e_v_4
                refine N_iadd hx hb dX8_readNumber_39 ?_
                refine lv_istore_n (lv' := [(2, .int (nI ((2 * (v / 2 ^ (lgN v - j))) + (if (rb w wu (at_ + (lgN v + 1 + j))) = true then 1 else 0)))), (0, .ref h), (1, .int (nI (lgN v))), (3, .int (nI j))]) hx hb dX8_readNumber_40 rfl hl (by decide) rfl (fun ls hl => ?_)
                refine N_iinc (a := j) (b := 1) (k9 := 3) (lv' := [(3, .int (nI (j + 1))), (2, .int (nI ((2 * (v / 2 ^ (lgN v - j))) + (if (rb w wu (at_ + (lgN v + 1 + j))) = true then 1 else 0)))), (0, .ref h), (1, .int (nI (lgN v)))]) hx hb dX8_readNumber_41 hl rfl rfl (by decide) rfl (fun ls hl => ?_)
                refine lv_goto (tgt := 19) hx hb dX8_readNumber_44 (by decide) ?_
                have hP : va_P G.1 vwCl [oX h 7 [.ref bs, .ref cp, .int (nI ln), .int (nI (at_ + (lgN v + 1 + (j + 1))))], oX bs 10 [.ref a, .int (nI wu), .int (bI false)], aJ G a n w] _ := hP
                have hD : va_D A [oX h 7 [.ref bs, .ref cp, .int (nI ln), .int (nI (at_ + (lgN v + 1 + (j + 1))))], oX bs 10 [.ref a, .int (nI wu), .int (bI false)], aJ G a n w] := hD
                have hl : lv_has ls 4 [(0, .ref h), (1, .int (nI (lgN v))), (2, .int (nI ((2 * (v / 2 ^ (lgN v - j))) + (if (rb w wu (at_ + (lgN v + 1 + j))) = true then 1 else 0)))), (3, .int (nI (j + 1)))] := lv_sub hl [2, 3, 1, 0] rfl
                have e_5 : (nI ((2 * (v / 2 ^ (lgN v - j))) + (if (rb w wu (at_ + (lgN v + 1 + j))) = true then 1 else 0))) = (nI (v / 2 ^ (lgN v - (j + 1)))) := by (rw [hbt _ (by omega)]; exact congrArg nI (nb_nx hv1 hv (by omega)))
                rw [e_5] at hl
                have hl : lv_has ls 4 [(0, .ref h), (1, .int (nI (lgN v))), (2, .int (nI (v / 2 ^ (lgN v - (j + 1))))), (3, .int (nI (j + 1)))] := hl
                exact ih_19 (j + 1) (by omega) (by omega) _ _ _ hP hD hS hl
              refine B_if_eq (tgt := 38) hx hb dX8_readNumber_31 (by decide) (fun c_31 => ?_) (fun c_31 => ?_)
              · skip
                refine lv_iconst (v := nI 0) hx hb dX8_readNumber_38 (by decide) ?_
                exact K_31 0 (by first | rfl | (try rw [if_neg (ne_true_of_eq_false c_31)]) | simp_all) _ _ _ hP hD hS (lv_sub hl [0, 1, 2, 3] rfl)
              · skip
                refine lv_iconst (v := nI 1) hx hb dX8_readNumber_34 (by decide) ?_
                refine lv_goto (tgt := 39) hx hb dX8_readNumber_35 (by decide) ?_
                exact K_31 1 (by first | rfl | (try rw [if_pos c_31]) | simp_all) _ _ _ hP hD hS (lv_sub hl [0, 1, 2, 3] rfl)
        have e_6 : ((at_ + (lgN v)) + 1) = (at_ + (lgN v + 1 + 0)) := by omega
        rw [show [oX h 7 [.ref bs, .ref cp, .int (nI ln), .int (nI ((at_ + (lgN v)) + 1))], oX bs 10 [.ref a, .int (nI wu), .int (bI false)], aJ G a n w] = [oX h 7 [.ref bs, .ref cp, .int (nI ln), .int (nI (at_ + (lgN v + 1 + 0)))], oX bs 10 [.ref a, .int (nI wu), .int (bI false)], aJ G a n w] from congrArg (fun z_ => [oX h 7 [.ref bs, .ref cp, .int (nI ln), .int (nI z_)], oX bs 10 [.ref a, .int (nI wu), .int (bI false)], aJ G a n w]) e_6] at hP hD
        have hP : va_P G.1 vwCl [oX h 7 [.ref bs, .ref cp, .int (nI ln), .int (nI (at_ + (lgN v + 1 + 0)))], oX bs 10 [.ref a, .int (nI wu), .int (bI false)], aJ G a n w] _ := hP
        have hD : va_D A [oX h 7 [.ref bs, .ref cp, .int (nI ln), .int (nI (at_ + (lgN v + 1 + 0)))], oX bs 10 [.ref a, .int (nI wu), .int (bI false)], aJ G a n w] := hD
        have hl : lv_has ls 4 [(0, .ref h), (1, .int (nI (lgN v))), (2, .int (nI 1)), (3, .int (nI 0))] := lv_sub hl [2, 3, 1, 0] rfl
        have e_7 : (nI 1) = (nI (v / 2 ^ (lgN v - 0))) := by exact congrArg nI (lg_top v hv hv1).symm
        rw [e_7] at hl
        have hl : lv_has ls 4 [(0, .ref h), (1, .int (nI (lgN v))), (2, .int (nI (v / 2 ^ (lgN v - 0)))), (3, .int (nI 0))] := hl
        exact lp_19 _ 0 (by omega) (Nat.lt_succ_self _) _ _ _ hP hD hS hl
      · skip
        have hkl : k < lgN v := by rcases Nat.lt_or_ge k (lgN v) with z | z; exact z; (have hq := c_6.symm.trans (hbt k (by omega)); rw [show k = lgN v by omega, nb_top hv1 hv] at hq; cases hq)
        refine N_iinc (a := k) (b := 1) (k9 := 1) (lv' := [(1, .int (nI (k + 1))), (0, .ref h)]) hx hb dX8_readNumber_9 hl rfl rfl (by decide) rfl (fun ls hl => ?_)
        refine lv_goto (tgt := 2) hx hb dX8_readNumber_12 (by decide) ?_
        have hP : va_P G.1 vwCl [oX h 7 [.ref bs, .ref cp, .int (nI ln), .int (nI (at_ + (k + 1)))], oX bs 10 [.ref a, .int (nI wu), .int (bI false)], aJ G a n w] _ := hP
        have hD : va_D A [oX h 7 [.ref bs, .ref cp, .int (nI ln), .int (nI (at_ + (k + 1)))], oX bs 10 [.ref a, .int (nI wu), .int (bI false)], aJ G a n w] := hD
        have hl : lv_has ls 4 [(0, .ref h), (1, .int (nI (k + 1)))] := lv_sub hl [1, 0] rfl
        exact ih_2 (k + 1) (by omega) (by omega) _ _ _ hP hD hS hl
  have hP : va_P G.1 vwCl [oX h 7 [.ref bs, .ref cp, .int (nI ln), .int (nI (at_ + 0))], oX bs 10 [.ref a, .int (nI wu), .int (bI false)], aJ G a n w] _ := hP
  have hD : va_D A [oX h 7 [.ref bs, .ref cp, .int (nI ln), .int (nI (at_ + 0))], oX bs 10 [.ref a, .int (nI wu), .int (bI false)], aJ G a n w] := hD
  have hl : lv_has ls 4 [(0, .ref h), (1, .int (nI 0))] := lv_sub hl [1, 0] rfl
  exact lp_2 _ 0 (by omega) (Nat.lt_succ_self _) _ _ _ hP hD hS hl
def rm_X8_read : Room := ({ frames := 5, cells := 0, slots := 0, locals := 153 } : Room)
set_option maxHeartbeats 400000 in
set_option maxRecDepth 100000 in
theorem t_X8_read (l : Launch) (G : GG) (b0 sz : Nat) (h bs cp a n wu at_ : Nat) (w : Nat → Int64) (L : Nat) (f pa : Nat → Int32) (mg : Nat → Nat) (hB : BW n wu w) (hn : n ≤ 500) (hL1 : 1 ≤ L) (hL : L ≤ 3) (hm : mgOK pa mg) (hl13 : lenC pa L 0 ≤ 1344) (hbt : ∀ i, i < lenC pa L 0 → bI (rb w wu i) = bitS pa L i 0) : CT l yX8_read cX8_read 4 (some (FieldType.array FieldType.int)) (rm_X8_read) G b0 [.ref h] [oX h 7 [.ref bs, .ref cp, .int (nI (lenC pa L 0)), .int (nI at_)], oX bs 10 [.ref a, .int (nI wu), .int (bI false)], aJ G a n w, aI G cp 64 f] sz (Rr G (fun (_ : Unit) => True) (fun (_ : Unit) => cp) (fun (_ : Unit) => [oX h 7 [.ref bs, .ref cp, .int (nI (lenC pa L 0)), .int (nI (lenC pa L 0))], oX bs 10 [.ref a, .int (nI wu), .int (bI false)], aJ G a n w, aI G cp 64 (fun j => pa (orT L j))])) := by
  refine CT.go (by decide) (Nat.le_of_ble_eq_true rfl) (fun p e s m below meth c A ls AR QQ hx hb hr hlk hml hown hnm hts hE hA hAb hsz hP hD hS hl hQQ => ?_)
  have hK := hE.1
  have hown : s.vm.findClass RX8 = some m.cls := hown
  have hl : lv_has ls 4 [(0, .ref h)] := hl
  clear hsz
  have hn1 := hB.1
  have hwn := hB.2.1
  refine lv_aload_n hx hb dX8_read_0 rfl (lv_at hl 0 rfl) ?_
  refine lv_iconst (v := nI 0) hx hb dX8_read_1 (by decide) ?_
  refine va_put (D := G.1) (ci := 7) (v := .int (nI 0)) (ty := .int) (C := RX8) (T := TX8) (N := 4) hx hb hts in_X8 tyX8 tyX8_ok nmX8 hown hK hP hD hS 0 rfl rfl 3 (by decide) (hts _ q425) (fun _ h9 => h9) rfl (by decide +kernel) rfl rfl (Nat.le_of_ble_eq_true rfl) dX8_read_2 (fun H locs hP hD hS => ?_)
  have hP : va_P G.1 vwCl [oX h 7 [.ref bs, .ref cp, .int (nI (lenC pa L 0)), .int (nI 0)], oX bs 10 [.ref a, .int (nI wu), .int (bI false)], aJ G a n w, aI G cp 64 f] _ := hP
  have hD : va_D A [oX h 7 [.ref bs, .ref cp, .int (nI (lenC pa L 0)), .int (nI 0)], oX bs 10 [.ref a, .int (nI wu), .int (bI false)], aJ G a n w, aI G cp 64 f] := hD
  refine lv_iconst (v := nI 0) hx hb dX8_read_5 (by decide) ?_
  refine lv_istore_n (lv' := [(1, .int (nI 0)), (0, .ref h)]) hx hb dX8_read_6 rfl hl (by decide) rfl (fun ls hl => ?_)
  have lp_7 : ∀ (n_7 : Nat) (p_ r_ : Nat) (g_ : Nat → Int32), (p_ ≤ 64) → (rdI pa L r_ p_) → (∀ j, j < p_ → g_ j = pa (orT L j)) → (64 - p_) < n_7 → ∀ (H : Heap) (locs : List Loc) (ls : Array Slot), va_P G.1 vwCl [oX h 7 [.ref bs, .ref cp, .int (nI (lenC pa L 0)), .int (nI r_)], oX bs 10 [.ref a, .int (nI wu), .int (bI false)], aJ G a n w, aI G cp 64 g_] H → va_D A [oX h 7 [.ref bs, .ref cp, .int (nI (lenC pa L 0)), .int (nI r_)], oX bs 10 [.ref a, .int (nI wu), .int (bI false)], aJ G a n w, aI G cp 64 g_] → va_S A s.heap H locs → lv_has ls 4 [(0, .ref h), (1, .int (nI p_))] → W p l e (rm_X8_read) s m AR below meth c H locs 0 0 QQ (F0 m 7 ls []) := by
    intro n_7
    induction n_7 with
    | zero => intro p_ r_ g_ hp hr1 hg hn_; exact absurd hn_ (Nat.not_lt_zero _)
    | succ n_7 ih_7 =>
      intro p_ r_ g_ hp hr1 hg hn_7 H locs ls hP hD hS hl
      refine lv_aload_n hx hb dX8_read_7 rfl (lv_at hl 0 rfl) ?_
      have hrl9 := hr1.1
      refine va_get (D := G.1) (ci := 7) (v := .int (nI r_)) (C := RX8) (T := TX8) (N := 4) hx hb hts in_X8 hown hK hP 0 rfl rfl 3 (by decide) (hts _ q425) (fun _ h9 => h9) rfl dX8_read_8 ?_
      refine lv_aload_n hx hb dX8_read_11 rfl (lv_at hl 0 rfl) ?_
      refine va_get (D := G.1) (ci := 7) (v := .int (nI (lenC pa L 0))) (C := RX8) (T := TX8) (N := 4) hx hb hts in_X8 hown hK hP 0 rfl rfl 2 (by decide) (hts _ q423) (fun _ h9 => h9) rfl dX8_read_12 ?_
      refine N_icmp_ge (tgt := 70) hx hb dX8_read_15 (by decide) (by omega) (by omega) (fun c_15 => ?_) (fun c_15 => ?_)
      · skip
        obtain ⟨hpe, hre⟩ := rd_64 hr1 hp (by omega)
        refine lv_aload_n hx hb dX8_read_70 rfl (lv_at hl 0 rfl) ?_
        refine va_get (D := G.1) (ci := 7) (v := .ref cp) (C := RX8) (T := TX8) (N := 4) hx hb hts in_X8 hown hK hP 0 rfl rfl 1 (by decide) (hts _ q422) (fun _ h9 => h9) rfl dX8_read_71 ?_
        have e_1 : (r_) = (lenC pa L 0) := by exact hre
        rw [show [oX h 7 [.ref bs, .ref cp, .int (nI (lenC pa L 0)), .int (nI r_)], oX bs 10 [.ref a, .int (nI wu), .int (bI false)], aJ G a n w, aI G cp 64 g_] = [oX h 7 [.ref bs, .ref cp, .int (nI (lenC pa L 0)), .int (nI (lenC pa L 0))], oX bs 10 [.ref a, .int (nI wu), .int (bI false)], aJ G a n w, aI G cp 64 g_] from congrArg (fun z_ => [oX h 7 [.ref bs, .ref cp, .int (nI (lenC pa L 0)), .int (nI z_)], oX bs 10 [.ref a, .int (nI wu), .int (bI false)], aJ G a n w, aI G cp 64 g_]) e_1] at hP hD
        have e_2 : ∀ j, j < 64 → (g_) j = (fun j => pa (orT L j)) j := by exact fun j hj => hg j (by omega)
        have hP : va_P G.1 vwCl [oX h 7 [.ref bs, .ref cp, .int (nI (lenC pa L 0)), .int (nI (lenC pa L 0))], oX bs 10 [.ref a, .int (nI wu), .int (bI false)], aJ G a n w, aI G cp 64 (fun j => pa (orT L j))] _ := cong_P (q0 := 3) e_2 rfl rfl hP
        have hD : va_D A [oX h 7 [.ref bs, .ref cp, .int (nI (lenC pa L 0)), .int (nI (lenC pa L 0))], oX bs 10 [.ref a, .int (nI wu), .int (bI false)], aJ G a n w, aI G cp 64 (fun j => pa (orT L j))] := cong_D (q0 := 3) rfl rfl hD
        have hP : va_P G.1 vwCl [oX h 7 [.ref bs, .ref cp, .int (nI (lenC pa L 0)), .int (nI (lenC pa L 0))], oX bs 10 [.ref a, .int (nI wu), .int (bI false)], aJ G a n w, aI G cp 64 (fun j => pa (orT L j))] _ := hP
        have hD : va_D A [oX h 7 [.ref bs, .ref cp, .int (nI (lenC pa L 0)), .int (nI (lenC pa L 0))], oX bs 10 [.ref a, .int (nI wu), .int (bI false)], aJ G a n w, aI G cp 64 (fun j => pa (orT L j))] := hD
        rw [hQQ]
        exact rt_r hx hb hr hlk (by first | exact Or.inl ⟨_, rfl⟩ | exact Or.inr ⟨_, rfl⟩) ((())) dX8_read_74 hP hD hS (by first | exact Nat.le_of_ble_eq_true rfl | (simp only [rm_X8_read]; omega) | omega) (by first | exact Nat.le_of_ble_eq_true rfl | (simp only [rm_X8_read]; omega) | omega) (by rfl) trivial
      · skip
        have hp6 := rd_lt hr1 (by omega)
        have hrl := hr1.1
        have hrf := rd_f hp6 hr1 hbt
        refine lv_aload_n hx hb dX8_read_18 rfl (lv_at hl 0 rfl) ?_
        refine fin_i (ws' := (fun (_ : Unit) => [oX h 7 [.ref bs, .ref cp, .int (nI (lenC pa L 0)), .int (nI (r_ + 1))], oX bs 10 [.ref a, .int (nI wu), .int (bI false)], aJ G a n w, aI G cp 64 g_])) hA hS hP hD [0, 1, 2] rfl [(true, 0), (true, 1), (true, 2), (false, 3)] (fun _ => rfl) (by decide) (run_V (As := []) (rest := []) (n9 := 0) hx hb hml hown hts hE hAb hl.1 hS hP hD [0, 1, 2] rfl (by decide) (t_X8_next l G b0 _ h bs cp a n wu (lenC pa L 0) r_ w (by first | exact hB | omega) (by first | exact hB | omega) (by first | exact hB | omega)) (lw_V q1314 q1316 qs52 q120 q1317) 0 rfl rfl ⟨rfl, by decide, by decide, by decide +kernel⟩ ⟨Nat.le_of_ble_eq_true rfl, Nat.le_of_ble_eq_true rfl⟩ ⟨by first | exact Nat.le_of_ble_eq_true rfl | (simp only [rm_X8_read, rm_X8_next]; omega), by first | exact Nat.le_of_ble_eq_true rfl | (simp only [rm_X8_read, rm_X8_next]; omega)⟩ dX8_read_19 (Nat.le_of_ble_eq_true rfl) rfl rfl) (fun r_3 u_3 H locs h_3 hP hD hS => ?_)
        have hP : va_P G.1 vwCl [oX h 7 [.ref bs, .ref cp, .int (nI (lenC pa L 0)), .int (nI (r_ + 1))], oX bs 10 [.ref a, .int (nI wu), .int (bI false)], aJ G a n w, aI G cp 64 g_] _ := hP
        have hD : va_D A [oX h 7 [.ref bs, .ref cp, .int (nI (lenC pa L 0)), .int (nI (r_ + 1))], oX bs 10 [.ref a, .int (nI wu), .int (bI false)], aJ G a n w, aI G cp 64 g_] := hD
        have h_3 : r_3 = (bI (rb w wu r_)) := h_3
        rw [h_3]
        refine B_if_eq (tgt := 57) hx hb dX8_read_22 (by decide) (fun c_22 => ?_) (fun c_22 => ?_)
        · skip
          have hz0 : 0 < zrN pa L p_ := by rcases Nat.eq_zero_or_pos (zrN pa L p_) with z | z; (rw [if_neg (by omega)] at hrf; exact absurd (hrf.symm.trans c_22) (by decide)); exact z
          obtain ⟨hnb, hr2⟩ := rd_run hp6 hr1 hbt hz0
          have hzl := zrN_le pa L p_ (by omega)
          have hk9 := lg_9 hz0 (by omega)
          have hr21 := hr2.1
          have hg2 : ∀ j, j < p_ + zrN pa L p_ → zoF p_ (zrN pa L p_) g_ j = pa (orT L j) := by intro j hj; unfold zoF; by_cases c : p_ ≤ j; (rw [if_pos ⟨c, hj⟩, show j = p_ + (j - p_) by omega]; exact (zr_all (by omega)).2.symm); (rw [if_neg (by omega)]; exact hg j (by omega))
          refine lv_aload_n hx hb dX8_read_57 rfl (lv_at hl 0 rfl) ?_
          refine lv_iload_n hx hb dX8_read_58 rfl (lv_at hl 1 rfl) ?_
          refine lv_aload_n hx hb dX8_read_59 rfl (lv_at hl 0 rfl) ?_
          refine fin_i (ws' := (fun (_ : Unit) => [oX h 7 [.ref bs, .ref cp, .int (nI (lenC pa L 0)), .int (nI ((r_ + 1) + (2 * lgN (zrN pa L p_) + 1)))], oX bs 10 [.ref a, .int (nI wu), .int (bI false)], aJ G a n w, aI G cp 64 g_])) hA hS hP hD [0, 1, 2] rfl [(true, 0), (true, 1), (true, 2), (false, 3)] (fun _ => rfl) (by decide) (run_V (As := []) (rest := [.int (nI p_), .ref h]) (n9 := 0) hx hb hml hown hts hE hAb hl.1 hS hP hD [0, 1, 2] rfl (by decide) (t_X8_readNumber l G b0 _ h bs cp a n wu (lenC pa L 0) (r_ + 1) w (zrN pa L p_) (by first | exact hB | omega) (by first | exact hB | omega) (by first | exact hB | omega) (by first | exact hB | omega) (by first | exact hB | omega) (by exact hnb)) (lw_V q1322 q1324 qs53 q120 q1325) 0 rfl rfl ⟨rfl, by decide, by decide, by decide +kernel⟩ ⟨Nat.le_of_ble_eq_true rfl, Nat.le_of_ble_eq_true rfl⟩ ⟨by first | exact Nat.le_of_ble_eq_true rfl | (simp only [rm_X8_read, rm_X8_readNumber, rm_X8_next]; omega), by first | exact Nat.le_of_ble_eq_true rfl | (simp only [rm_X8_read, rm_X8_readNumber, rm_X8_next]; omega)⟩ dX8_read_60 (Nat.le_of_ble_eq_true rfl) rfl rfl) (fun r_4 u_4 H locs h_4 hP hD hS => ?_)
          have hP : va_P G.1 vwCl [oX h 7 [.ref bs, .ref cp, .int (nI (lenC pa L 0)), .int (nI ((r_ + 1) + (2 * lgN (zrN pa L p_) + 1)))], oX bs 10 [.ref a, .int (nI wu), .int (bI false)], aJ G a n w, aI G cp 64 g_] _ := hP
          have hD : va_D A [oX h 7 [.ref bs, .ref cp, .int (nI (lenC pa L 0)), .int (nI ((r_ + 1) + (2 * lgN (zrN pa L p_) + 1)))], oX bs 10 [.ref a, .int (nI wu), .int (bI false)], aJ G a n w, aI G cp 64 g_] := hD
          have h_4 : r_4 = (nI (zrN pa L p_)) := h_4
          rw [h_4]
          refine fin_i (ws' := (fun (_ : Unit) => [oX h 7 [.ref bs, .ref cp, .int (nI (lenC pa L 0)), .int (nI ((r_ + 1) + (2 * lgN (zrN pa L p_) + 1)))], oX bs 10 [.ref a, .int (nI wu), .int (bI false)], aJ G a n w, aI G cp 64 (zoF p_ (zrN pa L p_) g_)])) hA hS hP hD [0, 3] rfl [(true, 0), (false, 1), (false, 2), (true, 1)] (fun _ => rfl) (by decide) (run_V (As := [.int (nI p_), .int (nI (zrN pa L p_))]) (rest := []) (n9 := 2) hx hb hml hown hts hE hAb hl.1 hS hP hD [0, 3] rfl (by decide) (t_X8_zeros l G b0 _ h bs cp (lenC pa L 0) ((r_ + 1) + (2 * lgN (zrN pa L p_) + 1)) p_ (zrN pa L p_) g_ (by omega)) (lw_V q1326 q1328 qs54 q120 q1329) 0 rfl rfl ⟨rfl, by decide, by decide, by decide +kernel⟩ ⟨Nat.le_of_ble_eq_true rfl, Nat.le_of_ble_eq_true rfl⟩ ⟨by first | exact Nat.le_of_ble_eq_true rfl | (simp only [rm_X8_read, rm_X8_zeros, rm_X8_next, rm_X8_readNumber]; omega), by first | exact Nat.le_of_ble_eq_true rfl | (simp only [rm_X8_read, rm_X8_zeros, rm_X8_next, rm_X8_readNumber]; omega)⟩ dX8_read_63 (Nat.le_of_ble_eq_true rfl) rfl rfl) (fun r_5 u_5 H locs h_5 hP hD hS => ?_)
          have hP : va_P G.1 vwCl [oX h 7 [.ref bs, .ref cp, .int (nI (lenC pa L 0)), .int (nI ((r_ + 1) + (2 * lgN (zrN pa L p_) + 1)))], oX bs 10 [.ref a, .int (nI wu), .int (bI false)], aJ G a n w, aI G cp 64 (zoF p_ (zrN pa L p_) g_)] _ := hP
          have hD : va_D A [oX h 7 [.ref bs, .ref cp, .int (nI (lenC pa L 0)), .int (nI ((r_ + 1) + (2 * lgN (zrN pa L p_) + 1)))], oX bs 10 [.ref a, .int (nI wu), .int (bI false)], aJ G a n w, aI G cp 64 (zoF p_ (zrN pa L p_) g_)] := hD
          have h_5 : r_5 = (nI (p_ + (zrN pa L p_))) := h_5
          rw [h_5]
          refine lv_istore_n (lv' := [(1, .int (nI (p_ + (zrN pa L p_)))), (0, .ref h)]) hx hb dX8_read_66 rfl hl (by decide) rfl (fun ls hl => ?_)
          refine lv_goto (tgt := 7) hx hb dX8_read_67 (by decide) ?_
          have hl : lv_has ls 4 [(0, .ref h), (1, .int (nI (p_ + (zrN pa L p_))))] := lv_sub hl [1, 0] rfl
          exact ih_7 (p_ + (zrN pa L p_)) ((r_ + 1) + (2 * lgN (zrN pa L p_) + 1)) (zoF p_ (zrN pa L p_) g_) (by omega) (by exact hr2) (by exact hg2) (by omega) _ _ _ hP hD hS hl
        · skip
          have hz0 : zrN pa L p_ = 0 := by rcases Nat.eq_zero_or_pos (zrN pa L p_) with z | z; exact z; rw [if_pos z] at hrf; exact absurd (hrf.symm.trans c_22) (by decide)
          obtain ⟨hv1, hv2, hnb, hpv, hr2⟩ := rd_val hL1 hL hm hp6 hr1 hbt hz0
          have hk9 := lg_9 hv1 (by omega)
          have hr21 := hr2.1
          refine lv_aload_n hx hb dX8_read_25 rfl (lv_at hl 0 rfl) ?_
          refine fin_i (ws' := (fun (_ : Unit) => [oX h 7 [.ref bs, .ref cp, .int (nI (lenC pa L 0)), .int (nI ((r_ + 1) + 1))], oX bs 10 [.ref a, .int (nI wu), .int (bI false)], aJ G a n w, aI G cp 64 g_])) hA hS hP hD [0, 1, 2] rfl [(true, 0), (true, 1), (true, 2), (false, 3)] (fun _ => rfl) (by decide) (run_V (As := []) (rest := []) (n9 := 0) hx hb hml hown hts hE hAb hl.1 hS hP hD [0, 1, 2] rfl (by decide) (t_X8_next l G b0 _ h bs cp a n wu (lenC pa L 0) (r_ + 1) w (by first | exact hB | omega) (by first | exact hB | omega) (by first | exact hB | omega)) (lw_V q1314 q1316 qs52 q120 q1317) 0 rfl rfl ⟨rfl, by decide, by decide, by decide +kernel⟩ ⟨Nat.le_of_ble_eq_true rfl, Nat.le_of_ble_eq_true rfl⟩ ⟨by first | exact Nat.le_of_ble_eq_true rfl | (simp only [rm_X8_read, rm_X8_next, rm_X8_readNumber, rm_X8_zeros]; omega), by first | exact Nat.le_of_ble_eq_true rfl | (simp only [rm_X8_read, rm_X8_next, rm_X8_readNumber, rm_X8_zeros]; omega)⟩ dX8_read_26 (Nat.le_of_ble_eq_true rfl) rfl rfl) (fun r_6 u_6 H locs h_6 hP hD hS => ?_)
          have hP : va_P G.1 vwCl [oX h 7 [.ref bs, .ref cp, .int (nI (lenC pa L 0)), .int (nI ((r_ + 1) + 1))], oX bs 10 [.ref a, .int (nI wu), .int (bI false)], aJ G a n w, aI G cp 64 g_] _ := hP
          have hD : va_D A [oX h 7 [.ref bs, .ref cp, .int (nI (lenC pa L 0)), .int (nI ((r_ + 1) + 1))], oX bs 10 [.ref a, .int (nI wu), .int (bI false)], aJ G a n w, aI G cp 64 g_] := hD
          have h_6 : r_6 = (bI (rb w wu (r_ + 1))) := h_6
          rw [h_6]
          refine lv_istore_n (lv' := [(2, .int (bI (rb w wu (r_ + 1)))), (0, .ref h), (1, .int (nI p_))]) hx hb dX8_read_29 rfl hl (by decide) rfl (fun ls hl => ?_)
          refine lv_aload_n hx hb dX8_read_30 rfl (lv_at hl 1 rfl) ?_
          refine fin_i (ws' := (fun (_ : Unit) => [oX h 7 [.ref bs, .ref cp, .int (nI (lenC pa L 0)), .int (nI (((r_ + 1) + 1) + (2 * lgN (mg (orT L p_)) + 1)))], oX bs 10 [.ref a, .int (nI wu), .int (bI false)], aJ G a n w, aI G cp 64 g_])) hA hS hP hD [0, 1, 2] rfl [(true, 0), (true, 1), (true, 2), (false, 3)] (fun _ => rfl) (by decide) (run_V (As := []) (rest := []) (n9 := 0) hx hb hml hown hts hE hAb hl.1 hS hP hD [0, 1, 2] rfl (by decide) (t_X8_readNumber l G b0 _ h bs cp a n wu (lenC pa L 0) ((r_ + 1) + 1) w (mg (orT L p_)) (by first | exact hB | omega) (by first | exact hB | omega) (by first | exact hB | omega) (by first | exact hB | omega) (by first | exact hB | omega) (by exact hnb)) (lw_V q1322 q1324 qs53 q120 q1325) 0 rfl rfl ⟨rfl, by decide, by decide, by decide +kernel⟩ ⟨Nat.le_of_ble_eq_true rfl, Nat.le_of_ble_eq_true rfl⟩ ⟨by first | exact Nat.le_of_ble_eq_true rfl | (simp only [rm_X8_read, rm_X8_readNumber, rm_X8_next, rm_X8_zeros]; omega), by first | exact Nat.le_of_ble_eq_true rfl | (simp only [rm_X8_read, rm_X8_readNumber, rm_X8_next, rm_X8_zeros]; omega)⟩ dX8_read_31 (Nat.le_of_ble_eq_true rfl) rfl rfl) (fun r_7 u_7 H locs h_7 hP hD hS => ?_)
          have hP : va_P G.1 vwCl [oX h 7 [.ref bs, .ref cp, .int (nI (lenC pa L 0)), .int (nI (((r_ + 1) + 1) + (2 * lgN (mg (orT L p_)) + 1)))], oX bs 10 [.ref a, .int (nI wu), .int (bI false)], aJ G a n w, aI G cp 64 g_] _ := hP
          have hD : va_D A [oX h 7 [.ref bs, .ref cp, .int (nI (lenC pa L 0)), .int (nI (((r_ + 1) + 1) + (2 * lgN (mg (orT L p_)) + 1)))], oX bs 10 [.ref a, .int (nI wu), .int (bI false)], aJ G a n w, aI G cp 64 g_] := hD
          have h_7 : r_7 = (nI (mg (orT L p_))) := h_7
          rw [h_7]
          refine lv_istore_n (lv' := [(3, .int (nI (mg (orT L p_)))), (2, .int (bI (rb w wu (r_ + 1)))), (0, .ref h), (1, .int (nI p_))]) hx hb dX8_read_34 rfl hl (by decide) rfl (fun ls hl => ?_)
          refine lv_aload_n hx hb dX8_read_35 rfl (lv_at hl 2 rfl) ?_
          refine va_get (D := G.1) (ci := 7) (v := .ref cp) (C := RX8) (T := TX8) (N := 4) hx hb hts in_X8 hown hK hP 0 rfl rfl 1 (by decide) (hts _ q422) (fun _ h9 => h9) rfl dX8_read_36 ?_
          refine lv_iload_n hx hb dX8_read_39 rfl (lv_at hl 3 rfl) ?_
          refine lv_iload_n hx hb dX8_read_40 rfl (lv_at hl 1 rfl) ?_
          have K_41 : ∀ (v_8 : Int32) (_ : v_8 = if (rb w wu (r_ + 1)) = true then (-(nI (mg (orT L p_)))) else (nI (mg (orT L p_)))) (H : Heap) (locs : List Loc) (ls : Array Slot), va_P G.1 vwCl [oX h 7 [.ref bs, .ref cp, .int (nI (lenC pa L 0)), .int (nI (((r_ + 1) + 1) + (2 * lgN (mg (orT L p_)) + 1)))], oX bs 10 [.ref a, .int (nI wu), .int (bI false)], aJ G a n w, aI G cp 64 g_] H → va_D A [oX h 7 [.ref bs, .ref cp, .int (nI (lenC pa L 0)), .int (nI (((r_ + 1) + 1) + (2 * lgN (mg (orT L p_)) + 1)))], oX bs 10 [.ref a, .int (nI wu), .int (bI false)], aJ G a n w, aI G cp 64 g_] → va_S A s.heap H locs → lv_has ls 4 [(3, .int (nI (mg (orT L p_)))), (2, .int (bI (rb w wu (r_ + 1)))), (0, .ref h), (1, .int (nI p_))] → W p l e (rm_X8_read) s m AR below meth c H locs 0 0 QQ (F0 m 50 ls [.int v_8, .int (nI p_), .ref cp]) := by
            intro v_8 e_v_8 H locs ls hP hD hS hl
            subst e_v_8
            have hg2 : ∀ j, j < p_ + 1 → upd g_ p_ (if (rb w wu (r_ + 1)) = true then (-(nI (mg (orT L p_)))) else (nI (mg (orT L p_)))) j = pa (orT L j) := by intro j hj; unfold upd; by_cases c : j = p_; (rw [if_pos c, c]; exact hpv); (rw [if_neg c]; exact hg j (by omega))
            refine N_iast (ws' := [oX h 7 [.ref bs, .ref cp, .int (nI (lenC pa L 0)), .int (nI (((r_ + 1) + 1) + (2 * lgN (mg (orT L p_)) + 1)))], oX bs 10 [.ref a, .int (nI wu), .int (bI false)], aJ G a n w, aI G cp 64 (upd g_ p_ (if (rb w wu (r_ + 1)) = true then (-(nI (mg (orT L p_)))) else (nI (mg (orT L p_)))))]) hx hb dX8_read_50 hK hP hD hS 3 0 rfl rfl (by omega) (by omega) rfl (fun H locs hP hD hS => ?_)
            refine N_iinc (a := p_) (b := 1) (k9 := 3) (lv' := [(1, .int (nI (p_ + 1))), (3, .int (nI (mg (orT L p_)))), (2, .int (bI (rb w wu (r_ + 1)))), (0, .ref h)]) hx hb dX8_read_51 hl rfl rfl (by decide) rfl (fun ls hl => ?_)
            refine lv_goto (tgt := 7) hx hb dX8_read_54 (by decide) ?_
            have hl : lv_has ls 4 [(0, .ref h), (1, .int (nI (p_ + 1)))] := lv_sub hl [3, 0] rfl
            exact ih_7 (p_ + 1) (((r_ + 1) + 1) + (2 * lgN (mg (orT L p_)) + 1)) (upd g_ p_ (if (rb w wu (r_ + 1)) = true then (-(nI (mg (orT L p_)))) else (nI (mg (orT L p_))))) (by omega) (by exact hr2) (by exact hg2) (by omega) _ _ _ hP hD hS hl
          refine B_if_eq (tgt := 49) hx hb dX8_read_41 (by decide) (fun c_41 => ?_) (fun c_41 => ?_)
          · skip
            refine lv_iload_n hx hb dX8_read_49 rfl (lv_at hl 0 rfl) ?_
            exact K_41 (nI (mg (orT L p_))) (by first | rfl | (try rw [if_neg (ne_true_of_eq_false c_41)]) | simp_all) _ _ _ hP hD hS (lv_sub hl [0, 1, 2, 3] rfl)
          · skip
            refine lv_iload_n hx hb dX8_read_44 rfl (lv_at hl 0 rfl) ?_
            refine lv_ineg hx hb dX8_read_45 ?_
            refine lv_goto (tgt := 50) hx hb dX8_read_46 (by decide) ?_
            exact K_41 (-(nI (mg (orT L p_)))) (by first | rfl | (try rw [if_pos c_41]) | simp_all) _ _ _ hP hD hS (lv_sub hl [0, 1, 2, 3] rfl)
  have hl : lv_has ls 4 [(0, .ref h), (1, .int (nI 0))] := lv_sub hl [1, 0] rfl
  exact lp_7 _ 0 0 f (by omega) (by exact rdI_0) (by intro j hj; omega) (Nat.lt_succ_self _) _ _ _ hP hD hS hl
def rm_X8_init : Room := ({ frames := 5, cells := 3, slots := 100, locals := 100 } : Room)
set_option maxHeartbeats 400000 in
set_option maxRecDepth 100000 in
theorem t_X8_init (l : Launch) (G : GG) (b0 sz : Nat) (h : Nat) : CT l yX8_init cX8_init 1 none (rm_X8_init) G b0 [.ref h] [oX h 7 [.null, .null, .int (nI 0), .int (nI 0)]] sz (Rv G (fun (u : Nat × Nat × Nat) => True) (fun (u : Nat × Nat × Nat) => [oX h 7 [.ref u.1, .ref u.2.1, .int (nI 0), .int (nI 0)], oX u.1 10 [.ref u.2.2, .int (nI 0), .int (bI false)], aJ G u.2.2 1 (fun _ => 0), aI G u.2.1 64 (fun _ => 0)])) := by
  refine CT.go (by decide) (Nat.le_of_ble_eq_true rfl) (fun p e s m below meth c A ls AR QQ hx hb hr hlk hml hown hnm hts hE hA hAb hsz hP hD hS hl hQQ => ?_)
  have hK := hE.1
  have hown : s.vm.findClass RX8 = some m.cls := hown
  have hl : lv_has ls 1 [(0, .ref h)] := hl
  clear hsz
  refine lv_aload_n hx hb dX8_init_0 rfl (lv_at hl 0 rfl) ?_
  refine O_init hx hb (hml.trans hl.1.symm) hown hts q395 q150 q151 dX8_init_1 (Nat.le_of_ble_eq_true rfl) (Nat.le_of_ble_eq_true rfl) ?_
  refine lv_aload_n hx hb dX8_init_4 rfl (lv_at hl 0 rfl) ?_
  refine va_new (ci := 10) (fs := [.null, .int (nI 0), .int (bI false)]) (C := RJ6) (T := TJ6) (N := 3) hx hb hts in_J6 tyJ6 tyJ6_ok hown (hts _ q396) (hts _ q397) (hts _ q121) hK hP hD hS hA rfl (fun j hj => by rcases (show j = 0 ∨ j = 1 ∨ j = 2 by omega) with rfl | rfl | rfl <;> rfl) (by first | exact Nat.le_of_ble_eq_true rfl | omega) (by first | exact Nat.le_of_ble_eq_true rfl | omega) dX8_init_5 (fun q1 H hP hD hS => ?_)
  have hP : va_P G.1 vwCl [oX h 7 [.null, .null, .int (nI 0), .int (nI 0)], oX q1 10 [.null, .int (nI 0), .int (bI false)]] _ := hP
  have hD : va_D A [oX h 7 [.null, .null, .int (nI 0), .int (nI 0)], oX q1 10 [.null, .int (nI 0), .int (bI false)]] := hD
  refine lv_dup hx hb dX8_init_8 rfl ?_
  refine fin_v (ws' := (fun (u_2 : Nat) => [oX h 7 [.null, .null, .int (nI 0), .int (nI 0)], oX q1 10 [.ref u_2, .int (nI 0), .int (bI false)], aJ G u_2 1 (fun _ => 0)])) hA hS hP hD [1] rfl [(false, 0), (true, 0), (true, 1)] (fun _ => rfl) (by decide) (run_I (As := []) (rest := [.ref q1, .ref h]) (n9 := 0) hx hb hml hown hts hE hAb hl.1 hS hP hD [1] rfl (by decide) (t_J6_init l G b0 _ q1 ) (lw_meth q400) q121 q398 q399 rfl ⟨by decide, by decide, by decide +kernel⟩ ⟨Nat.le_of_ble_eq_true rfl, Nat.le_of_ble_eq_true rfl⟩ ⟨by first | exact Nat.le_of_ble_eq_true rfl | (simp only [rm_X8_init, rm_J6_init]; omega), by first | exact Nat.le_of_ble_eq_true rfl | (simp only [rm_X8_init, rm_J6_init]; omega)⟩ dX8_init_9 (Nat.le_of_ble_eq_true rfl) rfl rfl) (fun u_2 H locs h_2 hP hD hS => ?_)
  have hP : va_P G.1 vwCl [oX h 7 [.null, .null, .int (nI 0), .int (nI 0)], oX q1 10 [.ref u_2, .int (nI 0), .int (bI false)], aJ G u_2 1 (fun _ => 0)] _ := hP
  have hD : va_D A [oX h 7 [.null, .null, .int (nI 0), .int (nI 0)], oX q1 10 [.ref u_2, .int (nI 0), .int (bI false)], aJ G u_2 1 (fun _ => 0)] := hD
  refine va_putF (D := G.1) (ci := 7) (v := .ref q1) (ty := (.object "java/util/BitSet")) (C := RX8) (T := TX8) (N := 4) hx hb hts in_X8 tyX8 tyX8_ok nmX8 hown hK hP hD hS 0 rfl rfl 0 (by decide) (hts _ q420) (fun _ h9 => h9) rfl hnm rfl (by decide +kernel) rfl rfl (Nat.le_of_ble_eq_true rfl) dX8_init_12 (fun H locs hP hD hS => ?_)
  have hP : va_P G.1 vwCl [oX h 7 [.ref q1, .null, .int (nI 0), .int (nI 0)], oX q1 10 [.ref u_2, .int (nI 0), .int (bI false)], aJ G u_2 1 (fun _ => 0)] _ := hP
  have hD : va_D A [oX h 7 [.ref q1, .null, .int (nI 0), .int (nI 0)], oX q1 10 [.ref u_2, .int (nI 0), .int (bI false)], aJ G u_2 1 (fun _ => 0)] := hD
  refine lv_aload_n hx hb dX8_init_15 rfl (lv_at hl 0 rfl) ?_
  refine lv_bipush (v := nI 64) hx hb dX8_init_16 (by decide) ?_
  refine A_newa (atype := .int) (ty := .int) (a9 := (64, .inl (fun _ => 0))) (t0 := 0) hx hb hts q175 rfl (fun _ h_ => by cases h_) hK hP hD hS hA rfl (fun _ => rfl) (by omega) (by first | exact Nat.le_of_ble_eq_true rfl | (simp only [componentBytes]; omega)) (by exact (by first | exact Nat.le_of_ble_eq_true rfl | omega | (simp only [rm_X8_init, rm_J6_init]; omega))) (by exact (by first | exact Nat.le_of_ble_eq_true rfl | omega | (simp only [rm_X8_init, rm_J6_init]; omega))) dX8_init_18 (fun q3 H hP hD hS => ?_)
  have hP : va_P G.1 vwCl [oX h 7 [.ref q1, .null, .int (nI 0), .int (nI 0)], oX q1 10 [.ref u_2, .int (nI 0), .int (bI false)], aJ G u_2 1 (fun _ => 0), aI G q3 64 (fun _ => 0)] _ := hP
  have hD : va_D A [oX h 7 [.ref q1, .null, .int (nI 0), .int (nI 0)], oX q1 10 [.ref u_2, .int (nI 0), .int (bI false)], aJ G u_2 1 (fun _ => 0), aI G q3 64 (fun _ => 0)] := hD
  refine va_putF (D := G.1) (ci := 7) (v := .ref q3) (ty := (.array .int)) (C := RX8) (T := TX8) (N := 4) hx hb hts in_X8 tyX8 tyX8_ok nmX8 hown hK hP hD hS 0 rfl rfl 1 (by decide) (hts _ q422) (fun _ h9 => h9) rfl hnm rfl (by decide +kernel) rfl rfl (Nat.le_of_ble_eq_true rfl) dX8_init_20 (fun H locs hP hD hS => ?_)
  have hP : va_P G.1 vwCl [oX h 7 [.ref q1, .ref q3, .int (nI 0), .int (nI 0)], oX q1 10 [.ref u_2, .int (nI 0), .int (bI false)], aJ G u_2 1 (fun _ => 0), aI G q3 64 (fun _ => 0)] _ := hP
  have hD : va_D A [oX h 7 [.ref q1, .ref q3, .int (nI 0), .int (nI 0)], oX q1 10 [.ref u_2, .int (nI 0), .int (bI false)], aJ G u_2 1 (fun _ => 0), aI G q3 64 (fun _ => 0)] := hD
  rw [hQQ]
  exact rt_v hx hb hr hlk (((q1, q3, u_2))) dX8_init_23 hP hD hS (by first | exact Nat.le_of_ble_eq_true rfl | (simp only [rm_X8_init, rm_J6_init]; omega) | omega) (by first | exact Nat.le_of_ble_eq_true rfl | (simp only [rm_X8_init, rm_J6_init]; omega) | omega) trivial
