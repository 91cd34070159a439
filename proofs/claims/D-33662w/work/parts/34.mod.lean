/-! ===== the reference: bits of the code, changes of the picture ===== -/
theorem inB_nat {a b c : Nat} (ha : a < 2147483648) (hb : b < 2147483648) (hc : c < 2147483648) : inB (nI a) (nI b) (nI c) = decide (b ≤ a ∧ a ≤ c) := by
  unfold inB
  have e1 : decide (nI a < nI b) = decide (a < b) := by rw [decide_eq_decide]; exact nI_ltI ha hb
  have e2 : decide (nI c < nI a) = decide (c < a) := by rw [decide_eq_decide]; exact nI_ltI hc ha
  rw [e1, e2]
  by_cases h1 : a < b <;> by_cases h2 : c < a <;> simp [h1, h2] <;> omega
theorem isCe_n {r c : Nat} (hr : r < 8) (hc : c < 8) : isCe (nI r) (nI c) = true := by
  unfold isCe
  rw [inB_nat (by omega) (by decide) (by decide), inB_nat (by omega) (by decide) (by decide)]
  simp
  omega
theorem isSh_n {v : Nat} (h : v ≤ 255) : isSh (nI v) = true := by
  unfold isSh
  rw [inB_nat (by omega) (by decide) (by decide)]
  simp
  omega
def cneI (f g : Nat → Int32) : Nat → Int32 := fun k => bI (if f k = g k then false else true)
def zcN (f : Nat → Int32) : Nat → Nat := cntN (fun k => if f k = 0 then true else false)
theorem zcN_1 (f : Nat → Int32) (k : Nat) : zcN f k + (if f k = 0 then 1 else 0) = zcN f (k + 1) := by
  show _ = cntN _ k + _
  by_cases h : f k = 0
  · simp only [h, if_true]
    rfl
  · simp only [h, if_false, Bool.false_eq_true]
    rfl
def shrD (n : Nat) : UInt64 := FP.ddiv (FP.i2d (nI n)) 4634204016564240384
theorem shr_nn : ∀ n, n ≤ 64 → vf_n64 (FP.ddiv (FP.i2d (nI n)) 4634204016564240384) := by
  intro n hn
  have : ∀ n, n < 65 → (FP.ddiv (FP.i2d (nI n)) 4634204016564240384 &&& 0x7fffffffffffffff ≤ 0x7ff0000000000000) := by decide +kernel
  exact this n (by omega)
def engI (L : Nat) (b : Int32) (f : Nat → Int32) : Nat → Int32 := fun k => if nI (bndM k L) = b then f k * f k else nI 0
/-- the search for a bit of the code: what is told so far -/
theorem bitS_lt {f : Nat → Int32} {L w p : Nat} (h : p < 64) : bitS f L w p = if w < tokL f L p then tokB f L p w else bitS f L (w - tokL f L p) (p + tokS f L p) := by
  rw [bitS, if_pos h]
theorem bitS_ge {f : Nat → Int32} {L w p : Nat} (h : 64 ≤ p) : bitS f L w p = -1 := by
  rw [bitS, if_neg (by omega)]
theorem bit_fd {x y : Int32} {P : Prop} (h : x = y) (hn : ¬ y = -1) : P ∨ (¬ x = -1 ∧ x = y) := Or.inr ⟨by rw [h]; exact hn, h⟩
theorem bit_out1 {f : Nat → Int32} {L w q p : Nat} {t lf : Int32} (hj : (t = -1 ∧ lf = nI q ∧ bitS f L q p = bitS f L w 0) ∨ (¬ t = -1 ∧ t = bitS f L w 0)) (c : ¬ t = -1) : t = bitS f L w 0 := by
  rcases hj with ⟨a, _⟩ | ⟨_, b⟩
  · exact absurd a c
  · exact b
theorem bit_out2 {f : Nat → Int32} {L w q p : Nat} {t lf : Int32} (hj : (t = -1 ∧ lf = nI q ∧ bitS f L q p = bitS f L w 0) ∨ (¬ t = -1 ∧ t = bitS f L w 0)) (c : 64 ≤ p) : t = bitS f L w 0 := by
  rcases hj with ⟨a, _, b⟩ | ⟨_, b⟩
  · rw [a, ← b, bitS_ge c]
  · exact b
theorem upd_back {f : Nat → Int32} {x : Nat} {v : Int32} : upd (upd f x v) x (f x) = f := by
  funext j
  by_cases h : j = x
  · simp only [upd, h, if_true]
  · simp only [upd, h, if_false]
def rm_X9_bitAt : Room := ({ frames := 2, cells := 0, slots := 0, locals := 45 } : Room)
set_option maxHeartbeats 400000 in
set_option maxRecDepth 100000 in
theorem t_X9_bitAt (l : Launch) (G : GG) (b0 sz : Nat) (h : Nat) (ad : Nat → Nat) (thr sts : Nat) (hs : Bool) (len at_ num many : Nat) (pa : Nat → Int32) (w L : Nat) (hw : w < 2147483648) (hL1 : 1 ≤ L) (hL : L ≤ 3) : CT l yX9_bitAt cX9_bitAt 10 (some FieldType.int) (rm_X9_bitAt) G b0 [.ref h, .int (nI w)] [oM h ad thr sts hs len at_ num many, aI G (ad 5) 64 pa, aI G (ad 8) 64 (nF (orT L))] sz (Ri G (fun (r_ : Int32) (_ : Unit) => r_ = bitS pa L w 0) (fun (_ : Unit) => [oM h ad thr sts hs len at_ num many, aI G (ad 5) 64 pa, aI G (ad 8) 64 (nF (orT L))])) := by
  refine CT.go (by decide) (Nat.le_of_ble_eq_true rfl) (fun p e s m below meth c A ls AR QQ hx hb hr hlk hml hown hnm hts hE hA hAb hsz hP hD hS hl hQQ => ?_)
  have hK := hE.1
  have hown : s.vm.findClass RX9 = some m.cls := hown
  have hl : lv_has ls 10 [(0, .ref h), (1, .int (nI w))] := hl
  clear hsz
  have hpo := (pl_or hL1 hL).1
  refine lv_iload_n hx hb dX9_bitAt_0 rfl (lv_at hl 1 rfl) ?_
  refine lv_istore_n (lv' := [(2, .int (nI w)), (0, .ref h), (1, .int (nI w))]) hx hb dX9_bitAt_1 rfl hl (by decide) rfl (fun ls hl => ?_)
  refine lv_iconst (v := nI 0) hx hb dX9_bitAt_2 (by decide) ?_
  refine lv_istore_n (lv' := [(3, .int (nI 0)), (2, .int (nI w)), (0, .ref h), (1, .int (nI w))]) hx hb dX9_bitAt_3 rfl hl (by decide) rfl (fun ls hl => ?_)
  refine lv_iconst (v := (-1)) hx hb dX9_bitAt_4 (by decide) ?_
  refine lv_istore (lv' := [(4, .int ((-1))), (3, .int (nI 0)), (2, .int (nI w)), (0, .ref h), (1, .int (nI w))]) hx hb dX9_bitAt_5 hl (by decide) rfl (fun ls hl => ?_)
  have lp_7 : ∀ (n_7 : Nat) (p_ q_ : Nat) (lf to_ : Int32), (p_ ≤ 64) → (q_ < 2147483648) → ((to_ = -1 ∧ lf = nI q_ ∧ bitS pa L q_ p_ = bitS pa L w 0) ∨ (¬ to_ = -1 ∧ to_ = bitS pa L w 0)) → (64 - p_) < n_7 → ∀ (H : Heap) (locs : List Loc) (ls : Array Slot), va_P G.1 vwCl [oM h ad thr sts hs len at_ num many, aI G (ad 5) 64 pa, aI G (ad 8) 64 (nF (orT L))] H → va_D A [oM h ad thr sts hs len at_ num many, aI G (ad 5) 64 pa, aI G (ad 8) 64 (nF (orT L))] → va_S A s.heap H locs → lv_has ls 10 [(0, .ref h), (1, .int (nI w)), (2, .int lf), (3, .int (nI p_)), (4, .int to_)] → W p l e (rm_X9_bitAt) s m AR below meth c H locs 0 0 QQ (F0 m 7 ls []) := by
    intro n_7
    induction n_7 with
    | zero => intro p_ q_ lf to_ hp hq hj hn_; exact absurd hn_ (Nat.not_lt_zero _)
    | succ n_7 ih_7 =>
      intro p_ q_ lf to_ hp hq hj hn_7 H locs ls hP hD hS hl
      refine lv_iload_n hx hb dX9_bitAt_7 rfl (lv_at hl 3 rfl) ?_
      refine lv_bipush (v := nI 64) hx hb dX9_bitAt_8 (by decide) ?_
      refine N_icmp_ge (tgt := 151) hx hb dX9_bitAt_10 (by decide) (by omega) (by omega) (fun c_10 => ?_) (fun c_10 => ?_)
      · skip
        refine lv_iload hx hb dX9_bitAt_151 (lv_at hl 4 rfl) ?_
        rw [hQQ]
        exact rt_i hx hb hr hlk  (()) dX9_bitAt_153 hP hD hS (by first | exact Nat.le_of_ble_eq_true rfl | (simp only [rm_X9_bitAt]; omega)) (by first | exact Nat.le_of_ble_eq_true rfl | (simp only [rm_X9_bitAt]; omega)) (by first | exact bit_out1 hj c_16 | exact bit_out2 hj c_10)
      · skip
        refine lv_iload hx hb dX9_bitAt_13 (lv_at hl 4 rfl) ?_
        refine lv_iconst (v := (-1)) hx hb dX9_bitAt_15 (by decide) ?_
        refine lv_icmp_ne (tgt := 151) hx hb dX9_bitAt_16 (by decide) (fun c_16 => ?_) (fun c_16 => ?_)
        · skip
          refine lv_iload hx hb dX9_bitAt_151 (lv_at hl 4 rfl) ?_
          rw [hQQ]
          exact rt_i hx hb hr hlk  (()) dX9_bitAt_153 hP hD hS (by first | exact Nat.le_of_ble_eq_true rfl | (simp only [rm_X9_bitAt]; omega)) (by first | exact Nat.le_of_ble_eq_true rfl | (simp only [rm_X9_bitAt]; omega)) (by first | exact bit_out1 hj c_16 | exact bit_out2 hj c_10)
        · skip
          have hj1 : lf = nI q_ ∧ bitS pa L q_ p_ = bitS pa L w 0 := by rcases hj with ⟨_, a, b⟩ | ⟨a, _⟩; exact ⟨a, b⟩; exact absurd c_16 a
          rw [hj1.1] at hl
          have hl : lv_has ls 10 [(0, .ref h), (1, .int (nI w)), (2, .int (nI q_)), (3, .int (nI p_)), (4, .int to_)] := hl
          have hbl := bbN_le (tokV pa L p_)
          refine lv_aload_n hx hb dX9_bitAt_19 rfl (lv_at hl 0 rfl) ?_
          refine lv_iload_n hx hb dX9_bitAt_20 rfl (lv_at hl 3 rfl) ?_
          refine fin_i (ws' := (fun (_ : Unit) => [oM h ad thr sts hs len at_ num many, aI G (ad 5) 64 pa, aI G (ad 8) 64 (nF (orT L))])) hA hS hP hD [0, 1, 2] rfl [(true, 0), (true, 1), (true, 2)] (fun _ => rfl) (by decide) (run_V (As := [.int (nI p_)]) (rest := []) (n9 := 1) hx hb hml hown hts hE hAb hl.1 hS hP hD [0, 1, 2] rfl (by decide) (t_X9_zerosFrom l G b0 _ h ad thr sts hs len at_ num many pa p_ L (by omega) (by omega) (by omega)) (lw_V q1895 q1897 qs81 q129 q1898) 0 rfl rfl ⟨rfl, by decide, by decide, by decide +kernel⟩ ⟨Nat.le_of_ble_eq_true rfl, Nat.le_of_ble_eq_true rfl⟩ ⟨by first | exact Nat.le_of_ble_eq_true rfl | (simp only [rm_X9_bitAt, rm_X9_zerosFrom]; omega), by first | exact Nat.le_of_ble_eq_true rfl | (simp only [rm_X9_bitAt, rm_X9_zerosFrom]; omega)⟩ dX9_bitAt_21 (Nat.le_of_ble_eq_true rfl) rfl rfl) (fun r_1 u_1 H locs h_1 hP hD hS => ?_)
          have hP : va_P G.1 vwCl [oM h ad thr sts hs len at_ num many, aI G (ad 5) 64 pa, aI G (ad 8) 64 (nF (orT L))] _ := hP
          have hD : va_D A [oM h ad thr sts hs len at_ num many, aI G (ad 5) 64 pa, aI G (ad 8) 64 (nF (orT L))] := hD
          have h_1 : r_1 = (nI (zrN pa L p_)) := h_1
          rw [h_1]
          have hzr := zrN_le pa L p_ hp
          refine lv_istore (lv' := [(5, .int (nI (zrN pa L p_))), (0, .ref h), (1, .int (nI w)), (2, .int (nI q_)), (3, .int (nI p_)), (4, .int to_)]) hx hb dX9_bitAt_24 hl (by decide) rfl (fun ls hl => ?_)
          refine lv_aload_n hx hb dX9_bitAt_26 rfl (lv_at hl 1 rfl) ?_
          refine va_get (D := G.1) (ci := 8) (v := .ref (ad 5)) (C := RX9) (T := TX9) (N := 21) hx hb hts in_X9 hown hK hP 0 rfl rfl 8 (by decide) (hts _ q1675) (fun _ h9 => h9) rfl dX9_bitAt_27 ?_
          refine lv_aload_n hx hb dX9_bitAt_30 rfl (lv_at hl 1 rfl) ?_
          refine va_get (D := G.1) (ci := 8) (v := .ref (ad 8)) (C := RX9) (T := TX9) (N := 21) hx hb hts in_X9 hown hK hP 0 rfl rfl 11 (by decide) (hts _ q1678) (fun _ h9 => h9) rfl dX9_bitAt_31 ?_
          refine lv_iload_n hx hb dX9_bitAt_34 rfl (lv_at hl 4 rfl) ?_
          refine N_iald hx hb dX9_bitAt_35 hK hP 2 0 rfl rfl (by omega) (by omega) ?_
          refine top_i (y := nI ((orT L) p_)) rfl ?_
          refine N_iald hx hb dX9_bitAt_36 hK hP 1 0 rfl rfl (by exact (hpo _ (by omega)).1) (by omega) ?_
          refine lv_istore (lv' := [(6, .int (pa ((orT L) p_))), (5, .int (nI (zrN pa L p_))), (0, .ref h), (1, .int (nI w)), (2, .int (nI q_)), (3, .int (nI p_)), (4, .int to_)]) hx hb dX9_bitAt_37 hl (by decide) rfl (fun ls hl => ?_)
          refine lv_iload hx hb dX9_bitAt_39 (lv_at hl 1 rfl) ?_
          have K_41 : ∀ (v_2 : Int32) (_ : v_2 = if 0 < (zrN pa L p_) then (nI (zrN pa L p_)) else (sizI (pa ((orT L) p_)))) (H : Heap) (locs : List Loc) (ls : Array Slot), va_P G.1 vwCl [oM h ad thr sts hs len at_ num many, aI G (ad 5) 64 pa, aI G (ad 8) 64 (nF (orT L))] H → va_D A [oM h ad thr sts hs len at_ num many, aI G (ad 5) 64 pa, aI G (ad 8) 64 (nF (orT L))] → va_S A s.heap H locs → lv_has ls 10 [(6, .int (pa ((orT L) p_))), (5, .int (nI (zrN pa L p_))), (0, .ref h), (1, .int (nI w)), (2, .int (nI q_)), (3, .int (nI p_)), (4, .int to_)] → W p l e (rm_X9_bitAt) s m AR below meth c H locs 0 0 QQ (F0 m 54 ls [.int v_2]) := by
            intro v_2 e_v_2 H locs ls hP hD hS hl
            subst e_v_2
            refine lv_istore (lv' := [(7, .int (if 0 < (zrN pa L p_) then (nI (zrN pa L p_)) else (sizI (pa ((orT L) p_))))), (6, .int (pa ((orT L) p_))), (5, .int (nI (zrN pa L p_))), (0, .ref h), (1, .int (nI w)), (2, .int (nI q_)), (3, .int (nI p_)), (4, .int to_)]) hx hb dX9_bitAt_54 hl (by decide) rfl (fun ls hl => ?_)
            have hl : lv_has ls 10 [(7, .int (tokV pa L p_)), (6, .int (pa ((orT L) p_))), (5, .int (nI (zrN pa L p_))), (0, .ref h), (1, .int (nI w)), (2, .int (nI q_)), (3, .int (nI p_)), (4, .int to_)] := hl
            refine lv_iload hx hb dX9_bitAt_56 (lv_at hl 2 rfl) ?_
            have K_58 : ∀ (v_3 : Nat) (_ : v_3 = if 0 < (zrN pa L p_) then 1 else 2) (H : Heap) (locs : List Loc) (ls : Array Slot), va_P G.1 vwCl [oM h ad thr sts hs len at_ num many, aI G (ad 5) 64 pa, aI G (ad 8) 64 (nF (orT L))] H → va_D A [oM h ad thr sts hs len at_ num many, aI G (ad 5) 64 pa, aI G (ad 8) 64 (nF (orT L))] → va_S A s.heap H locs → lv_has ls 10 [(7, .int (tokV pa L p_)), (6, .int (pa ((orT L) p_))), (5, .int (nI (zrN pa L p_))), (0, .ref h), (1, .int (nI w)), (2, .int (nI q_)), (3, .int (nI p_)), (4, .int to_)] → W p l e (rm_X9_bitAt) s m AR below meth c H locs 0 0 QQ (F0 m 66 ls [.int (nI v_3)]) := by
              intro v_3 e_v_3 H locs ls hP hD hS hl
              subst e_v_3
              refine lv_istore (lv' := [(8, .int (nI (if 0 < (zrN pa L p_) then 1 else 2))), (7, .int (tokV pa L p_)), (6, .int (pa ((orT L) p_))), (5, .int (nI (zrN pa L p_))), (0, .ref h), (1, .int (nI w)), (2, .int (nI q_)), (3, .int (nI p_)), (4, .int to_)]) hx hb dX9_bitAt_66 hl (by decide) rfl (fun ls hl => ?_)
              have hl : lv_has ls 10 [(8, .int (nI (tokH pa L p_))), (7, .int (tokV pa L p_)), (6, .int (pa ((orT L) p_))), (5, .int (nI (zrN pa L p_))), (0, .ref h), (1, .int (nI w)), (2, .int (nI q_)), (3, .int (nI p_)), (4, .int to_)] := hl
              refine lv_iload hx hb dX9_bitAt_68 (lv_at hl 0 rfl) ?_
              refine lv_iconst (v := nI 2) hx hb dX9_bitAt_70 (by decide) ?_
              refine lv_iload hx hb dX9_bitAt_71 (lv_at hl 1 rfl) ?_
              refine fin_i (ws' := (fun (_ : Unit) => [oM h ad thr sts hs len at_ num many, aI G (ad 5) 64 pa, aI G (ad 8) 64 (nF (orT L))])) hA hS hP hD [] rfl [(false, 0), (false, 1), (false, 2)] (fun _ => rfl) (by decide) (run_S (As := [.int (tokV pa L p_)]) (rest := [.int (nI 2), .int (nI (tokH pa L p_))]) (n9 := 1) hx hb hml hown hts hE hAb hl.1 hS hP hD [] rfl (by decide) (t_X9_bitsBehind l G b0 _ (tokV pa L p_) ) (lw_S q1899 q1900 q129 q1901) ⟨by decide, by decide, by decide +kernel⟩ ⟨Nat.le_of_ble_eq_true rfl, Nat.le_of_ble_eq_true rfl⟩ ⟨by first | exact Nat.le_of_ble_eq_true rfl | (simp only [rm_X9_bitAt, rm_X9_bitsBehind]; omega), by first | exact Nat.le_of_ble_eq_true rfl | (simp only [rm_X9_bitAt, rm_X9_bitsBehind]; omega)⟩ dX9_bitAt_73 (Nat.le_of_ble_eq_true rfl) rfl rfl) (fun r_4 u_4 H locs h_4 hP hD hS => ?_)
              have hP : va_P G.1 vwCl [oM h ad thr sts hs len at_ num many, aI G (ad 5) 64 pa, aI G (ad 8) 64 (nF (orT L))] _ := hP
              have hD : va_D A [oM h ad thr sts hs len at_ num many, aI G (ad 5) 64 pa, aI G (ad 8) 64 (nF (orT L))] := hD
              have h_4 : r_4 = (nI (bbN (tokV pa L p_))) := h_4
              rw [h_4]
              refine N_imul hx hb dX9_bitAt_76 ?_
              refine N_iadd hx hb dX9_bitAt_77 ?_
              refine lv_iconst (v := nI 1) hx hb dX9_bitAt_78 (by decide) ?_
              refine N_iadd hx hb dX9_bitAt_79 ?_
              refine lv_istore (lv' := [(9, .int (nI (((tokH pa L p_) + (2 * (bbN (tokV pa L p_)))) + 1))), (8, .int (nI (tokH pa L p_))), (7, .int (tokV pa L p_)), (6, .int (pa ((orT L) p_))), (5, .int (nI (zrN pa L p_))), (0, .ref h), (1, .int (nI w)), (2, .int (nI q_)), (3, .int (nI p_)), (4, .int to_)]) hx hb dX9_bitAt_80 hl (by decide) rfl (fun ls hl => ?_)
              have hl : lv_has ls 10 [(9, .int (nI (tokL pa L p_))), (8, .int (nI (tokH pa L p_))), (7, .int (tokV pa L p_)), (6, .int (pa ((orT L) p_))), (5, .int (nI (zrN pa L p_))), (0, .ref h), (1, .int (nI w)), (2, .int (nI q_)), (3, .int (nI p_)), (4, .int to_)] := hl
              have hth : tokH pa L p_ = 1 ∨ tokH pa L p_ = 2 := by unfold tokH; split <;> omega
              have htl : tokL pa L p_ = tokH pa L p_ + 2 * bbN (tokV pa L p_) + 1 := rfl
              refine lv_iload_n hx hb dX9_bitAt_82 rfl (lv_at hl 7 rfl) ?_
              refine lv_iload hx hb dX9_bitAt_83 (lv_at hl 0 rfl) ?_
              refine N_icmp_ge (tgt := 129) hx hb dX9_bitAt_85 (by decide) (by omega) (by omega) (fun c_85 => ?_) (fun c_85 => ?_)
              · skip
                refine lv_iload_n hx hb dX9_bitAt_129 rfl (lv_at hl 7 rfl) ?_
                refine lv_iload hx hb dX9_bitAt_130 (lv_at hl 0 rfl) ?_
                refine lv_isub hx hb dX9_bitAt_132 ?_
                refine lv_istore_n (lv' := [(2, .int ((nI q_) - (nI (tokL pa L p_)))), (9, .int (nI (tokL pa L p_))), (8, .int (nI (tokH pa L p_))), (7, .int (tokV pa L p_)), (6, .int (pa ((orT L) p_))), (5, .int (nI (zrN pa L p_))), (0, .ref h), (1, .int (nI w)), (3, .int (nI p_)), (4, .int to_)]) hx hb dX9_bitAt_133 rfl hl (by decide) rfl (fun ls hl => ?_)
                refine lv_iload_n hx hb dX9_bitAt_134 rfl (lv_at hl 8 rfl) ?_
                refine lv_iload hx hb dX9_bitAt_135 (lv_at hl 5 rfl) ?_
                have K_137 : ∀ (v_5 : Nat) (_ : v_5 = if 0 < (zrN pa L p_) then (zrN pa L p_) else 1) (H : Heap) (locs : List Loc) (ls : Array Slot), va_P G.1 vwCl [oM h ad thr sts hs len at_ num many, aI G (ad 5) 64 pa, aI G (ad 8) 64 (nF (orT L))] H → va_D A [oM h ad thr sts hs len at_ num many, aI G (ad 5) 64 pa, aI G (ad 8) 64 (nF (orT L))] → va_S A s.heap H locs → lv_has ls 10 [(2, .int ((nI q_) - (nI (tokL pa L p_)))), (9, .int (nI (tokL pa L p_))), (8, .int (nI (tokH pa L p_))), (7, .int (tokV pa L p_)), (6, .int (pa ((orT L) p_))), (5, .int (nI (zrN pa L p_))), (0, .ref h), (1, .int (nI w)), (3, .int (nI p_)), (4, .int to_)] → W p l e (rm_X9_bitAt) s m AR below meth c H locs 0 0 QQ (F0 m 146 ls [.int (nI v_5), .int (nI p_)]) := by
                  intro v_5 e_v_5 H locs ls hP hD hS hl
                  subst e_v_5
                  refine N_iadd hx hb dX9_bitAt_146 ?_
                  refine lv_istore_n (lv' := [(3, .int (nI (p_ + (if 0 < (zrN pa L p_) then (zrN pa L p_) else 1)))), (2, .int ((nI q_) - (nI (tokL pa L p_)))), (9, .int (nI (tokL pa L p_))), (8, .int (nI (tokH pa L p_))), (7, .int (tokV pa L p_)), (6, .int (pa ((orT L) p_))), (5, .int (nI (zrN pa L p_))), (0, .ref h), (1, .int (nI w)), (4, .int to_)]) hx hb dX9_bitAt_147 rfl hl (by decide) rfl (fun ls hl => ?_)
                  refine lv_goto (tgt := 7) hx hb dX9_bitAt_148 (by decide) ?_
                  have hl : lv_has ls 10 [(0, .ref h), (1, .int (nI w)), (2, .int ((nI q_) - (nI (tokL pa L p_)))), (3, .int (nI (p_ + (if 0 < (zrN pa L p_) then (zrN pa L p_) else 1)))), (4, .int to_)] := lv_sub hl [7, 8, 1, 0, 9] rfl
                  exact ih_7 (p_ + (if 0 < (zrN pa L p_) then (zrN pa L p_) else 1)) (q_ - tokL pa L p_) ((nI q_) - (nI (tokL pa L p_))) to_ (by first | exact stp_le hp c_10) (by omega) (by first | exact Or.inl ⟨c_16, pk_sub c_85, by rw [← hj1.2, bitS_lt c_10, if_neg (Nat.not_lt.mpr c_85)]; rfl⟩ | exact bit_fd (by rw [← hj1.2, bitS_lt c_10, if_pos c_85]; unfold tokB; first | (rw [if_neg (Nat.not_lt.mpr c_91)]; done) | (rw [if_neg (Nat.not_lt.mpr c_91)]; rfl) | (rw [if_pos c_91, if_pos c_107]; done) | (rw [if_pos c_91, if_pos c_107]; rfl) | (rw [if_pos c_91, if_neg (Nat.pos_iff_ne_zero.mp c_107), if_pos c_119]; done) | (rw [if_pos c_91, if_neg (Nat.pos_iff_ne_zero.mp c_107), if_pos c_119]; rfl) | (rw [if_pos c_91, if_neg (Nat.pos_iff_ne_zero.mp c_107), if_neg c_119]; done) | (rw [if_pos c_91, if_neg (Nat.pos_iff_ne_zero.mp c_107), if_neg c_119]; rfl)) (by rw [← hj1.2, bitS_lt c_10, if_pos c_85]; exact tokB_ne _ _ _ _)) (by have := tokS_pos pa L p_; unfold tokS at this; omega) _ _ _ hP hD hS hl
                refine N_if_le (tgt := 145) hx hb dX9_bitAt_137 (by decide) (by omega) (fun c_137 => ?_) (fun c_137 => ?_)
                · skip
                  refine lv_iconst (v := nI 1) hx hb dX9_bitAt_145 (by decide) ?_
                  exact K_137 1 (by first | rfl | (try rw [if_neg (by omega)]) | simp_all) _ _ _ hP hD hS (lv_sub hl [0, 1, 2, 3, 4, 5, 6, 7, 8, 9] rfl)
                · skip
                  refine lv_iload hx hb dX9_bitAt_140 (lv_at hl 5 rfl) ?_
                  refine lv_goto (tgt := 146) hx hb dX9_bitAt_142 (by decide) ?_
                  exact K_137 (zrN pa L p_) (by first | rfl | (try rw [if_pos c_137]) | simp_all) _ _ _ hP hD hS (lv_sub hl [0, 1, 2, 3, 4, 5, 6, 7, 8, 9] rfl)
              · skip
                refine lv_iload_n hx hb dX9_bitAt_88 rfl (lv_at hl 7 rfl) ?_
                refine lv_iload hx hb dX9_bitAt_89 (lv_at hl 1 rfl) ?_
                refine N_icmp_lt (tgt := 106) hx hb dX9_bitAt_91 (by decide) (by omega) (by omega) (fun c_91 => ?_) (fun c_91 => ?_)
                · skip
                  refine lv_iload_n hx hb dX9_bitAt_106 rfl (lv_at hl 7 rfl) ?_
                  refine N_if_ne (tgt := 117) hx hb dX9_bitAt_107 (by decide) (by omega) (fun c_107 => ?_) (fun c_107 => ?_)
                  · skip
                    refine lv_iload hx hb dX9_bitAt_117 (lv_at hl 3 rfl) ?_
                    refine lv_if_ge (tgt := 126) hx hb dX9_bitAt_119 (by decide) (fun c_119 => ?_) (fun c_119 => ?_)
                    · skip
                      refine lv_iconst (v := nI 0) hx hb dX9_bitAt_126 (by decide) ?_
                      refine lv_istore (lv' := [(4, .int (nI 0)), (9, .int (nI (tokL pa L p_))), (8, .int (nI (tokH pa L p_))), (7, .int (tokV pa L p_)), (6, .int (pa ((orT L) p_))), (5, .int (nI (zrN pa L p_))), (0, .ref h), (1, .int (nI w)), (2, .int (nI q_)), (3, .int (nI p_))]) hx hb dX9_bitAt_127 hl (by decide) rfl (fun ls hl => ?_)
                      refine lv_iload_n hx hb dX9_bitAt_129 rfl (lv_at hl 8 rfl) ?_
                      refine lv_iload hx hb dX9_bitAt_130 (lv_at hl 1 rfl) ?_
                      refine lv_isub hx hb dX9_bitAt_132 ?_
                      refine lv_istore_n (lv' := [(2, .int ((nI q_) - (nI (tokL pa L p_)))), (4, .int (nI 0)), (9, .int (nI (tokL pa L p_))), (8, .int (nI (tokH pa L p_))), (7, .int (tokV pa L p_)), (6, .int (pa ((orT L) p_))), (5, .int (nI (zrN pa L p_))), (0, .ref h), (1, .int (nI w)), (3, .int (nI p_))]) hx hb dX9_bitAt_133 rfl hl (by decide) rfl (fun ls hl => ?_)
                      refine lv_iload_n hx hb dX9_bitAt_134 rfl (lv_at hl 9 rfl) ?_
                      refine lv_iload hx hb dX9_bitAt_135 (lv_at hl 6 rfl) ?_
                      have K_137 : ∀ (v_6 : Nat) (_ : v_6 = if 0 < (zrN pa L p_) then (zrN pa L p_) else 1) (H : Heap) (locs : List Loc) (ls : Array Slot), va_P G.1 vwCl [oM h ad thr sts hs len at_ num many, aI G (ad 5) 64 pa, aI G (ad 8) 64 (nF (orT L))] H → va_D A [oM h ad thr sts hs len at_ num many, aI G (ad 5) 64 pa, aI G (ad 8) 64 (nF (orT L))] → va_S A s.heap H locs → lv_has ls 10 [(2, .int ((nI q_) - (nI (tokL pa L p_)))), (4, .int (nI 0)), (9, .int (nI (tokL pa L p_))), (8, .int (nI (tokH pa L p_))), (7, .int (tokV pa L p_)), (6, .int (pa ((orT L) p_))), (5, .int (nI (zrN pa L p_))), (0, .ref h), (1, .int (nI w)), (3, .int (nI p_))] → W p l e (rm_X9_bitAt) s m AR below meth c H locs 0 0 QQ (F0 m 146 ls [.int (nI v_6), .int (nI p_)]) := by
                        intro v_6 e_v_6 H locs ls hP hD hS hl
                        subst e_v_6
                        refine N_iadd hx hb dX9_bitAt_146 ?_
                        refine lv_istore_n (lv' := [(3, .int (nI (p_ + (if 0 < (zrN pa L p_) then (zrN pa L p_) else 1)))), (2, .int ((nI q_) - (nI (tokL pa L p_)))), (4, .int (nI 0)), (9, .int (nI (tokL pa L p_))), (8, .int (nI (tokH pa L p_))), (7, .int (tokV pa L p_)), (6, .int (pa ((orT L) p_))), (5, .int (nI (zrN pa L p_))), (0, .ref h), (1, .int (nI w))]) hx hb dX9_bitAt_147 rfl hl (by decide) rfl (fun ls hl => ?_)
                        refine lv_goto (tgt := 7) hx hb dX9_bitAt_148 (by decide) ?_
                        have hl : lv_has ls 10 [(0, .ref h), (1, .int (nI w)), (2, .int ((nI q_) - (nI (tokL pa L p_)))), (3, .int (nI (p_ + (if 0 < (zrN pa L p_) then (zrN pa L p_) else 1)))), (4, .int (nI 0))] := lv_sub hl [8, 9, 1, 0, 2] rfl
                        have e_7 : (nI 0) = (nI 0) := by rfl
                        rw [e_7] at hl
                        have hl : lv_has ls 10 [(0, .ref h), (1, .int (nI w)), (2, .int ((nI q_) - (nI (tokL pa L p_)))), (3, .int (nI (p_ + (if 0 < (zrN pa L p_) then (zrN pa L p_) else 1)))), (4, .int (nI 0))] := hl
                        exact ih_7 (p_ + (if 0 < (zrN pa L p_) then (zrN pa L p_) else 1)) q_ ((nI q_) - (nI (tokL pa L p_))) (nI 0) (by first | exact stp_le hp c_10) (by omega) (by first | exact Or.inl ⟨c_16, pk_sub c_85, by rw [← hj1.2, bitS_lt c_10, if_neg (Nat.not_lt.mpr c_85)]; rfl⟩ | exact bit_fd (by rw [← hj1.2, bitS_lt c_10, if_pos c_85]; unfold tokB; first | (rw [if_neg (Nat.not_lt.mpr c_91)]; done) | (rw [if_neg (Nat.not_lt.mpr c_91)]; rfl) | (rw [if_pos c_91, if_pos c_107]; done) | (rw [if_pos c_91, if_pos c_107]; rfl) | (rw [if_pos c_91, if_neg (Nat.pos_iff_ne_zero.mp c_107), if_pos c_119]; done) | (rw [if_pos c_91, if_neg (Nat.pos_iff_ne_zero.mp c_107), if_pos c_119]; rfl) | (rw [if_pos c_91, if_neg (Nat.pos_iff_ne_zero.mp c_107), if_neg c_119]; done) | (rw [if_pos c_91, if_neg (Nat.pos_iff_ne_zero.mp c_107), if_neg c_119]; rfl)) (by rw [← hj1.2, bitS_lt c_10, if_pos c_85]; exact tokB_ne _ _ _ _)) (by have := tokS_pos pa L p_; unfold tokS at this; omega) _ _ _ hP hD hS hl
                      refine N_if_le (tgt := 145) hx hb dX9_bitAt_137 (by decide) (by omega) (fun c_137 => ?_) (fun c_137 => ?_)
                      · skip
                        refine lv_iconst (v := nI 1) hx hb dX9_bitAt_145 (by decide) ?_
                        exact K_137 1 (by first | rfl | (try rw [if_neg (by omega)]) | simp_all) _ _ _ hP hD hS (lv_sub hl [0, 1, 2, 3, 4, 5, 6, 7, 8, 9] rfl)
                      · skip
                        refine lv_iload hx hb dX9_bitAt_140 (lv_at hl 6 rfl) ?_
                        refine lv_goto (tgt := 146) hx hb dX9_bitAt_142 (by decide) ?_
                        exact K_137 (zrN pa L p_) (by first | rfl | (try rw [if_pos c_137]) | simp_all) _ _ _ hP hD hS (lv_sub hl [0, 1, 2, 3, 4, 5, 6, 7, 8, 9] rfl)
                    · skip
                      refine lv_iconst (v := nI 1) hx hb dX9_bitAt_122 (by decide) ?_
                      refine lv_goto (tgt := 127) hx hb dX9_bitAt_123 (by decide) ?_
                      refine lv_istore (lv' := [(4, .int (nI 1)), (9, .int (nI (tokL pa L p_))), (8, .int (nI (tokH pa L p_))), (7, .int (tokV pa L p_)), (6, .int (pa ((orT L) p_))), (5, .int (nI (zrN pa L p_))), (0, .ref h), (1, .int (nI w)), (2, .int (nI q_)), (3, .int (nI p_))]) hx hb dX9_bitAt_127 hl (by decide) rfl (fun ls hl => ?_)
                      refine lv_iload_n hx hb dX9_bitAt_129 rfl (lv_at hl 8 rfl) ?_
                      refine lv_iload hx hb dX9_bitAt_130 (lv_at hl 1 rfl) ?_
                      refine lv_isub hx hb dX9_bitAt_132 ?_
                      refine lv_istore_n (lv' := [(2, .int ((nI q_) - (nI (tokL pa L p_)))), (4, .int (nI 1)), (9, .int (nI (tokL pa L p_))), (8, .int (nI (tokH pa L p_))), (7, .int (tokV pa L p_)), (6, .int (pa ((orT L) p_))), (5, .int (nI (zrN pa L p_))), (0, .ref h), (1, .int (nI w)), (3, .int (nI p_))]) hx hb dX9_bitAt_133 rfl hl (by decide) rfl (fun ls hl => ?_)
                      refine lv_iload_n hx hb dX9_bitAt_134 rfl (lv_at hl 9 rfl) ?_
                      refine lv_iload hx hb dX9_bitAt_135 (lv_at hl 6 rfl) ?_
                      have K_137 : ∀ (v_8 : Nat) (_ : v_8 = if 0 < (zrN pa L p_) then (zrN pa L p_) else 1) (H : Heap) (locs : List Loc) (ls : Array Slot), va_P G.1 vwCl [oM h ad thr sts hs len at_ num many, aI G (ad 5) 64 pa, aI G (ad 8) 64 (nF (orT L))] H → va_D A [oM h ad thr sts hs len at_ num many, aI G (ad 5) 64 pa, aI G (ad 8) 64 (nF (orT L))] → va_S A s.heap H locs → lv_has ls 10 [(2, .int ((nI q_) - (nI (tokL pa L p_)))), (4, .int (nI 1)), (9, .int (nI (tokL pa L p_))), (8, .int (nI (tokH pa L p_))), (7, .int (tokV pa L p_)), (6, .int (pa ((orT L) p_))), (5, .int (nI (zrN pa L p_))), (0, .ref h), (1, .int (nI w)), (3, .int (nI p_))] → W p l e (rm_X9_bitAt) s m AR below meth c H locs 0 0 QQ (F0 m 146 ls [.int (nI v_8), .int (nI p_)]) := by
                        intro v_8 e_v_8 H locs ls hP hD hS hl
                        subst e_v_8
                        refine N_iadd hx hb dX9_bitAt_146 ?_
                        refine lv_istore_n (lv' := [(3, .int (nI (p_ + (if 0 < (zrN pa L p_) then (zrN pa L p_) else 1)))), (2, .int ((nI q_) - (nI (tokL pa L p_)))), (4, .int (nI 1)), (9, .int (nI (tokL pa L p_))), (8, .int (nI (tokH pa L p_))), (7, .int (tokV pa L p_)), (6, .int (pa ((orT L) p_))), (5, .int (nI (zrN pa L p_))), (0, .ref h), (1, .int (nI w))]) hx hb dX9_bitAt_147 rfl hl (by decide) rfl (fun ls hl => ?_)
                        refine lv_goto (tgt := 7) hx hb dX9_bitAt_148 (by decide) ?_
                        have hl : lv_has ls 10 [(0, .ref h), (1, .int (nI w)), (2, .int ((nI q_) - (nI (tokL pa L p_)))), (3, .int (nI (p_ + (if 0 < (zrN pa L p_) then (zrN pa L p_) else 1)))), (4, .int (nI 1))] := lv_sub hl [8, 9, 1, 0, 2] rfl
                        have e_9 : (nI 1) = (nI 1) := by rfl
                        rw [e_9] at hl
                        have hl : lv_has ls 10 [(0, .ref h), (1, .int (nI w)), (2, .int ((nI q_) - (nI (tokL pa L p_)))), (3, .int (nI (p_ + (if 0 < (zrN pa L p_) then (zrN pa L p_) else 1)))), (4, .int (nI 1))] := hl
                        exact ih_7 (p_ + (if 0 < (zrN pa L p_) then (zrN pa L p_) else 1)) q_ ((nI q_) - (nI (tokL pa L p_))) (nI 1) (by first | exact stp_le hp c_10) (by omega) (by first | exact Or.inl ⟨c_16, pk_sub c_85, by rw [← hj1.2, bitS_lt c_10, if_neg (Nat.not_lt.mpr c_85)]; rfl⟩ | exact bit_fd (by rw [← hj1.2, bitS_lt c_10, if_pos c_85]; unfold tokB; first | (rw [if_neg (Nat.not_lt.mpr c_91)]; done) | (rw [if_neg (Nat.not_lt.mpr c_91)]; rfl) | (rw [if_pos c_91, if_pos c_107]; done) | (rw [if_pos c_91, if_pos c_107]; rfl) | (rw [if_pos c_91, if_neg (Nat.pos_iff_ne_zero.mp c_107), if_pos c_119]; done) | (rw [if_pos c_91, if_neg (Nat.pos_iff_ne_zero.mp c_107), if_pos c_119]; rfl) | (rw [if_pos c_91, if_neg (Nat.pos_iff_ne_zero.mp c_107), if_neg c_119]; done) | (rw [if_pos c_91, if_neg (Nat.pos_iff_ne_zero.mp c_107), if_neg c_119]; rfl)) (by rw [← hj1.2, bitS_lt c_10, if_pos c_85]; exact tokB_ne _ _ _ _)) (by have := tokS_pos pa L p_; unfold tokS at this; omega) _ _ _ hP hD hS hl
                      refine N_if_le (tgt := 145) hx hb dX9_bitAt_137 (by decide) (by omega) (fun c_137 => ?_) (fun c_137 => ?_)
                      · skip
                        refine lv_iconst (v := nI 1) hx hb dX9_bitAt_145 (by decide) ?_
                        exact K_137 1 (by first | rfl | (try rw [if_neg (by omega)]) | simp_all) _ _ _ hP hD hS (lv_sub hl [0, 1, 2, 3, 4, 5, 6, 7, 8, 9] rfl)
                      · skip
                        refine lv_iload hx hb dX9_bitAt_140 (lv_at hl 6 rfl) ?_
                        refine lv_goto (tgt := 146) hx hb dX9_bitAt_142 (by decide) ?_
                        exact K_137 (zrN pa L p_) (by first | rfl | (try rw [if_pos c_137]) | simp_all) _ _ _ hP hD hS (lv_sub hl [0, 1, 2, 3, 4, 5, 6, 7, 8, 9] rfl)
                  · skip
                    refine lv_iload hx hb dX9_bitAt_110 (lv_at hl 1 rfl) ?_
                    refine lv_iconst (v := nI 1) hx hb dX9_bitAt_112 (by decide) ?_
                    refine N_isub hx hb dX9_bitAt_113 (by omega) ?_
                    refine lv_goto (tgt := 127) hx hb dX9_bitAt_114 (by decide) ?_
                    refine lv_istore (lv' := [(4, .int (nI ((tokH pa L p_) - 1))), (9, .int (nI (tokL pa L p_))), (8, .int (nI (tokH pa L p_))), (7, .int (tokV pa L p_)), (6, .int (pa ((orT L) p_))), (5, .int (nI (zrN pa L p_))), (0, .ref h), (1, .int (nI w)), (2, .int (nI q_)), (3, .int (nI p_))]) hx hb dX9_bitAt_127 hl (by decide) rfl (fun ls hl => ?_)
                    refine lv_iload_n hx hb dX9_bitAt_129 rfl (lv_at hl 8 rfl) ?_
                    refine lv_iload hx hb dX9_bitAt_130 (lv_at hl 1 rfl) ?_
                    refine lv_isub hx hb dX9_bitAt_132 ?_
                    refine lv_istore_n (lv' := [(2, .int ((nI q_) - (nI (tokL pa L p_)))), (4, .int (nI ((tokH pa L p_) - 1))), (9, .int (nI (tokL pa L p_))), (8, .int (nI (tokH pa L p_))), (7, .int (tokV pa L p_)), (6, .int (pa ((orT L) p_))), (5, .int (nI (zrN pa L p_))), (0, .ref h), (1, .int (nI w)), (3, .int (nI p_))]) hx hb dX9_bitAt_133 rfl hl (by decide) rfl (fun ls hl => ?_)
                    refine lv_iload_n hx hb dX9_bitAt_134 rfl (lv_at hl 9 rfl) ?_
                    refine lv_iload hx hb dX9_bitAt_135 (lv_at hl 6 rfl) ?_
                    have K_137 : ∀ (v_10 : Nat) (_ : v_10 = if 0 < (zrN pa L p_) then (zrN pa L p_) else 1) (H : Heap) (locs : List Loc) (ls : Array Slot), va_P G.1 vwCl [oM h ad thr sts hs len at_ num many, aI G (ad 5) 64 pa, aI G (ad 8) 64 (nF (orT L))] H → va_D A [oM h ad thr sts hs len at_ num many, aI G (ad 5) 64 pa, aI G (ad 8) 64 (nF (orT L))] → va_S A s.heap H locs → lv_has ls 10 [(2, .int ((nI q_) - (nI (tokL pa L p_)))), (4, .int (nI ((tokH pa L p_) - 1))), (9, .int (nI (tokL pa L p_))), (8, .int (nI (tokH pa L p_))), (7, .int (tokV pa L p_)), (6, .int (pa ((orT L) p_))), (5, .int (nI (zrN pa L p_))), (0, .ref h), (1, .int (nI w)), (3, .int (nI p_))] → W p l e (rm_X9_bitAt) s m AR below meth c H locs 0 0 QQ (F0 m 146 ls [.int (nI v_10), .int (nI p_)]) := by
                      intro v_10 e_v_10 H locs ls hP hD hS hl
                      subst e_v_10
                      refine N_iadd hx hb dX9_bitAt_146 ?_
                      refine lv_istore_n (lv' := [(3, .int (nI (p_ + (if 0 < (zrN pa L p_) then (zrN pa L p_) else 1)))), (2, .int ((nI q_) - (nI (tokL pa L p_)))), (4, .int (nI ((tokH pa L p_) - 1))), (9, .int (nI (tokL pa L p_))), (8, .int (nI (tokH pa L p_))), (7, .int (tokV pa L p_)), (6, .int (pa ((orT L) p_))), (5, .int (nI (zrN pa L p_))), (0, .ref h), (1, .int (nI w))]) hx hb dX9_bitAt_147 rfl hl (by decide) rfl (fun ls hl => ?_)
                      refine lv_goto (tgt := 7) hx hb dX9_bitAt_148 (by decide) ?_
                      have hl : lv_has ls 10 [(0, .ref h), (1, .int (nI w)), (2, .int ((nI q_) - (nI (tokL pa L p_)))), (3, .int (nI (p_ + (if 0 < (zrN pa L p_) then (zrN pa L p_) else 1)))), (4, .int (nI ((tokH pa L p_) - 1)))] := lv_sub hl [8, 9, 1, 0, 2] rfl
                      have e_11 : (nI ((tokH pa L p_) - 1)) = (nI ((tokH pa L p_) - 1)) := by rfl
                      rw [e_11] at hl
                      have hl : lv_has ls 10 [(0, .ref h), (1, .int (nI w)), (2, .int ((nI q_) - (nI (tokL pa L p_)))), (3, .int (nI (p_ + (if 0 < (zrN pa L p_) then (zrN pa L p_) else 1)))), (4, .int (nI ((tokH pa L p_) - 1)))] := hl
                      exact ih_7 (p_ + (if 0 < (zrN pa L p_) then (zrN pa L p_) else 1)) q_ ((nI q_) - (nI (tokL pa L p_))) (nI ((tokH pa L p_) - 1)) (by first | exact stp_le hp c_10) (by omega) (by first | exact Or.inl ⟨c_16, pk_sub c_85, by rw [← hj1.2, bitS_lt c_10, if_neg (Nat.not_lt.mpr c_85)]; rfl⟩ | exact bit_fd (by rw [← hj1.2, bitS_lt c_10, if_pos c_85]; unfold tokB; first | (rw [if_neg (Nat.not_lt.mpr c_91)]; done) | (rw [if_neg (Nat.not_lt.mpr c_91)]; rfl) | (rw [if_pos c_91, if_pos c_107]; done) | (rw [if_pos c_91, if_pos c_107]; rfl) | (rw [if_pos c_91, if_neg (Nat.pos_iff_ne_zero.mp c_107), if_pos c_119]; done) | (rw [if_pos c_91, if_neg (Nat.pos_iff_ne_zero.mp c_107), if_pos c_119]; rfl) | (rw [if_pos c_91, if_neg (Nat.pos_iff_ne_zero.mp c_107), if_neg c_119]; done) | (rw [if_pos c_91, if_neg (Nat.pos_iff_ne_zero.mp c_107), if_neg c_119]; rfl)) (by rw [← hj1.2, bitS_lt c_10, if_pos c_85]; exact tokB_ne _ _ _ _)) (by have := tokS_pos pa L p_; unfold tokS at this; omega) _ _ _ hP hD hS hl
                    refine N_if_le (tgt := 145) hx hb dX9_bitAt_137 (by decide) (by omega) (fun c_137 => ?_) (fun c_137 => ?_)
                    · skip
                      refine lv_iconst (v := nI 1) hx hb dX9_bitAt_145 (by decide) ?_
                      exact K_137 1 (by first | rfl | (try rw [if_neg (by omega)]) | simp_all) _ _ _ hP hD hS (lv_sub hl [0, 1, 2, 3, 4, 5, 6, 7, 8, 9] rfl)
                    · skip
                      refine lv_iload hx hb dX9_bitAt_140 (lv_at hl 6 rfl) ?_
                      refine lv_goto (tgt := 146) hx hb dX9_bitAt_142 (by decide) ?_
                      exact K_137 (zrN pa L p_) (by first | rfl | (try rw [if_pos c_137]) | simp_all) _ _ _ hP hD hS (lv_sub hl [0, 1, 2, 3, 4, 5, 6, 7, 8, 9] rfl)
                · skip
                  refine lv_iload hx hb dX9_bitAt_94 (lv_at hl 2 rfl) ?_
                  refine lv_iload_n hx hb dX9_bitAt_96 rfl (lv_at hl 7 rfl) ?_
                  refine lv_iload hx hb dX9_bitAt_97 (lv_at hl 1 rfl) ?_
                  refine N_isub hx hb dX9_bitAt_99 (by omega) ?_
                  refine fin_i (ws' := (fun (_ : Unit) => [oM h ad thr sts hs len at_ num many, aI G (ad 5) 64 pa, aI G (ad 8) 64 (nF (orT L))])) hA hS hP hD [] rfl [(false, 0), (false, 1), (false, 2)] (fun _ => rfl) (by decide) (run_S (As := [.int (tokV pa L p_), .int (nI (q_ - (tokH pa L p_)))]) (rest := []) (n9 := 2) hx hb hml hown hts hE hAb hl.1 hS hP hD [] rfl (by decide) (t_X9_bitOf l G b0 _ (tokV pa L p_) (q_ - (tokH pa L p_)) (by omega)) (lw_S q1910 q1911 q129 q1912) ⟨by decide, by decide, by decide +kernel⟩ ⟨Nat.le_of_ble_eq_true rfl, Nat.le_of_ble_eq_true rfl⟩ ⟨by first | exact Nat.le_of_ble_eq_true rfl | (simp only [rm_X9_bitAt, rm_X9_bitOf]; omega), by first | exact Nat.le_of_ble_eq_true rfl | (simp only [rm_X9_bitAt, rm_X9_bitOf]; omega)⟩ dX9_bitAt_100 (Nat.le_of_ble_eq_true rfl) rfl rfl) (fun r_12 u_12 H locs h_12 hP hD hS => ?_)
                  have hP : va_P G.1 vwCl [oM h ad thr sts hs len at_ num many, aI G (ad 5) 64 pa, aI G (ad 8) 64 (nF (orT L))] _ := hP
                  have hD : va_D A [oM h ad thr sts hs len at_ num many, aI G (ad 5) 64 pa, aI G (ad 8) 64 (nF (orT L))] := hD
                  have h_12 : r_12 = (bitV (tokV pa L p_) (q_ - (tokH pa L p_))) := h_12
                  rw [h_12]
                  refine lv_goto (tgt := 127) hx hb dX9_bitAt_103 (by decide) ?_
                  refine lv_istore (lv' := [(4, .int (bitV (tokV pa L p_) (q_ - (tokH pa L p_)))), (9, .int (nI (tokL pa L p_))), (8, .int (nI (tokH pa L p_))), (7, .int (tokV pa L p_)), (6, .int (pa ((orT L) p_))), (5, .int (nI (zrN pa L p_))), (0, .ref h), (1, .int (nI w)), (2, .int (nI q_)), (3, .int (nI p_))]) hx hb dX9_bitAt_127 hl (by decide) rfl (fun ls hl => ?_)
                  refine lv_iload_n hx hb dX9_bitAt_129 rfl (lv_at hl 8 rfl) ?_
                  refine lv_iload hx hb dX9_bitAt_130 (lv_at hl 1 rfl) ?_
                  refine lv_isub hx hb dX9_bitAt_132 ?_
                  refine lv_istore_n (lv' := [(2, .int ((nI q_) - (nI (tokL pa L p_)))), (4, .int (bitV (tokV pa L p_) (q_ - (tokH pa L p_)))), (9, .int (nI (tokL pa L p_))), (8, .int (nI (tokH pa L p_))), (7, .int (tokV pa L p_)), (6, .int (pa ((orT L) p_))), (5, .int (nI (zrN pa L p_))), (0, .ref h), (1, .int (nI w)), (3, .int (nI p_))]) hx hb dX9_bitAt_133 rfl hl (by decide) rfl (fun ls hl => ?_)
                  refine lv_iload_n hx hb dX9_bitAt_134 rfl (lv_at hl 9 rfl) ?_
                  refine lv_iload hx hb dX9_bitAt_135 (lv_at hl 6 rfl) ?_
                  have K_137 : ∀ (v_13 : Nat) (_ : v_13 = if 0 < (zrN pa L p_) then (zrN pa L p_) else 1) (H : Heap) (locs : List Loc) (ls : Array Slot), va_P G.1 vwCl [oM h ad thr sts hs len at_ num many, aI G (ad 5) 64 pa, aI G (ad 8) 64 (nF (orT L))] H → va_D A [oM h ad thr sts hs len at_ num many, aI G (ad 5) 64 pa, aI G (ad 8) 64 (nF (orT L))] → va_S A s.heap H locs → lv_has ls 10 [(2, .int ((nI q_) - (nI (tokL pa L p_)))), (4, .int (bitV (tokV pa L p_) (q_ - (tokH pa L p_)))), (9, .int (nI (tokL pa L p_))), (8, .int (nI (tokH pa L p_))), (7, .int (tokV pa L p_)), (6, .int (pa ((orT L) p_))), (5, .int (nI (zrN pa L p_))), (0, .ref h), (1, .int (nI w)), (3, .int (nI p_))] → W p l e (rm_X9_bitAt) s m AR below meth c H locs 0 0 QQ (F0 m 146 ls [.int (nI v_13), .int (nI p_)]) := by
                    intro v_13 e_v_13 H locs ls hP hD hS hl
                    subst e_v_13
                    refine N_iadd hx hb dX9_bitAt_146 ?_
                    refine lv_istore_n (lv' := [(3, .int (nI (p_ + (if 0 < (zrN pa L p_) then (zrN pa L p_) else 1)))), (2, .int ((nI q_) - (nI (tokL pa L p_)))), (4, .int (bitV (tokV pa L p_) (q_ - (tokH pa L p_)))), (9, .int (nI (tokL pa L p_))), (8, .int (nI (tokH pa L p_))), (7, .int (tokV pa L p_)), (6, .int (pa ((orT L) p_))), (5, .int (nI (zrN pa L p_))), (0, .ref h), (1, .int (nI w))]) hx hb dX9_bitAt_147 rfl hl (by decide) rfl (fun ls hl => ?_)
                    refine lv_goto (tgt := 7) hx hb dX9_bitAt_148 (by decide) ?_
                    have hl : lv_has ls 10 [(0, .ref h), (1, .int (nI w)), (2, .int ((nI q_) - (nI (tokL pa L p_)))), (3, .int (nI (p_ + (if 0 < (zrN pa L p_) then (zrN pa L p_) else 1)))), (4, .int (bitV (tokV pa L p_) (q_ - (tokH pa L p_))))] := lv_sub hl [8, 9, 1, 0, 2] rfl
                    exact ih_7 (p_ + (if 0 < (zrN pa L p_) then (zrN pa L p_) else 1)) q_ ((nI q_) - (nI (tokL pa L p_))) (bitV (tokV pa L p_) (q_ - (tokH pa L p_))) (by first | exact stp_le hp c_10) (by omega) (by first | exact Or.inl ⟨c_16, pk_sub c_85, by rw [← hj1.2, bitS_lt c_10, if_neg (Nat.not_lt.mpr c_85)]; rfl⟩ | exact bit_fd (by rw [← hj1.2, bitS_lt c_10, if_pos c_85]; unfold tokB; first | (rw [if_neg (Nat.not_lt.mpr c_91)]; done) | (rw [if_neg (Nat.not_lt.mpr c_91)]; rfl) | (rw [if_pos c_91, if_pos c_107]; done) | (rw [if_pos c_91, if_pos c_107]; rfl) | (rw [if_pos c_91, if_neg (Nat.pos_iff_ne_zero.mp c_107), if_pos c_119]; done) | (rw [if_pos c_91, if_neg (Nat.pos_iff_ne_zero.mp c_107), if_pos c_119]; rfl) | (rw [if_pos c_91, if_neg (Nat.pos_iff_ne_zero.mp c_107), if_neg c_119]; done) | (rw [if_pos c_91, if_neg (Nat.pos_iff_ne_zero.mp c_107), if_neg c_119]; rfl)) (by rw [← hj1.2, bitS_lt c_10, if_pos c_85]; exact tokB_ne _ _ _ _)) (by have := tokS_pos pa L p_; unfold tokS at this; omega) _ _ _ hP hD hS hl
                  refine N_if_le (tgt := 145) hx hb dX9_bitAt_137 (by decide) (by omega) (fun c_137 => ?_) (fun c_137 => ?_)
                  · skip
                    refine lv_iconst (v := nI 1) hx hb dX9_bitAt_145 (by decide) ?_
                    exact K_137 1 (by first | rfl | (try rw [if_neg (by omega)]) | simp_all) _ _ _ hP hD hS (lv_sub hl [0, 1, 2, 3, 4, 5, 6, 7, 8, 9] rfl)
                  · skip
                    refine lv_iload hx hb dX9_bitAt_140 (lv_at hl 6 rfl) ?_
                    refine lv_goto (tgt := 146) hx hb dX9_bitAt_142 (by decide) ?_
                    exact K_137 (zrN pa L p_) (by first | rfl | (try rw [if_pos c_137]) | simp_all) _ _ _ hP hD hS (lv_sub hl [0, 1, 2, 3, 4, 5, 6, 7, 8, 9] rfl)
            refine N_if_le (tgt := 65) hx hb dX9_bitAt_58 (by decide) (by omega) (fun c_58 => ?_) (fun c_58 => ?_)
            · skip
              refine lv_iconst (v := nI 2) hx hb dX9_bitAt_65 (by decide) ?_
              exact K_58 2 (by first | rfl | (try rw [if_neg (by omega)]) | simp_all) _ _ _ hP hD hS (lv_sub hl [0, 1, 2, 3, 4, 5, 6, 7] rfl)
            · skip
              refine lv_iconst (v := nI 1) hx hb dX9_bitAt_61 (by decide) ?_
              refine lv_goto (tgt := 66) hx hb dX9_bitAt_62 (by decide) ?_
              exact K_58 1 (by first | rfl | (try rw [if_pos c_58]) | simp_all) _ _ _ hP hD hS (lv_sub hl [0, 1, 2, 3, 4, 5, 6, 7] rfl)
          refine N_if_le (tgt := 49) hx hb dX9_bitAt_41 (by decide) (by omega) (fun c_41 => ?_) (fun c_41 => ?_)
          · skip
            refine lv_iload hx hb dX9_bitAt_49 (lv_at hl 0 rfl) ?_
            refine fin_i (ws' := (fun (_ : Unit) => [oM h ad thr sts hs len at_ num many, aI G (ad 5) 64 pa, aI G (ad 8) 64 (nF (orT L))])) hA hS hP hD [] rfl [(false, 0), (false, 1), (false, 2)] (fun _ => rfl) (by decide) (run_S (As := [.int (pa ((orT L) p_))]) (rest := []) (n9 := 1) hx hb hml hown hts hE hAb hl.1 hS hP hD [] rfl (by decide) (t_X9_size l G b0 _ (pa ((orT L) p_)) ) (lw_S q1799 q1800 q129 q1801) ⟨by decide, by decide, by decide +kernel⟩ ⟨Nat.le_of_ble_eq_true rfl, Nat.le_of_ble_eq_true rfl⟩ ⟨by first | exact Nat.le_of_ble_eq_true rfl | (simp only [rm_X9_bitAt, rm_X9_size]; omega), by first | exact Nat.le_of_ble_eq_true rfl | (simp only [rm_X9_bitAt, rm_X9_size]; omega)⟩ dX9_bitAt_51 (Nat.le_of_ble_eq_true rfl) rfl rfl) (fun r_14 u_14 H locs h_14 hP hD hS => ?_)
            have hP : va_P G.1 vwCl [oM h ad thr sts hs len at_ num many, aI G (ad 5) 64 pa, aI G (ad 8) 64 (nF (orT L))] _ := hP
            have hD : va_D A [oM h ad thr sts hs len at_ num many, aI G (ad 5) 64 pa, aI G (ad 8) 64 (nF (orT L))] := hD
            have h_14 : r_14 = (sizI (pa ((orT L) p_))) := h_14
            rw [h_14]
            exact K_41 (sizI (pa ((orT L) p_))) (by first | rfl | (try rw [if_neg (by omega)]) | simp_all) _ _ _ hP hD hS (lv_sub hl [0, 1, 2, 3, 4, 5, 6] rfl)
          · skip
            refine lv_iload hx hb dX9_bitAt_44 (lv_at hl 1 rfl) ?_
            refine lv_goto (tgt := 54) hx hb dX9_bitAt_46 (by decide) ?_
            exact K_41 (nI (zrN pa L p_)) (by first | rfl | (try rw [if_pos c_41]) | simp_all) _ _ _ hP hD hS (lv_sub hl [0, 1, 2, 3, 4, 5, 6] rfl)
  have hl : lv_has ls 10 [(0, .ref h), (1, .int (nI w)), (2, .int (nI w)), (3, .int (nI 0)), (4, .int ((-1)))] := lv_sub hl [3, 4, 2, 1, 0] rfl
  have e_15 : (nI w) = (nI w) := by rfl
  rw [e_15] at hl
  have hl : lv_has ls 10 [(0, .ref h), (1, .int (nI w)), (2, .int (nI w)), (3, .int (nI 0)), (4, .int ((-1)))] := hl
  exact lp_7 _ 0 w (nI w) ((-1)) (by omega) (by omega) (by exact Or.inl ⟨rfl, rfl, rfl⟩) (Nat.lt_succ_self _) _ _ _ hP hD hS hl
def rm_X9_layCode : Room := ({ frames := 4, cells := 0, slots := 0, locals := 98 } : Room)
set_option maxHeartbeats 400000 in
set_option maxRecDepth 100000 in
theorem t_X9_layCode (l : Launch) (G : GG) (b0 sz : Nat) (h : Nat) (ad : Nat → Nat) (thr sts : Nat) (hs : Bool) (len at_ num many : Nat) (st pa li od ot : Nat → Int32) (L : Nat) (hL1 : 1 ≤ L) (hL : L ≤ 3) (hst : st 64 = nI L) : CT l yX9_layCode cX9_layCode 1 none (rm_X9_layCode) G b0 [.ref h] [oM h ad thr sts hs len at_ num many, aI G (ad 1) 68 st, aI G (ad 5) 64 pa, aI G (ad 7) 8 li, aI G (ad 8) 64 od, aI G (ad 9) 64 ot] sz (Rv G (fun (u : Nat → Int32) => True) (fun (u : Nat → Int32) => [oM h ad thr sts hs len at_ num many, aI G (ad 1) 68 st, aI G (ad 5) 64 (splitP st L), aI G (ad 7) 8 u, aI G (ad 8) 64 (nF (orT L)), aI G (ad 9) 64 (nF (rnkM L))])) := by
  refine CT.go (by decide) (Nat.le_of_ble_eq_true rfl) (fun p e s m below meth c A ls AR QQ hx hb hr hlk hml hown hnm hts hE hA hAb hsz hP hD hS hl hQQ => ?_)
  have hK := hE.1
  have hown : s.vm.findClass RX9 = some m.cls := hown
  have hl : lv_has ls 1 [(0, .ref h)] := hl
  clear hsz
  refine lv_aload_n hx hb dX9_layCode_0 rfl (lv_at hl 0 rfl) ?_
  refine fin_v (ws' := (fun (u_1 : Nat → Int32) => [oM h ad thr sts hs len at_ num many, aI G (ad 1) 68 st, aI G (ad 5) 64 (splitP st L), aI G (ad 7) 8 u_1, aI G (ad 8) 64 od, aI G (ad 9) 64 ot])) hA hS hP hD [0, 1, 2, 3] rfl [(true, 0), (true, 1), (true, 2), (true, 3), (false, 4), (false, 5)] (fun _ => rfl) (by decide) (run_V (As := []) (rest := []) (n9 := 0) hx hb hml hown hts hE hAb hl.1 hS hP hD [0, 1, 2, 3] rfl (by decide) (t_X9_split l G b0 _ h ad thr sts hs len at_ num many st pa li L (by omega) (by omega) (by omega)) (lw_V q1777 q1779 qs64 q129 q1780) 0 rfl rfl ⟨rfl, by decide, by decide, by decide +kernel⟩ ⟨Nat.le_of_ble_eq_true rfl, Nat.le_of_ble_eq_true rfl⟩ ⟨by first | exact Nat.le_of_ble_eq_true rfl | (simp only [rm_X9_layCode, rm_X9_split]; omega), by first | exact Nat.le_of_ble_eq_true rfl | (simp only [rm_X9_layCode, rm_X9_split]; omega)⟩ dX9_layCode_1 (Nat.le_of_ble_eq_true rfl) rfl rfl) (fun u_1 H locs h_1 hP hD hS => ?_)
  have hP : va_P G.1 vwCl [oM h ad thr sts hs len at_ num many, aI G (ad 1) 68 st, aI G (ad 5) 64 (splitP st L), aI G (ad 7) 8 u_1, aI G (ad 8) 64 od, aI G (ad 9) 64 ot] _ := hP
  have hD : va_D A [oM h ad thr sts hs len at_ num many, aI G (ad 1) 68 st, aI G (ad 5) 64 (splitP st L), aI G (ad 7) 8 u_1, aI G (ad 8) 64 od, aI G (ad 9) 64 ot] := hD
  refine lv_aload_n hx hb dX9_layCode_4 rfl (lv_at hl 0 rfl) ?_
  refine lv_aload_n hx hb dX9_layCode_5 rfl (lv_at hl 0 rfl) ?_
  refine va_get (D := G.1) (ci := 8) (v := .ref (ad 1)) (C := RX9) (T := TX9) (N := 21) hx hb hts in_X9 hown hK hP 0 rfl rfl 1 (by decide) (hts _ q1668) (fun _ h9 => h9) rfl dX9_layCode_6 ?_
  refine lv_bipush (v := nI 64) hx hb dX9_layCode_9 (by decide) ?_
  refine N_iald hx hb dX9_layCode_11 hK hP 1 0 rfl rfl (by omega) (by omega) ?_
  refine top_i (y := nI L) (hst) ?_
  refine fin_v (ws' := (fun (_ : Unit) => [oM h ad thr sts hs len at_ num many, aI G (ad 1) 68 st, aI G (ad 5) 64 (splitP st L), aI G (ad 7) 8 u_1, aI G (ad 8) 64 (nF (orT L)), aI G (ad 9) 64 (nF (rnkM L))])) hA hS hP hD [0, 4, 5] rfl [(true, 0), (false, 1), (false, 2), (false, 3), (true, 1), (true, 2)] (fun _ => rfl) (by decide) (run_V (As := [.int (nI L)]) (rest := []) (n9 := 1) hx hb hml hown hts hE hAb hl.1 hS hP hD [0, 4, 5] rfl (by decide) (t_X9_layOrder l G b0 _ h ad thr sts hs len at_ num many od ot L (by omega) (by omega)) (lw_V q1884 q1886 qs79 q129 q1887) 0 rfl rfl ⟨rfl, by decide, by decide, by decide +kernel⟩ ⟨Nat.le_of_ble_eq_true rfl, Nat.le_of_ble_eq_true rfl⟩ ⟨by first | exact Nat.le_of_ble_eq_true rfl | (simp only [rm_X9_layCode, rm_X9_layOrder]; omega), by first | exact Nat.le_of_ble_eq_true rfl | (simp only [rm_X9_layCode, rm_X9_layOrder]; omega)⟩ dX9_layCode_12 (Nat.le_of_ble_eq_true rfl) rfl rfl) (fun u_2 H locs h_2 hP hD hS => ?_)
  have hP : va_P G.1 vwCl [oM h ad thr sts hs len at_ num many, aI G (ad 1) 68 st, aI G (ad 5) 64 (splitP st L), aI G (ad 7) 8 u_1, aI G (ad 8) 64 (nF (orT L)), aI G (ad 9) 64 (nF (rnkM L))] _ := hP
  have hD : va_D A [oM h ad thr sts hs len at_ num many, aI G (ad 1) 68 st, aI G (ad 5) 64 (splitP st L), aI G (ad 7) 8 u_1, aI G (ad 8) 64 (nF (orT L)), aI G (ad 9) 64 (nF (rnkM L))] := hD
  rw [hQQ]
  exact rt_v hx hb hr hlk u_1 dX9_layCode_15 hP hD hS (by first | exact Nat.le_of_ble_eq_true rfl | (simp only [rm_X9_layCode]; omega)) (by first | exact Nat.le_of_ble_eq_true rfl | (simp only [rm_X9_layCode]; omega)) trivial
def rm_X9_runs : Room := ({ frames := 5, cells := 0, slots := 0, locals := 120 } : Room)
set_option maxHeartbeats 400000 in
set_option maxRecDepth 100000 in
theorem t_X9_runs (l : Launch) (G : GG) (b0 sz : Nat) (h : Nat) (ad : Nat → Nat) (thr sts : Nat) (hs : Bool) (len at_ num many : Nat) (st pa li od ot : Nat → Int32) (L : Nat) (hL1 : 1 ≤ L) (hL : L ≤ 3) (hst : st 64 = nI L) : CT l yX9_runs cX9_runs 3 (some FieldType.int) (rm_X9_runs) G b0 [.ref h] [oM h ad thr sts hs len at_ num many, aI G (ad 1) 68 st, aI G (ad 5) 64 pa, aI G (ad 7) 8 li, aI G (ad 8) 64 od, aI G (ad 9) 64 ot] sz (Ri G (fun (r_ : Int32) (u : Nat → Int32) => r_ = l_sum (runI (splitP st L) L) 64) (fun (u : Nat → Int32) => [oM h ad thr sts hs len at_ num many, aI G (ad 1) 68 st, aI G (ad 5) 64 (splitP st L), aI G (ad 7) 8 u, aI G (ad 8) 64 (nF (orT L)), aI G (ad 9) 64 (nF (rnkM L))])) := by
  refine CT.go (by decide) (Nat.le_of_ble_eq_true rfl) (fun p e s m below meth c A ls AR QQ hx hb hr hlk hml hown hnm hts hE hA hAb hsz hP hD hS hl hQQ => ?_)
  have hK := hE.1
  have hown : s.vm.findClass RX9 = some m.cls := hown
  have hl : lv_has ls 3 [(0, .ref h)] := hl
  clear hsz
  have hpo := (pl_or hL1 hL).1
  refine lv_aload_n hx hb dX9_runs_0 rfl (lv_at hl 0 rfl) ?_
  refine fin_v (ws' := (fun (u_1 : Nat → Int32) => [oM h ad thr sts hs len at_ num many, aI G (ad 1) 68 st, aI G (ad 5) 64 (splitP st L), aI G (ad 7) 8 u_1, aI G (ad 8) 64 (nF (orT L)), aI G (ad 9) 64 (nF (rnkM L))])) hA hS hP hD [0, 1, 2, 3, 4, 5] rfl [(true, 0), (true, 1), (true, 2), (true, 3), (true, 4), (true, 5)] (fun _ => rfl) (by decide) (run_V (As := []) (rest := []) (n9 := 0) hx hb hml hown hts hE hAb hl.1 hS hP hD [0, 1, 2, 3, 4, 5] rfl (by decide) (t_X9_layCode l G b0 _ h ad thr sts hs len at_ num many st pa li od ot L (by omega) (by omega) (by omega)) (lw_V q1880 q1882 qs78 q129 q1883) 0 rfl rfl ⟨rfl, by decide, by decide, by decide +kernel⟩ ⟨Nat.le_of_ble_eq_true rfl, Nat.le_of_ble_eq_true rfl⟩ ⟨by first | exact Nat.le_of_ble_eq_true rfl | (simp only [rm_X9_runs, rm_X9_layCode]; omega), by first | exact Nat.le_of_ble_eq_true rfl | (simp only [rm_X9_runs, rm_X9_layCode]; omega)⟩ dX9_runs_1 (Nat.le_of_ble_eq_true rfl) rfl rfl) (fun u_1 H locs h_1 hP hD hS => ?_)
  have hP : va_P G.1 vwCl [oM h ad thr sts hs len at_ num many, aI G (ad 1) 68 st, aI G (ad 5) 64 (splitP st L), aI G (ad 7) 8 u_1, aI G (ad 8) 64 (nF (orT L)), aI G (ad 9) 64 (nF (rnkM L))] _ := hP
  have hD : va_D A [oM h ad thr sts hs len at_ num many, aI G (ad 1) 68 st, aI G (ad 5) 64 (splitP st L), aI G (ad 7) 8 u_1, aI G (ad 8) 64 (nF (orT L)), aI G (ad 9) 64 (nF (rnkM L))] := hD
  refine lv_iconst (v := nI 0) hx hb dX9_runs_4 (by decide) ?_
  refine lv_istore_n (lv' := [(1, .int (nI 0)), (0, .ref h)]) hx hb dX9_runs_5 rfl hl (by decide) rfl (fun ls hl => ?_)
  refine lv_iconst (v := nI 0) hx hb dX9_runs_6 (by decide) ?_
  refine lv_istore_n (lv' := [(2, .int (nI 0)), (1, .int (nI 0)), (0, .ref h)]) hx hb dX9_runs_7 rfl hl (by decide) rfl (fun ls hl => ?_)
  have lp_8 : ∀ (n_8 : Nat) (k : Nat), (k ≤ 64) → (64 - k) < n_8 → ∀ (H : Heap) (locs : List Loc) (ls : Array Slot), va_P G.1 vwCl [oM h ad thr sts hs len at_ num many, aI G (ad 1) 68 st, aI G (ad 5) 64 (splitP st L), aI G (ad 7) 8 u_1, aI G (ad 8) 64 (nF (orT L)), aI G (ad 9) 64 (nF (rnkM L))] H → va_D A [oM h ad thr sts hs len at_ num many, aI G (ad 1) 68 st, aI G (ad 5) 64 (splitP st L), aI G (ad 7) 8 u_1, aI G (ad 8) 64 (nF (orT L)), aI G (ad 9) 64 (nF (rnkM L))] → va_S A s.heap H locs → lv_has ls 3 [(0, .ref h), (1, .int (l_sum (runI (splitP st L) L) k)), (2, .int (nI k))] → W p l e (rm_X9_runs) s m AR below meth c H locs 0 0 QQ (F0 m 8 ls []) := by
    intro n_8
    induction n_8 with
    | zero => intro k hk hn_; exact absurd hn_ (Nat.not_lt_zero _)
    | succ n_8 ih_8 =>
      intro k hk hn_8 H locs ls hP hD hS hl
      refine lv_iload_n hx hb dX9_runs_8 rfl (lv_at hl 2 rfl) ?_
      refine lv_bipush (v := nI 64) hx hb dX9_runs_9 (by decide) ?_
      refine N_icmp_ge (tgt := 62) hx hb dX9_runs_11 (by decide) (by omega) (by omega) (fun c_11 => ?_) (fun c_11 => ?_)
      · skip
        obtain rfl : k = 64 := by omega
        refine lv_iload_n hx hb dX9_runs_62 rfl (lv_at hl 1 rfl) ?_
        rw [hQQ]
        exact rt_i hx hb hr hlk  u_1 dX9_runs_63 hP hD hS (by first | exact Nat.le_of_ble_eq_true rfl | (simp only [rm_X9_runs]; omega)) (by first | exact Nat.le_of_ble_eq_true rfl | (simp only [rm_X9_runs]; omega)) (by rfl)
      · skip
        refine lv_iload_n hx hb dX9_runs_14 rfl (lv_at hl 1 rfl) ?_
        refine lv_aload_n hx hb dX9_runs_15 rfl (lv_at hl 0 rfl) ?_
        refine va_get (D := G.1) (ci := 8) (v := .ref (ad 5)) (C := RX9) (T := TX9) (N := 21) hx hb hts in_X9 hown hK hP 0 rfl rfl 8 (by decide) (hts _ q1675) (fun _ h9 => h9) rfl dX9_runs_16 ?_
        refine lv_aload_n hx hb dX9_runs_19 rfl (lv_at hl 0 rfl) ?_
        refine va_get (D := G.1) (ci := 8) (v := .ref (ad 8)) (C := RX9) (T := TX9) (N := 21) hx hb hts in_X9 hown hK hP 0 rfl rfl 11 (by decide) (hts _ q1678) (fun _ h9 => h9) rfl dX9_runs_20 ?_
        refine lv_iload_n hx hb dX9_runs_23 rfl (lv_at hl 2 rfl) ?_
        refine N_iald hx hb dX9_runs_24 hK hP 4 0 rfl rfl (by omega) (by omega) ?_
        refine top_i (y := nI ((orT L) k)) rfl ?_
        refine N_iald hx hb dX9_runs_25 hK hP 2 0 rfl rfl (by exact (hpo _ (by omega)).1) (by omega) ?_
        have K_26 : ∀ (v_2 : Bool) (_ : v_2 = if ((splitP st L) ((orT L) k)) = 0 then (if k = 0 then true else (if ((splitP st L) ((orT L) (k - 1))) = 0 then false else true)) else false) (H : Heap) (locs : List Loc) (ls : Array Slot), va_P G.1 vwCl [oM h ad thr sts hs len at_ num many, aI G (ad 1) 68 st, aI G (ad 5) 64 (splitP st L), aI G (ad 7) 8 u_1, aI G (ad 8) 64 (nF (orT L)), aI G (ad 9) 64 (nF (rnkM L))] H → va_D A [oM h ad thr sts hs len at_ num many, aI G (ad 1) 68 st, aI G (ad 5) 64 (splitP st L), aI G (ad 7) 8 u_1, aI G (ad 8) 64 (nF (orT L)), aI G (ad 9) 64 (nF (rnkM L))] → va_S A s.heap H locs → lv_has ls 3 [(0, .ref h), (1, .int (l_sum (runI (splitP st L) L) k)), (2, .int (nI k))] → W p l e (rm_X9_runs) s m AR below meth c H locs 0 0 QQ (F0 m 54 ls [.int (bI v_2), .int (l_sum (runI (splitP st L) L) k)]) := by
          intro v_2 e_v_2 H locs ls hP hD hS hl
          subst e_v_2
          refine lv_iadd hx hb dX9_runs_54 ?_
          refine lv_istore_n (lv' := [(1, .int ((l_sum (runI (splitP st L) L) k) + (bI (if ((splitP st L) ((orT L) k)) = 0 then (if k = 0 then true else (if ((splitP st L) ((orT L) (k - 1))) = 0 then false else true)) else false)))), (0, .ref h), (2, .int (nI k))]) hx hb dX9_runs_55 rfl hl (by decide) rfl (fun ls hl => ?_)
          refine N_iinc (a := k) (b := 1) (k9 := 2) (lv' := [(2, .int (nI (k + 1))), (1, .int ((l_sum (runI (splitP st L) L) k) + (bI (if ((splitP st L) ((orT L) k)) = 0 then (if k = 0 then true else (if ((splitP st L) ((orT L) (k - 1))) = 0 then false else true)) else false)))), (0, .ref h)]) hx hb dX9_runs_56 hl rfl rfl (by decide) rfl (fun ls hl => ?_)
          refine lv_goto (tgt := 8) hx hb dX9_runs_59 (by decide) ?_
          have hl : lv_has ls 3 [(0, .ref h), (1, .int ((l_sum (runI (splitP st L) L) k) + (bI (if ((splitP st L) ((orT L) k)) = 0 then (if k = 0 then true else (if ((splitP st L) ((orT L) (k - 1))) = 0 then false else true)) else false)))), (2, .int (nI (k + 1)))] := lv_sub hl [2, 1, 0] rfl
          have e_3 : ((l_sum (runI (splitP st L) L) k) + (bI (if ((splitP st L) ((orT L) k)) = 0 then (if k = 0 then true else (if ((splitP st L) ((orT L) (k - 1))) = 0 then false else true)) else false))) = (l_sum (runI (splitP st L) L) (k + 1)) := by rfl
          rw [e_3] at hl
          have hl : lv_has ls 3 [(0, .ref h), (1, .int (l_sum (runI (splitP st L) L) (k + 1))), (2, .int (nI (k + 1)))] := hl
          exact ih_8 (k + 1) (by omega) (by omega) _ _ _ hP hD hS hl
        refine lv_if_ne (tgt := 53) hx hb dX9_runs_26 (by decide) (fun c_26 => ?_) (fun c_26 => ?_)
        · skip
          refine lv_iconst (v := nI 0) hx hb dX9_runs_53 (by decide) ?_
          exact K_26 false (by first | rfl | (try rw [if_neg c_26]) | simp_all) _ _ _ hP hD hS (lv_sub hl [0, 1, 2] rfl)
        · skip
          refine lv_iload_n hx hb dX9_runs_29 rfl (lv_at hl 2 rfl) ?_
          refine N_if_eq (tgt := 49) hx hb dX9_runs_30 (by decide) (by omega) (fun c_30 => ?_) (fun c_30 => ?_)
          · skip
            refine lv_iconst (v := nI 1) hx hb dX9_runs_49 (by decide) ?_
            refine lv_goto (tgt := 54) hx hb dX9_runs_50 (by decide) ?_
            exact K_26 true (by first | rfl | (try rw [if_pos c_26]; try rw [if_pos c_30]) | simp_all) _ _ _ hP hD hS (lv_sub hl [0, 1, 2] rfl)
          · skip
            refine lv_aload_n hx hb dX9_runs_33 rfl (lv_at hl 0 rfl) ?_
            refine va_get (D := G.1) (ci := 8) (v := .ref (ad 5)) (C := RX9) (T := TX9) (N := 21) hx hb hts in_X9 hown hK hP 0 rfl rfl 8 (by decide) (hts _ q1675) (fun _ h9 => h9) rfl dX9_runs_34 ?_
            refine lv_aload_n hx hb dX9_runs_37 rfl (lv_at hl 0 rfl) ?_
            refine va_get (D := G.1) (ci := 8) (v := .ref (ad 8)) (C := RX9) (T := TX9) (N := 21) hx hb hts in_X9 hown hK hP 0 rfl rfl 11 (by decide) (hts _ q1678) (fun _ h9 => h9) rfl dX9_runs_38 ?_
            refine lv_iload_n hx hb dX9_runs_41 rfl (lv_at hl 2 rfl) ?_
            refine lv_iconst (v := nI 1) hx hb dX9_runs_42 (by decide) ?_
            refine N_isub hx hb dX9_runs_43 (by omega) ?_
            refine N_iald hx hb dX9_runs_44 hK hP 4 0 rfl rfl (by omega) (by omega) ?_
            refine top_i (y := nI ((orT L) (k - 1))) rfl ?_
            refine N_iald hx hb dX9_runs_45 hK hP 2 0 rfl rfl (by exact (hpo _ (by omega)).1) (by omega) ?_
            refine lv_if_eq (tgt := 53) hx hb dX9_runs_46 (by decide) (fun c_46 => ?_) (fun c_46 => ?_)
            · skip
              refine lv_iconst (v := nI 0) hx hb dX9_runs_53 (by decide) ?_
              exact K_26 false (by first | rfl | (try rw [if_pos c_26]; try rw [if_neg (Nat.pos_iff_ne_zero.mp c_30)]; try rw [if_pos c_46]) | simp_all) _ _ _ hP hD hS (lv_sub hl [0, 1, 2] rfl)
            · skip
              refine lv_iconst (v := nI 1) hx hb dX9_runs_49 (by decide) ?_
              refine lv_goto (tgt := 54) hx hb dX9_runs_50 (by decide) ?_
              exact K_26 true (by first | rfl | (try rw [if_pos c_26]; try rw [if_neg (Nat.pos_iff_ne_zero.mp c_30)]; try rw [if_neg c_46]) | simp_all) _ _ _ hP hD hS (lv_sub hl [0, 1, 2] rfl)
  have hl : lv_has ls 3 [(0, .ref h), (1, .int (nI 0)), (2, .int (nI 0))] := lv_sub hl [2, 1, 0] rfl
  have e_4 : (nI 0) = (l_sum (runI (splitP st L) L) 0) := by rfl
  rw [e_4] at hl
  have hl : lv_has ls 3 [(0, .ref h), (1, .int (l_sum (runI (splitP st L) L) 0)), (2, .int (nI 0))] := hl
  exact lp_8 _ 0 (by omega) (Nat.lt_succ_self _) _ _ _ hP hD hS hl
def rm_X9_lengthWith : Room := ({ frames := 4, cells := 0, slots := 0, locals := 98 } : Room)
set_option maxHeartbeats 400000 in
set_option maxRecDepth 100000 in
theorem t_X9_lengthWith (l : Launch) (G : GG) (b0 sz : Nat) (h : Nat) (ad : Nat → Nat) (thr sts : Nat) (hs : Bool) (len at_ num many : Nat) (st pa li od ot : Nat → Int32) (L : Nat) (hL1 : 1 ≤ L) (hL : L ≤ 3) : CT l yX9_lengthWith cX9_lengthWith 2 (some FieldType.int) (rm_X9_lengthWith) G b0 [.ref h, .int (nI L)] [oM h ad thr sts hs len at_ num many, aI G (ad 1) 68 st, aI G (ad 5) 64 pa, aI G (ad 7) 8 li, aI G (ad 8) 64 od, aI G (ad 9) 64 ot] sz (Ri G (fun (r_ : Int32) (u : Nat → Int32) => r_ = nI (lenC (splitP st L) L 0)) (fun (u : Nat → Int32) => [oM h ad thr sts hs len at_ num many, aI G (ad 1) 68 st, aI G (ad 5) 64 (splitP st L), aI G (ad 7) 8 u, aI G (ad 8) 64 (nF (orT L)), aI G (ad 9) 64 (nF (rnkM L))])) := by
  refine CT.go (by decide) (Nat.le_of_ble_eq_true rfl) (fun p e s m below meth c A ls AR QQ hx hb hr hlk hml hown hnm hts hE hA hAb hsz hP hD hS hl hQQ => ?_)
  have hK := hE.1
  have hown : s.vm.findClass RX9 = some m.cls := hown
  have hl : lv_has ls 2 [(0, .ref h), (1, .int (nI L))] := hl
  clear hsz
  refine lv_aload_n hx hb dX9_lengthWith_0 rfl (lv_at hl 0 rfl) ?_
  refine lv_iload_n hx hb dX9_lengthWith_1 rfl (lv_at hl 1 rfl) ?_
  refine fin_v (ws' := (fun (u_1 : Nat → Int32) => [oM h ad thr sts hs len at_ num many, aI G (ad 1) 68 st, aI G (ad 5) 64 (splitP st L), aI G (ad 7) 8 u_1, aI G (ad 8) 64 od, aI G (ad 9) 64 ot])) hA hS hP hD [0, 1, 2, 3] rfl [(true, 0), (true, 1), (true, 2), (true, 3), (false, 4), (false, 5)] (fun _ => rfl) (by decide) (run_V (As := [.int (nI L)]) (rest := []) (n9 := 1) hx hb hml hown hts hE hAb hl.1 hS hP hD [0, 1, 2, 3] rfl (by decide) (t_X9_splitBy l G b0 _ h ad thr sts hs len at_ num many st pa li L (by omega)) (lw_V q1781 q1783 qs65 q129 q1784) 0 rfl rfl ⟨rfl, by decide, by decide, by decide +kernel⟩ ⟨Nat.le_of_ble_eq_true rfl, Nat.le_of_ble_eq_true rfl⟩ ⟨by first | exact Nat.le_of_ble_eq_true rfl | (simp only [rm_X9_lengthWith, rm_X9_splitBy]; omega), by first | exact Nat.le_of_ble_eq_true rfl | (simp only [rm_X9_lengthWith, rm_X9_splitBy]; omega)⟩ dX9_lengthWith_2 (Nat.le_of_ble_eq_true rfl) rfl rfl) (fun u_1 H locs h_1 hP hD hS => ?_)
  have hP : va_P G.1 vwCl [oM h ad thr sts hs len at_ num many, aI G (ad 1) 68 st, aI G (ad 5) 64 (splitP st L), aI G (ad 7) 8 u_1, aI G (ad 8) 64 od, aI G (ad 9) 64 ot] _ := hP
  have hD : va_D A [oM h ad thr sts hs len at_ num many, aI G (ad 1) 68 st, aI G (ad 5) 64 (splitP st L), aI G (ad 7) 8 u_1, aI G (ad 8) 64 od, aI G (ad 9) 64 ot] := hD
  refine lv_aload_n hx hb dX9_lengthWith_5 rfl (lv_at hl 0 rfl) ?_
  refine lv_iload_n hx hb dX9_lengthWith_6 rfl (lv_at hl 1 rfl) ?_
  refine fin_v (ws' := (fun (_ : Unit) => [oM h ad thr sts hs len at_ num many, aI G (ad 1) 68 st, aI G (ad 5) 64 (splitP st L), aI G (ad 7) 8 u_1, aI G (ad 8) 64 (nF (orT L)), aI G (ad 9) 64 (nF (rnkM L))])) hA hS hP hD [0, 4, 5] rfl [(true, 0), (false, 1), (false, 2), (false, 3), (true, 1), (true, 2)] (fun _ => rfl) (by decide) (run_V (As := [.int (nI L)]) (rest := []) (n9 := 1) hx hb hml hown hts hE hAb hl.1 hS hP hD [0, 4, 5] rfl (by decide) (t_X9_layOrder l G b0 _ h ad thr sts hs len at_ num many od ot L (by omega) (by omega)) (lw_V q1884 q1886 qs79 q129 q1887) 0 rfl rfl ⟨rfl, by decide, by decide, by decide +kernel⟩ ⟨Nat.le_of_ble_eq_true rfl, Nat.le_of_ble_eq_true rfl⟩ ⟨by first | exact Nat.le_of_ble_eq_true rfl | (simp only [rm_X9_lengthWith, rm_X9_layOrder]; omega), by first | exact Nat.le_of_ble_eq_true rfl | (simp only [rm_X9_lengthWith, rm_X9_layOrder]; omega)⟩ dX9_lengthWith_7 (Nat.le_of_ble_eq_true rfl) rfl rfl) (fun u_2 H locs h_2 hP hD hS => ?_)
  have hP : va_P G.1 vwCl [oM h ad thr sts hs len at_ num many, aI G (ad 1) 68 st, aI G (ad 5) 64 (splitP st L), aI G (ad 7) 8 u_1, aI G (ad 8) 64 (nF (orT L)), aI G (ad 9) 64 (nF (rnkM L))] _ := hP
  have hD : va_D A [oM h ad thr sts hs len at_ num many, aI G (ad 1) 68 st, aI G (ad 5) 64 (splitP st L), aI G (ad 7) 8 u_1, aI G (ad 8) 64 (nF (orT L)), aI G (ad 9) 64 (nF (rnkM L))] := hD
  refine lv_aload_n hx hb dX9_lengthWith_10 rfl (lv_at hl 0 rfl) ?_
  refine fin_i (ws' := (fun (_ : Unit) => [oM h ad thr sts hs len at_ num many, aI G (ad 1) 68 st, aI G (ad 5) 64 (splitP st L), aI G (ad 7) 8 u_1, aI G (ad 8) 64 (nF (orT L)), aI G (ad 9) 64 (nF (rnkM L))])) hA hS hP hD [0, 2, 4] rfl [(true, 0), (false, 1), (true, 1), (false, 3), (true, 2), (false, 5)] (fun _ => rfl) (by decide) (run_V (As := []) (rest := []) (n9 := 0) hx hb hml hown hts hE hAb hl.1 hS hP hD [0, 2, 4] rfl (by decide) (t_X9_lengthOfCode l G b0 _ h ad thr sts hs len at_ num many (splitP st L) L (by omega) (by omega)) (lw_V q1891 q1893 qs80 q129 q1894) 0 rfl rfl ⟨rfl, by decide, by decide, by decide +kernel⟩ ⟨Nat.le_of_ble_eq_true rfl, Nat.le_of_ble_eq_true rfl⟩ ⟨by first | exact Nat.le_of_ble_eq_true rfl | (simp only [rm_X9_lengthWith, rm_X9_lengthOfCode]; omega), by first | exact Nat.le_of_ble_eq_true rfl | (simp only [rm_X9_lengthWith, rm_X9_lengthOfCode]; omega)⟩ dX9_lengthWith_11 (Nat.le_of_ble_eq_true rfl) rfl rfl) (fun r_3 u_3 H locs h_3 hP hD hS => ?_)
  have hP : va_P G.1 vwCl [oM h ad thr sts hs len at_ num many, aI G (ad 1) 68 st, aI G (ad 5) 64 (splitP st L), aI G (ad 7) 8 u_1, aI G (ad 8) 64 (nF (orT L)), aI G (ad 9) 64 (nF (rnkM L))] _ := hP
  have hD : va_D A [oM h ad thr sts hs len at_ num many, aI G (ad 1) 68 st, aI G (ad 5) 64 (splitP st L), aI G (ad 7) 8 u_1, aI G (ad 8) 64 (nF (orT L)), aI G (ad 9) 64 (nF (rnkM L))] := hD
  have h_3 : r_3 = (nI (lenC (splitP st L) L 0)) := h_3
  rw [h_3]
  rw [hQQ]
  exact rt_i hx hb hr hlk  u_1 dX9_lengthWith_14 hP hD hS (by first | exact Nat.le_of_ble_eq_true rfl | (simp only [rm_X9_lengthWith]; omega)) (by first | exact Nat.le_of_ble_eq_true rfl | (simp only [rm_X9_lengthWith]; omega)) (by rfl)
def rm_X9_lengthWithout : Room := ({ frames := 4, cells := 0, slots := 0, locals := 98 } : Room)
set_option maxHeartbeats 400000 in
set_option maxRecDepth 100000 in
theorem t_X9_lengthWithout (l : Launch) (G : GG) (b0 sz : Nat) (h : Nat) (ad : Nat → Nat) (thr sts : Nat) (hs : Bool) (len at_ num many : Nat) (st pa li od ot : Nat → Int32) (L : Nat) (t : Int32) (hL1 : 1 ≤ L) (hL : L ≤ 3) (hst : st 64 = nI L) : CT l yX9_lengthWithout cX9_lengthWithout 3 (some FieldType.int) (rm_X9_lengthWithout) G b0 [.ref h, .int t] [oM h ad thr sts hs len at_ num many, aI G (ad 1) 68 st, aI G (ad 5) 64 pa, aI G (ad 7) 8 li, aI G (ad 8) 64 od, aI G (ad 9) 64 ot] sz (Ri G (fun (r_ : Int32) (u : Nat → Int32) => r_ = nI (lenC (drpA L t (splitP st L)) L 0)) (fun (u : Nat → Int32) => [oM h ad thr sts hs len at_ num many, aI G (ad 1) 68 st, aI G (ad 5) 64 (drpA L t (splitP st L)), aI G (ad 7) 8 u, aI G (ad 8) 64 (nF (orT L)), aI G (ad 9) 64 (nF (rnkM L))])) := by
  refine CT.go (by decide) (Nat.le_of_ble_eq_true rfl) (fun p e s m below meth c A ls AR QQ hx hb hr hlk hml hown hnm hts hE hA hAb hsz hP hD hS hl hQQ => ?_)
  have hK := hE.1
  have hown : s.vm.findClass RX9 = some m.cls := hown
  have hl : lv_has ls 3 [(0, .ref h), (1, .int t)] := hl
  clear hsz
  refine lv_aload_n hx hb dX9_lengthWithout_0 rfl (lv_at hl 0 rfl) ?_
  refine lv_aload_n hx hb dX9_lengthWithout_1 rfl (lv_at hl 0 rfl) ?_
  refine va_get (D := G.1) (ci := 8) (v := .ref (ad 1)) (C := RX9) (T := TX9) (N := 21) hx hb hts in_X9 hown hK hP 0 rfl rfl 1 (by decide) (hts _ q1668) (fun _ h9 => h9) rfl dX9_lengthWithout_2 ?_
  refine lv_bipush (v := nI 64) hx hb dX9_lengthWithout_5 (by decide) ?_
  refine N_iald hx hb dX9_lengthWithout_7 hK hP 1 0 rfl rfl (by omega) (by omega) ?_
  refine top_i (y := nI L) (hst) ?_
  refine fin_v (ws' := (fun (_ : Unit) => [oM h ad thr sts hs len at_ num many, aI G (ad 1) 68 st, aI G (ad 5) 64 pa, aI G (ad 7) 8 li, aI G (ad 8) 64 (nF (orT L)), aI G (ad 9) 64 (nF (rnkM L))])) hA hS hP hD [0, 4, 5] rfl [(true, 0), (false, 1), (false, 2), (false, 3), (true, 1), (true, 2)] (fun _ => rfl) (by decide) (run_V (As := [.int (nI L)]) (rest := []) (n9 := 1) hx hb hml hown hts hE hAb hl.1 hS hP hD [0, 4, 5] rfl (by decide) (t_X9_layOrder l G b0 _ h ad thr sts hs len at_ num many od ot L (by omega) (by omega)) (lw_V q1884 q1886 qs79 q129 q1887) 0 rfl rfl ⟨rfl, by decide, by decide, by decide +kernel⟩ ⟨Nat.le_of_ble_eq_true rfl, Nat.le_of_ble_eq_true rfl⟩ ⟨by first | exact Nat.le_of_ble_eq_true rfl | (simp only [rm_X9_lengthWithout, rm_X9_layOrder]; omega), by first | exact Nat.le_of_ble_eq_true rfl | (simp only [rm_X9_lengthWithout, rm_X9_layOrder]; omega)⟩ dX9_lengthWithout_8 (Nat.le_of_ble_eq_true rfl) rfl rfl) (fun u_1 H locs h_1 hP hD hS => ?_)
  have hP : va_P G.1 vwCl [oM h ad thr sts hs len at_ num many, aI G (ad 1) 68 st, aI G (ad 5) 64 pa, aI G (ad 7) 8 li, aI G (ad 8) 64 (nF (orT L)), aI G (ad 9) 64 (nF (rnkM L))] _ := hP
  have hD : va_D A [oM h ad thr sts hs len at_ num many, aI G (ad 1) 68 st, aI G (ad 5) 64 pa, aI G (ad 7) 8 li, aI G (ad 8) 64 (nF (orT L)), aI G (ad 9) 64 (nF (rnkM L))] := hD
  refine lv_aload_n hx hb dX9_lengthWithout_11 rfl (lv_at hl 0 rfl) ?_
  refine lv_iload_n hx hb dX9_lengthWithout_12 rfl (lv_at hl 1 rfl) ?_
  refine fin_i (ws' := (fun (u_2 : Nat → Int32) => [oM h ad thr sts hs len at_ num many, aI G (ad 1) 68 st, aI G (ad 5) 64 (drpA L t (splitP st L)), aI G (ad 7) 8 u_2, aI G (ad 8) 64 (nF (orT L)), aI G (ad 9) 64 (nF (rnkM L))])) hA hS hP hD [0, 1, 2, 3] rfl [(true, 0), (true, 1), (true, 2), (true, 3), (false, 4), (false, 5)] (fun _ => rfl) (by decide) (run_V (As := [.int t]) (rest := []) (n9 := 1) hx hb hml hown hts hE hAb hl.1 hS hP hD [0, 1, 2, 3] rfl (by decide) (t_X9_dropFrom l G b0 _ h ad thr sts hs len at_ num many st pa li L t (by omega) (by omega) (by omega)) (lw_V q1773 q1775 qs63 q129 q1776) 0 rfl rfl ⟨rfl, by decide, by decide, by decide +kernel⟩ ⟨Nat.le_of_ble_eq_true rfl, Nat.le_of_ble_eq_true rfl⟩ ⟨by first | exact Nat.le_of_ble_eq_true rfl | (simp only [rm_X9_lengthWithout, rm_X9_dropFrom]; omega), by first | exact Nat.le_of_ble_eq_true rfl | (simp only [rm_X9_lengthWithout, rm_X9_dropFrom]; omega)⟩ dX9_lengthWithout_13 (Nat.le_of_ble_eq_true rfl) rfl rfl) (fun r_2 u_2 H locs h_2 hP hD hS => ?_)
  have hP : va_P G.1 vwCl [oM h ad thr sts hs len at_ num many, aI G (ad 1) 68 st, aI G (ad 5) 64 (drpA L t (splitP st L)), aI G (ad 7) 8 u_2, aI G (ad 8) 64 (nF (orT L)), aI G (ad 9) 64 (nF (rnkM L))] _ := hP
  have hD : va_D A [oM h ad thr sts hs len at_ num many, aI G (ad 1) 68 st, aI G (ad 5) 64 (drpA L t (splitP st L)), aI G (ad 7) 8 u_2, aI G (ad 8) 64 (nF (orT L)), aI G (ad 9) 64 (nF (rnkM L))] := hD
  have h_2 : r_2 = (l_sum (crmN L t (splitP st L)) 64) := h_2
  rw [h_2]
  refine lv_istore_n (lv' := [(2, .int (l_sum (crmN L t (splitP st L)) 64)), (0, .ref h), (1, .int t)]) hx hb dX9_lengthWithout_16 rfl hl (by decide) rfl (fun ls hl => ?_)
  refine lv_aload_n hx hb dX9_lengthWithout_17 rfl (lv_at hl 1 rfl) ?_
  refine fin_i (ws' := (fun (_ : Unit) => [oM h ad thr sts hs len at_ num many, aI G (ad 1) 68 st, aI G (ad 5) 64 (drpA L t (splitP st L)), aI G (ad 7) 8 u_2, aI G (ad 8) 64 (nF (orT L)), aI G (ad 9) 64 (nF (rnkM L))])) hA hS hP hD [0, 2, 4] rfl [(true, 0), (false, 1), (true, 1), (false, 3), (true, 2), (false, 5)] (fun _ => rfl) (by decide) (run_V (As := []) (rest := []) (n9 := 0) hx hb hml hown hts hE hAb hl.1 hS hP hD [0, 2, 4] rfl (by decide) (t_X9_lengthOfCode l G b0 _ h ad thr sts hs len at_ num many (drpA L t (splitP st L)) L (by omega) (by omega)) (lw_V q1891 q1893 qs80 q129 q1894) 0 rfl rfl ⟨rfl, by decide, by decide, by decide +kernel⟩ ⟨Nat.le_of_ble_eq_true rfl, Nat.le_of_ble_eq_true rfl⟩ ⟨by first | exact Nat.le_of_ble_eq_true rfl | (simp only [rm_X9_lengthWithout, rm_X9_lengthOfCode]; omega), by first | exact Nat.le_of_ble_eq_true rfl | (simp only [rm_X9_lengthWithout, rm_X9_lengthOfCode]; omega)⟩ dX9_lengthWithout_18 (Nat.le_of_ble_eq_true rfl) rfl rfl) (fun r_3 u_3 H locs h_3 hP hD hS => ?_)
  have hP : va_P G.1 vwCl [oM h ad thr sts hs len at_ num many, aI G (ad 1) 68 st, aI G (ad 5) 64 (drpA L t (splitP st L)), aI G (ad 7) 8 u_2, aI G (ad 8) 64 (nF (orT L)), aI G (ad 9) 64 (nF (rnkM L))] _ := hP
  have hD : va_D A [oM h ad thr sts hs len at_ num many, aI G (ad 1) 68 st, aI G (ad 5) 64 (drpA L t (splitP st L)), aI G (ad 7) 8 u_2, aI G (ad 8) 64 (nF (orT L)), aI G (ad 9) 64 (nF (rnkM L))] := hD
  have h_3 : r_3 = (nI (lenC (drpA L t (splitP st L)) L 0)) := h_3
  rw [h_3]
  rw [hQQ]
  exact rt_i hx hb hr hlk  u_2 dX9_lengthWithout_21 hP hD hS (by first | exact Nat.le_of_ble_eq_true rfl | (simp only [rm_X9_lengthWithout]; omega)) (by first | exact Nat.le_of_ble_eq_true rfl | (simp only [rm_X9_lengthWithout]; omega)) (by rfl)
def rm_X9_shareOfZeros : Room := ({ frames := 3, cells := 0, slots := 0, locals := 72 } : Room)
set_option maxHeartbeats 400000 in
set_option maxRecDepth 100000 in
theorem t_X9_shareOfZeros (l : Launch) (G : GG) (b0 sz : Nat) (h : Nat) (ad : Nat → Nat) (thr sts : Nat) (hs : Bool) (len at_ num many : Nat) (st pa li : Nat → Int32) (L : Nat) (hL1 : 1 ≤ L) (hL : L ≤ 3) (hst : st 64 = nI L) : CT l yX9_shareOfZeros cX9_shareOfZeros 3 (some FieldType.double) (rm_X9_shareOfZeros) G b0 [.ref h] [oM h ad thr sts hs len at_ num many, aI G (ad 1) 68 st, aI G (ad 5) 64 pa, aI G (ad 7) 8 li] sz (Rd G (fun (r_ : UInt64) (u : Nat → Int32) => r_ = shrD (zcN (splitP st L) 64)) (fun (u : Nat → Int32) => [oM h ad thr sts hs len at_ num many, aI G (ad 1) 68 st, aI G (ad 5) 64 (splitP st L), aI G (ad 7) 8 u])) := by
  refine CT.go (by decide) (Nat.le_of_ble_eq_true rfl) (fun p e s m below meth c A ls AR QQ hx hb hr hlk hml hown hnm hts hE hA hAb hsz hP hD hS hl hQQ => ?_)
  have hK := hE.1
  have hown : s.vm.findClass RX9 = some m.cls := hown
  have hl : lv_has ls 3 [(0, .ref h)] := hl
  clear hsz
  refine lv_aload_n hx hb dX9_shareOfZeros_0 rfl (lv_at hl 0 rfl) ?_
  refine fin_v (ws' := (fun (u_1 : Nat → Int32) => [oM h ad thr sts hs len at_ num many, aI G (ad 1) 68 st, aI G (ad 5) 64 (splitP st L), aI G (ad 7) 8 u_1])) hA hS hP hD [0, 1, 2, 3] rfl [(true, 0), (true, 1), (true, 2), (true, 3)] (fun _ => rfl) (by decide) (run_V (As := []) (rest := []) (n9 := 0) hx hb hml hown hts hE hAb hl.1 hS hP hD [0, 1, 2, 3] rfl (by decide) (t_X9_split l G b0 _ h ad thr sts hs len at_ num many st pa li L (by omega) (by omega) (by omega)) (lw_V q1777 q1779 qs64 q129 q1780) 0 rfl rfl ⟨rfl, by decide, by decide, by decide +kernel⟩ ⟨Nat.le_of_ble_eq_true rfl, Nat.le_of_ble_eq_true rfl⟩ ⟨by first | exact Nat.le_of_ble_eq_true rfl | (simp only [rm_X9_shareOfZeros, rm_X9_split]; omega), by first | exact Nat.le_of_ble_eq_true rfl | (simp only [rm_X9_shareOfZeros, rm_X9_split]; omega)⟩ dX9_shareOfZeros_1 (Nat.le_of_ble_eq_true rfl) rfl rfl) (fun u_1 H locs h_1 hP hD hS => ?_)
  have hP : va_P G.1 vwCl [oM h ad thr sts hs len at_ num many, aI G (ad 1) 68 st, aI G (ad 5) 64 (splitP st L), aI G (ad 7) 8 u_1] _ := hP
  have hD : va_D A [oM h ad thr sts hs len at_ num many, aI G (ad 1) 68 st, aI G (ad 5) 64 (splitP st L), aI G (ad 7) 8 u_1] := hD
  refine lv_iconst (v := nI 0) hx hb dX9_shareOfZeros_4 (by decide) ?_
  refine lv_istore_n (lv' := [(1, .int (nI 0)), (0, .ref h)]) hx hb dX9_shareOfZeros_5 rfl hl (by decide) rfl (fun ls hl => ?_)
  refine lv_iconst (v := nI 0) hx hb dX9_shareOfZeros_6 (by decide) ?_
  refine lv_istore_n (lv' := [(2, .int (nI 0)), (1, .int (nI 0)), (0, .ref h)]) hx hb dX9_shareOfZeros_7 rfl hl (by decide) rfl (fun ls hl => ?_)
  have lp_8 : ∀ (n_8 : Nat) (k : Nat), (k ≤ 64) → (64 - k) < n_8 → ∀ (H : Heap) (locs : List Loc) (ls : Array Slot), va_P G.1 vwCl [oM h ad thr sts hs len at_ num many, aI G (ad 1) 68 st, aI G (ad 5) 64 (splitP st L), aI G (ad 7) 8 u_1] H → va_D A [oM h ad thr sts hs len at_ num many, aI G (ad 1) 68 st, aI G (ad 5) 64 (splitP st L), aI G (ad 7) 8 u_1] → va_S A s.heap H locs → lv_has ls 3 [(0, .ref h), (1, .int (nI (zcN (splitP st L) k))), (2, .int (nI k))] → W p l e (rm_X9_shareOfZeros) s m AR below meth c H locs 0 0 QQ (F0 m 8 ls []) := by
    intro n_8
    induction n_8 with
    | zero => intro k hk hn_; exact absurd hn_ (Nat.not_lt_zero _)
    | succ n_8 ih_8 =>
      intro k hk hn_8 H locs ls hP hD hS hl
      refine lv_iload_n hx hb dX9_shareOfZeros_8 rfl (lv_at hl 2 rfl) ?_
      refine lv_bipush (v := nI 64) hx hb dX9_shareOfZeros_9 (by decide) ?_
      refine N_icmp_ge (tgt := 37) hx hb dX9_shareOfZeros_11 (by decide) (by omega) (by omega) (fun c_11 => ?_) (fun c_11 => ?_)
      · skip
        obtain rfl : k = 64 := by omega
        refine lv_iload_n hx hb dX9_shareOfZeros_37 rfl (lv_at hl 1 rfl) ?_
        refine lv_i2d hx hb dX9_shareOfZeros_38 ?_
        refine lv_ldc2d (v := 4634204016564240384) hx hb hown (hts _ q1949) dX9_shareOfZeros_39 ?_
        refine lv_ddiv hx hb dX9_shareOfZeros_42 (by exact shr_nn _ (cntN_le _ _)) ?_
        rw [hQQ]
        exact rt_d hx hb hr hlk  u_1 dX9_shareOfZeros_43 hP hD hS (by first | exact Nat.le_of_ble_eq_true rfl | (simp only [rm_X9_shareOfZeros]; omega)) (by first | exact Nat.le_of_ble_eq_true rfl | (simp only [rm_X9_shareOfZeros]; omega)) (by rfl)
      · skip
        refine lv_iload_n hx hb dX9_shareOfZeros_14 rfl (lv_at hl 1 rfl) ?_
        refine lv_aload_n hx hb dX9_shareOfZeros_15 rfl (lv_at hl 0 rfl) ?_
        refine va_get (D := G.1) (ci := 8) (v := .ref (ad 5)) (C := RX9) (T := TX9) (N := 21) hx hb hts in_X9 hown hK hP 0 rfl rfl 8 (by decide) (hts _ q1675) (fun _ h9 => h9) rfl dX9_shareOfZeros_16 ?_
        refine lv_iload_n hx hb dX9_shareOfZeros_19 rfl (lv_at hl 2 rfl) ?_
        refine N_iald hx hb dX9_shareOfZeros_20 hK hP 2 0 rfl rfl (by omega) (by omega) ?_
        have K_21 : ∀ (v_2 : Nat) (_ : v_2 = if ((splitP st L) k) = 0 then 1 else 0) (H : Heap) (locs : List Loc) (ls : Array Slot), va_P G.1 vwCl [oM h ad thr sts hs len at_ num many, aI G (ad 1) 68 st, aI G (ad 5) 64 (splitP st L), aI G (ad 7) 8 u_1] H → va_D A [oM h ad thr sts hs len at_ num many, aI G (ad 1) 68 st, aI G (ad 5) 64 (splitP st L), aI G (ad 7) 8 u_1] → va_S A s.heap H locs → lv_has ls 3 [(0, .ref h), (1, .int (nI (zcN (splitP st L) k))), (2, .int (nI k))] → W p l e (rm_X9_shareOfZeros) s m AR below meth c H locs 0 0 QQ (F0 m 29 ls [.int (nI v_2), .int (nI (zcN (splitP st L) k))]) := by
          intro v_2 e_v_2 H locs ls hP hD hS hl
          subst e_v_2
          refine N_iadd hx hb dX9_shareOfZeros_29 ?_
          refine lv_istore_n (lv' := [(1, .int (nI ((zcN (splitP st L) k) + (if ((splitP st L) k) = 0 then 1 else 0)))), (0, .ref h), (2, .int (nI k))]) hx hb dX9_shareOfZeros_30 rfl hl (by decide) rfl (fun ls hl => ?_)
          refine N_iinc (a := k) (b := 1) (k9 := 2) (lv' := [(2, .int (nI (k + 1))), (1, .int (nI ((zcN (splitP st L) k) + (if ((splitP st L) k) = 0 then 1 else 0)))), (0, .ref h)]) hx hb dX9_shareOfZeros_31 hl rfl rfl (by decide) rfl (fun ls hl => ?_)
          refine lv_goto (tgt := 8) hx hb dX9_shareOfZeros_34 (by decide) ?_
          have hl : lv_has ls 3 [(0, .ref h), (1, .int (nI ((zcN (splitP st L) k) + (if ((splitP st L) k) = 0 then 1 else 0)))), (2, .int (nI (k + 1)))] := lv_sub hl [2, 1, 0] rfl
          have e_3 : (nI ((zcN (splitP st L) k) + (if ((splitP st L) k) = 0 then 1 else 0))) = (nI (zcN (splitP st L) (k + 1))) := by rw [zcN_1]
          rw [e_3] at hl
          have hl : lv_has ls 3 [(0, .ref h), (1, .int (nI (zcN (splitP st L) (k + 1)))), (2, .int (nI (k + 1)))] := hl
          exact ih_8 (k + 1) (by omega) (by omega) _ _ _ hP hD hS hl
        refine lv_if_ne (tgt := 28) hx hb dX9_shareOfZeros_21 (by decide) (fun c_21 => ?_) (fun c_21 => ?_)
        · skip
          refine lv_iconst (v := nI 0) hx hb dX9_shareOfZeros_28 (by decide) ?_
          exact K_21 0 (by first | rfl | (try rw [if_neg c_21]) | simp_all) _ _ _ hP hD hS (lv_sub hl [0, 1, 2] rfl)
        · skip
          refine lv_iconst (v := nI 1) hx hb dX9_shareOfZeros_24 (by decide) ?_
          refine lv_goto (tgt := 29) hx hb dX9_shareOfZeros_25 (by decide) ?_
          exact K_21 1 (by first | rfl | (try rw [if_pos c_21]) | simp_all) _ _ _ hP hD hS (lv_sub hl [0, 1, 2] rfl)
  have hl : lv_has ls 3 [(0, .ref h), (1, .int (nI 0)), (2, .int (nI 0))] := lv_sub hl [2, 1, 0] rfl
  have e_4 : (nI 0) = (nI (zcN (splitP st L) 0)) := by rfl
  rw [e_4] at hl
  have hl : lv_has ls 3 [(0, .ref h), (1, .int (nI (zcN (splitP st L) 0))), (2, .int (nI 0))] := hl
  exact lp_8 _ 0 (by omega) (Nat.lt_succ_self _) _ _ _ hP hD hS hl
def rm_X9_canPart : Room := ({ frames := 3, cells := 0, slots := 0, locals := 72 } : Room)
set_option maxHeartbeats 400000 in
set_option maxRecDepth 100000 in
theorem t_X9_canPart (l : Launch) (G : GG) (b0 sz : Nat) (h : Nat) (ad : Nat → Nat) (thr sts : Nat) (hs : Bool) (len at_ num many : Nat) (st pa bk li : Nat → Int32) (x L : Nat) (v : Int32) (hxx : x < 64) (hL1 : 1 ≤ L) (hL : L ≤ 3) (hst : st 64 = nI L) : CT l yX9_canPart cX9_canPart 5 (some FieldType.boolean) (rm_X9_canPart) G b0 [.ref h, .int (nI x), .int v] [oM h ad thr sts hs len at_ num many, aI G (ad 1) 68 st, aI G (ad 5) 64 pa, aI G (ad 6) 64 bk, aI G (ad 7) 8 li] sz (Ri G (fun (r_ : Int32) (u : Nat → Int32) => r_ = bI (allB (shsB (joinP L (upd (splitP st L) x v))) 64)) (fun (u : Nat → Int32) => [oM h ad thr sts hs len at_ num many, aI G (ad 1) 68 st, aI G (ad 5) 64 (upd (splitP st L) x v), aI G (ad 6) 64 (joinP L (upd (splitP st L) x v)), aI G (ad 7) 8 u])) := by
  refine CT.go (by decide) (Nat.le_of_ble_eq_true rfl) (fun p e s m below meth c A ls AR QQ hx hb hr hlk hml hown hnm hts hE hA hAb hsz hP hD hS hl hQQ => ?_)
  have hK := hE.1
  have hown : s.vm.findClass RX9 = some m.cls := hown
  have hl : lv_has ls 5 [(0, .ref h), (1, .int (nI x)), (2, .int v)] := hl
  clear hsz
  refine lv_aload_n hx hb dX9_canPart_0 rfl (lv_at hl 0 rfl) ?_
  refine fin_v (ws' := (fun (u_1 : Nat → Int32) => [oM h ad thr sts hs len at_ num many, aI G (ad 1) 68 st, aI G (ad 5) 64 (splitP st L), aI G (ad 6) 64 bk, aI G (ad 7) 8 u_1])) hA hS hP hD [0, 1, 2, 4] rfl [(true, 0), (true, 1), (true, 2), (false, 3), (true, 3)] (fun _ => rfl) (by decide) (run_V (As := []) (rest := []) (n9 := 0) hx hb hml hown hts hE hAb hl.1 hS hP hD [0, 1, 2, 4] rfl (by decide) (t_X9_split l G b0 _ h ad thr sts hs len at_ num many st pa li L (by omega) (by omega) (by omega)) (lw_V q1777 q1779 qs64 q129 q1780) 0 rfl rfl ⟨rfl, by decide, by decide, by decide +kernel⟩ ⟨Nat.le_of_ble_eq_true rfl, Nat.le_of_ble_eq_true rfl⟩ ⟨by first | exact Nat.le_of_ble_eq_true rfl | (simp only [rm_X9_canPart, rm_X9_split]; omega), by first | exact Nat.le_of_ble_eq_true rfl | (simp only [rm_X9_canPart, rm_X9_split]; omega)⟩ dX9_canPart_1 (Nat.le_of_ble_eq_true rfl) rfl rfl) (fun u_1 H locs h_1 hP hD hS => ?_)
  have hP : va_P G.1 vwCl [oM h ad thr sts hs len at_ num many, aI G (ad 1) 68 st, aI G (ad 5) 64 (splitP st L), aI G (ad 6) 64 bk, aI G (ad 7) 8 u_1] _ := hP
  have hD : va_D A [oM h ad thr sts hs len at_ num many, aI G (ad 1) 68 st, aI G (ad 5) 64 (splitP st L), aI G (ad 6) 64 bk, aI G (ad 7) 8 u_1] := hD
  refine lv_aload_n hx hb dX9_canPart_4 rfl (lv_at hl 0 rfl) ?_
  refine va_get (D := G.1) (ci := 8) (v := .ref (ad 5)) (C := RX9) (T := TX9) (N := 21) hx hb hts in_X9 hown hK hP 0 rfl rfl 8 (by decide) (hts _ q1675) (fun _ h9 => h9) rfl dX9_canPart_5 ?_
  refine lv_iload_n hx hb dX9_canPart_8 rfl (lv_at hl 1 rfl) ?_
  refine lv_iload_n hx hb dX9_canPart_9 rfl (lv_at hl 2 rfl) ?_
  refine N_iast (ws' := [oM h ad thr sts hs len at_ num many, aI G (ad 1) 68 st, aI G (ad 5) 64 (upd (splitP st L) x v), aI G (ad 6) 64 bk, aI G (ad 7) 8 u_1]) hx hb dX9_canPart_10 hK hP hD hS 2 0 rfl rfl (by omega) (by omega) rfl (fun H locs hP hD hS => ?_)
  refine lv_aload_n hx hb dX9_canPart_11 rfl (lv_at hl 0 rfl) ?_
  refine fin_v (ws' := (fun (u_2 : Nat → Int32) => [oM h ad thr sts hs len at_ num many, aI G (ad 1) 68 st, aI G (ad 5) 64 (upd (splitP st L) x v), aI G (ad 6) 64 (joinP L (upd (splitP st L) x v)), aI G (ad 7) 8 u_2])) hA hS hP hD [0, 1, 2, 3, 4] rfl [(true, 0), (true, 1), (true, 2), (true, 3), (true, 4)] (fun _ => rfl) (by decide) (run_V (As := []) (rest := []) (n9 := 0) hx hb hml hown hts hE hAb hl.1 hS hP hD [0, 1, 2, 3, 4] rfl (by decide) (t_X9_joinBack l G b0 _ h ad thr sts hs len at_ num many st (upd (splitP st L) x v) bk u_1 L (by omega) (by omega) (by omega)) (lw_V q1814 q1816 qs70 q129 q1817) 0 rfl rfl ⟨rfl, by decide, by decide, by decide +kernel⟩ ⟨Nat.le_of_ble_eq_true rfl, Nat.le_of_ble_eq_true rfl⟩ ⟨by first | exact Nat.le_of_ble_eq_true rfl | (simp only [rm_X9_canPart, rm_X9_joinBack]; omega), by first | exact Nat.le_of_ble_eq_true rfl | (simp only [rm_X9_canPart, rm_X9_joinBack]; omega)⟩ dX9_canPart_12 (Nat.le_of_ble_eq_true rfl) rfl rfl) (fun u_2 H locs h_2 hP hD hS => ?_)
  have hP : va_P G.1 vwCl [oM h ad thr sts hs len at_ num many, aI G (ad 1) 68 st, aI G (ad 5) 64 (upd (splitP st L) x v), aI G (ad 6) 64 (joinP L (upd (splitP st L) x v)), aI G (ad 7) 8 u_2] _ := hP
  have hD : va_D A [oM h ad thr sts hs len at_ num many, aI G (ad 1) 68 st, aI G (ad 5) 64 (upd (splitP st L) x v), aI G (ad 6) 64 (joinP L (upd (splitP st L) x v)), aI G (ad 7) 8 u_2] := hD
  refine lv_iconst (v := nI 1) hx hb dX9_canPart_15 (by decide) ?_
  refine lv_istore_n (lv' := [(3, .int (nI 1)), (0, .ref h), (1, .int (nI x)), (2, .int v)]) hx hb dX9_canPart_16 rfl hl (by decide) rfl (fun ls hl => ?_)
  refine lv_iconst (v := nI 0) hx hb dX9_canPart_17 (by decide) ?_
  refine lv_istore (lv' := [(4, .int (nI 0)), (3, .int (nI 1)), (0, .ref h), (1, .int (nI x)), (2, .int v)]) hx hb dX9_canPart_18 hl (by decide) rfl (fun ls hl => ?_)
  have lp_20 : ∀ (n_20 : Nat) (k : Nat), (k ≤ 64) → (64 - k) < n_20 → ∀ (H : Heap) (locs : List Loc) (ls : Array Slot), va_P G.1 vwCl [oM h ad thr sts hs len at_ num many, aI G (ad 1) 68 st, aI G (ad 5) 64 (upd (splitP st L) x v), aI G (ad 6) 64 (joinP L (upd (splitP st L) x v)), aI G (ad 7) 8 u_2] H → va_D A [oM h ad thr sts hs len at_ num many, aI G (ad 1) 68 st, aI G (ad 5) 64 (upd (splitP st L) x v), aI G (ad 6) 64 (joinP L (upd (splitP st L) x v)), aI G (ad 7) 8 u_2] → va_S A s.heap H locs → lv_has ls 5 [(0, .ref h), (1, .int (nI x)), (2, .int v), (3, .int (bI (allB (shsB (joinP L (upd (splitP st L) x v))) k))), (4, .int (nI k))] → W p l e (rm_X9_canPart) s m AR below meth c H locs 0 0 QQ (F0 m 20 ls []) := by
    intro n_20
    induction n_20 with
    | zero => intro k hk hn_; exact absurd hn_ (Nat.not_lt_zero _)
    | succ n_20 ih_20 =>
      intro k hk hn_20 H locs ls hP hD hS hl
      refine lv_iload hx hb dX9_canPart_20 (lv_at hl 4 rfl) ?_
      refine lv_bipush (v := nI 64) hx hb dX9_canPart_22 (by decide) ?_
      refine N_icmp_ge (tgt := 56) hx hb dX9_canPart_24 (by decide) (by omega) (by omega) (fun c_24 => ?_) (fun c_24 => ?_)
      · skip
        obtain rfl : k = 64 := by omega
        refine lv_iload_n hx hb dX9_canPart_56 rfl (lv_at hl 3 rfl) ?_
        rw [hQQ]
        exact rt_z hx hb hr hlk (by first | exact bI_nar _ | rfl) u_2 dX9_canPart_57 hP hD hS (by first | exact Nat.le_of_ble_eq_true rfl | (simp only [rm_X9_canPart]; omega)) (by first | exact Nat.le_of_ble_eq_true rfl | (simp only [rm_X9_canPart]; omega)) (by rfl)
      · skip
        refine lv_iload_n hx hb dX9_canPart_27 rfl (lv_at hl 3 rfl) ?_
        have K_28 : ∀ (v_3 : Bool) (_ : v_3 = if (allB (shsB (joinP L (upd (splitP st L) x v))) k) = true then (if (isSh ((joinP L (upd (splitP st L) x v)) k)) = true then true else false) else false) (H : Heap) (locs : List Loc) (ls : Array Slot), va_P G.1 vwCl [oM h ad thr sts hs len at_ num many, aI G (ad 1) 68 st, aI G (ad 5) 64 (upd (splitP st L) x v), aI G (ad 6) 64 (joinP L (upd (splitP st L) x v)), aI G (ad 7) 8 u_2] H → va_D A [oM h ad thr sts hs len at_ num many, aI G (ad 1) 68 st, aI G (ad 5) 64 (upd (splitP st L) x v), aI G (ad 6) 64 (joinP L (upd (splitP st L) x v)), aI G (ad 7) 8 u_2] → va_S A s.heap H locs → lv_has ls 5 [(0, .ref h), (1, .int (nI x)), (2, .int v), (3, .int (bI (allB (shsB (joinP L (upd (splitP st L) x v))) k))), (4, .int (nI k))] → W p l e (rm_X9_canPart) s m AR below meth c H locs 0 0 QQ (F0 m 49 ls [.int (bI v_3)]) := by
          intro v_3 e_v_3 H locs ls hP hD hS hl
          subst e_v_3
          refine lv_istore_n (lv' := [(3, .int (bI (if (allB (shsB (joinP L (upd (splitP st L) x v))) k) = true then (if (isSh ((joinP L (upd (splitP st L) x v)) k)) = true then true else false) else false))), (0, .ref h), (1, .int (nI x)), (2, .int v), (4, .int (nI k))]) hx hb dX9_canPart_49 rfl hl (by decide) rfl (fun ls hl => ?_)
          refine N_iinc (a := k) (b := 1) (k9 := 4) (lv' := [(4, .int (nI (k + 1))), (3, .int (bI (if (allB (shsB (joinP L (upd (splitP st L) x v))) k) = true then (if (isSh ((joinP L (upd (splitP st L) x v)) k)) = true then true else false) else false))), (0, .ref h), (1, .int (nI x)), (2, .int v)]) hx hb dX9_canPart_50 hl rfl rfl (by decide) rfl (fun ls hl => ?_)
          refine lv_goto (tgt := 20) hx hb dX9_canPart_53 (by decide) ?_
          have hl : lv_has ls 5 [(0, .ref h), (1, .int (nI x)), (2, .int v), (3, .int (bI (if (allB (shsB (joinP L (upd (splitP st L) x v))) k) = true then (if (isSh ((joinP L (upd (splitP st L) x v)) k)) = true then true else false) else false))), (4, .int (nI (k + 1)))] := lv_sub hl [2, 3, 4, 1, 0] rfl
          have e_4 : (bI (if (allB (shsB (joinP L (upd (splitP st L) x v))) k) = true then (if (isSh ((joinP L (upd (splitP st L) x v)) k)) = true then true else false) else false)) = (bI (allB (shsB (joinP L (upd (splitP st L) x v))) (k + 1))) := by exact congrArg bI (cntB_and _ _)
          rw [e_4] at hl
          have hl : lv_has ls 5 [(0, .ref h), (1, .int (nI x)), (2, .int v), (3, .int (bI (allB (shsB (joinP L (upd (splitP st L) x v))) (k + 1)))), (4, .int (nI (k + 1)))] := hl
          exact ih_20 (k + 1) (by omega) (by omega) _ _ _ hP hD hS hl
        refine B_if_eq (tgt := 48) hx hb dX9_canPart_28 (by decide) (fun c_28 => ?_) (fun c_28 => ?_)
        · skip
          refine lv_iconst (v := nI 0) hx hb dX9_canPart_48 (by decide) ?_
          exact K_28 false (by first | rfl | (try rw [if_neg (ne_true_of_eq_false c_28)]) | simp_all) _ _ _ hP hD hS (lv_sub hl [0, 1, 2, 3, 4] rfl)
        · skip
          refine lv_aload_n hx hb dX9_canPart_31 rfl (lv_at hl 0 rfl) ?_
          refine va_get (D := G.1) (ci := 8) (v := .ref (ad 6)) (C := RX9) (T := TX9) (N := 21) hx hb hts in_X9 hown hK hP 0 rfl rfl 9 (by decide) (hts _ q1676) (fun _ h9 => h9) rfl dX9_canPart_32 ?_
          refine lv_iload hx hb dX9_canPart_35 (lv_at hl 4 rfl) ?_
          refine N_iald hx hb dX9_canPart_37 hK hP 3 0 rfl rfl (by omega) (by omega) ?_
          refine fin_i (ws' := (fun (_ : Unit) => [oM h ad thr sts hs len at_ num many, aI G (ad 1) 68 st, aI G (ad 5) 64 (upd (splitP st L) x v), aI G (ad 6) 64 (joinP L (upd (splitP st L) x v)), aI G (ad 7) 8 u_2])) hA hS hP hD [] rfl [(false, 0), (false, 1), (false, 2), (false, 3), (false, 4)] (fun _ => rfl) (by decide) (run_S (As := [.int ((joinP L (upd (splitP st L) x v)) k)]) (rest := []) (n9 := 1) hx hb hml hown hts hE hAb hl.1 hS hP hD [] rfl (by decide) (t_X9_isShade l G b0 _ ((joinP L (upd (splitP st L) x v)) k) ) (lw_S q1767 q1768 q129 q1769) ⟨by decide, by decide, by decide +kernel⟩ ⟨Nat.le_of_ble_eq_true rfl, Nat.le_of_ble_eq_true rfl⟩ ⟨by first | exact Nat.le_of_ble_eq_true rfl | (simp only [rm_X9_canPart, rm_X9_isShade]; omega), by first | exact Nat.le_of_ble_eq_true rfl | (simp only [rm_X9_canPart, rm_X9_isShade]; omega)⟩ dX9_canPart_38 (Nat.le_of_ble_eq_true rfl) rfl rfl) (fun r_5 u_5 H locs h_5 hP hD hS => ?_)
          have hP : va_P G.1 vwCl [oM h ad thr sts hs len at_ num many, aI G (ad 1) 68 st, aI G (ad 5) 64 (upd (splitP st L) x v), aI G (ad 6) 64 (joinP L (upd (splitP st L) x v)), aI G (ad 7) 8 u_2] _ := hP
          have hD : va_D A [oM h ad thr sts hs len at_ num many, aI G (ad 1) 68 st, aI G (ad 5) 64 (upd (splitP st L) x v), aI G (ad 6) 64 (joinP L (upd (splitP st L) x v)), aI G (ad 7) 8 u_2] := hD
          have h_5 : r_5 = (bI (isSh ((joinP L (upd (splitP st L) x v)) k))) := h_5
          rw [h_5]
          refine B_if_eq (tgt := 48) hx hb dX9_canPart_41 (by decide) (fun c_41 => ?_) (fun c_41 => ?_)
          · skip
            refine lv_iconst (v := nI 0) hx hb dX9_canPart_48 (by decide) ?_
            exact K_28 false (by first | rfl | (try rw [if_pos c_28]; try rw [if_neg (ne_true_of_eq_false c_41)]) | simp_all) _ _ _ hP hD hS (lv_sub hl [0, 1, 2, 3, 4] rfl)
          · skip
            refine lv_iconst (v := nI 1) hx hb dX9_canPart_44 (by decide) ?_
            refine lv_goto (tgt := 49) hx hb dX9_canPart_45 (by decide) ?_
            exact K_28 true (by first | rfl | (try rw [if_pos c_28]; try rw [if_pos c_41]) | simp_all) _ _ _ hP hD hS (lv_sub hl [0, 1, 2, 3, 4] rfl)
  have hl : lv_has ls 5 [(0, .ref h), (1, .int (nI x)), (2, .int v), (3, .int (nI 1)), (4, .int (nI 0))] := lv_sub hl [2, 3, 4, 1, 0] rfl
  have e_6 : (nI 1) = (bI (allB (shsB (joinP L (upd (splitP st L) x v))) 0)) := by rfl
  rw [e_6] at hl
  have hl : lv_has ls 5 [(0, .ref h), (1, .int (nI x)), (2, .int v), (3, .int (bI (allB (shsB (joinP L (upd (splitP st L) x v))) 0))), (4, .int (nI 0))] := hl
  exact lp_20 _ 0 (by omega) (Nat.lt_succ_self _) _ _ _ hP hD hS hl
def rm_X9_takeBack : Room := ({ frames := 0, cells := 0, slots := 0, locals := 0 } : Room)
set_option maxHeartbeats 400000 in
set_option maxRecDepth 100000 in
theorem t_X9_takeBack (l : Launch) (G : GG) (b0 sz : Nat) (h : Nat) (ad : Nat → Nat) (thr sts : Nat) (hs : Bool) (len at_ num many : Nat) (st bk : Nat → Int32) : CT l yX9_takeBack cX9_takeBack 3 (some FieldType.int) (rm_X9_takeBack) G b0 [.ref h] [oM h ad thr sts hs len at_ num many, aI G (ad 1) 68 st, aI G (ad 6) 64 bk] sz (Ri G (fun (r_ : Int32) (_ : Unit) => r_ = l_sum (cneI bk st) 64) (fun (_ : Unit) => [oM h ad thr sts hs len at_ num many, aI G (ad 1) 68 (fillTo 64 bk st), aI G (ad 6) 64 bk])) := by
  refine CT.go (by decide) (Nat.le_of_ble_eq_true rfl) (fun p e s m below meth c A ls AR QQ hx hb hr hlk hml hown hnm hts hE hA hAb hsz hP hD hS hl hQQ => ?_)
  have hK := hE.1
  have hown : s.vm.findClass RX9 = some m.cls := hown
  have hl : lv_has ls 3 [(0, .ref h)] := hl
  clear hsz
  refine lv_iconst (v := nI 0) hx hb dX9_takeBack_0 (by decide) ?_
  refine lv_istore_n (lv' := [(1, .int (nI 0)), (0, .ref h)]) hx hb dX9_takeBack_1 rfl hl (by decide) rfl (fun ls hl => ?_)
  refine lv_iconst (v := nI 0) hx hb dX9_takeBack_2 (by decide) ?_
  refine lv_istore_n (lv' := [(2, .int (nI 0)), (1, .int (nI 0)), (0, .ref h)]) hx hb dX9_takeBack_3 rfl hl (by decide) rfl (fun ls hl => ?_)
  have lp_4 : ∀ (n_4 : Nat) (k : Nat), (k ≤ 64) → (64 - k) < n_4 → ∀ (H : Heap) (locs : List Loc) (ls : Array Slot), va_P G.1 vwCl [oM h ad thr sts hs len at_ num many, aI G (ad 1) 68 (fillTo k bk st), aI G (ad 6) 64 bk] H → va_D A [oM h ad thr sts hs len at_ num many, aI G (ad 1) 68 (fillTo k bk st), aI G (ad 6) 64 bk] → va_S A s.heap H locs → lv_has ls 3 [(0, .ref h), (1, .int (l_sum (cneI bk st) k)), (2, .int (nI k))] → W p l e (rm_X9_takeBack) s m AR below meth c H locs 0 0 QQ (F0 m 4 ls []) := by
    intro n_4
    induction n_4 with
    | zero => intro k hk hn_; exact absurd hn_ (Nat.not_lt_zero _)
    | succ n_4 ih_4 =>
      intro k hk hn_4 H locs ls hP hD hS hl
      refine lv_iload_n hx hb dX9_takeBack_4 rfl (lv_at hl 2 rfl) ?_
      refine lv_bipush (v := nI 64) hx hb dX9_takeBack_5 (by decide) ?_
      refine N_icmp_ge (tgt := 51) hx hb dX9_takeBack_7 (by decide) (by omega) (by omega) (fun c_7 => ?_) (fun c_7 => ?_)
      · skip
        obtain rfl : k = 64 := by omega
        refine lv_iload_n hx hb dX9_takeBack_51 rfl (lv_at hl 1 rfl) ?_
        rw [hQQ]
        exact rt_i hx hb hr hlk  (()) dX9_takeBack_52 hP hD hS (by first | exact Nat.le_of_ble_eq_true rfl | (simp only [rm_X9_takeBack]; omega)) (by first | exact Nat.le_of_ble_eq_true rfl | (simp only [rm_X9_takeBack]; omega)) (by rfl)
      · skip
        refine lv_iload_n hx hb dX9_takeBack_10 rfl (lv_at hl 1 rfl) ?_
        refine lv_aload_n hx hb dX9_takeBack_11 rfl (lv_at hl 0 rfl) ?_
        refine va_get (D := G.1) (ci := 8) (v := .ref (ad 6)) (C := RX9) (T := TX9) (N := 21) hx hb hts in_X9 hown hK hP 0 rfl rfl 9 (by decide) (hts _ q1676) (fun _ h9 => h9) rfl dX9_takeBack_12 ?_
        refine lv_iload_n hx hb dX9_takeBack_15 rfl (lv_at hl 2 rfl) ?_
        refine N_iald hx hb dX9_takeBack_16 hK hP 2 0 rfl rfl (by omega) (by omega) ?_
        refine lv_aload_n hx hb dX9_takeBack_17 rfl (lv_at hl 0 rfl) ?_
        refine va_get (D := G.1) (ci := 8) (v := .ref (ad 1)) (C := RX9) (T := TX9) (N := 21) hx hb hts in_X9 hown hK hP 0 rfl rfl 1 (by decide) (hts _ q1668) (fun _ h9 => h9) rfl dX9_takeBack_18 ?_
        refine lv_iload_n hx hb dX9_takeBack_21 rfl (lv_at hl 2 rfl) ?_
        refine N_iald hx hb dX9_takeBack_22 hK hP 1 0 rfl rfl (by omega) (by omega) ?_
        refine top_i (y := st k) (by first | exact fill_ge (Nat.le_refl _) | exact congrArg nI (fill_ge (Nat.le_refl _)) | exact congrArg bI (fill_ge (Nat.le_refl _))) ?_
        have K_23 : ∀ (v_1 : Bool) (_ : v_1 = if (bk k) = (st k) then false else true) (H : Heap) (locs : List Loc) (ls : Array Slot), va_P G.1 vwCl [oM h ad thr sts hs len at_ num many, aI G (ad 1) 68 (fillTo k bk st), aI G (ad 6) 64 bk] H → va_D A [oM h ad thr sts hs len at_ num many, aI G (ad 1) 68 (fillTo k bk st), aI G (ad 6) 64 bk] → va_S A s.heap H locs → lv_has ls 3 [(0, .ref h), (1, .int (l_sum (cneI bk st) k)), (2, .int (nI k))] → W p l e (rm_X9_takeBack) s m AR below meth c H locs 0 0 QQ (F0 m 31 ls [.int (bI v_1), .int (l_sum (cneI bk st) k)]) := by
          intro v_1 e_v_1 H locs ls hP hD hS hl
          subst e_v_1
          refine lv_iadd hx hb dX9_takeBack_31 ?_
          refine lv_istore_n (lv' := [(1, .int ((l_sum (cneI bk st) k) + (bI (if (bk k) = (st k) then false else true)))), (0, .ref h), (2, .int (nI k))]) hx hb dX9_takeBack_32 rfl hl (by decide) rfl (fun ls hl => ?_)
          refine lv_aload_n hx hb dX9_takeBack_33 rfl (lv_at hl 1 rfl) ?_
          refine va_get (D := G.1) (ci := 8) (v := .ref (ad 1)) (C := RX9) (T := TX9) (N := 21) hx hb hts in_X9 hown hK hP 0 rfl rfl 1 (by decide) (hts _ q1668) (fun _ h9 => h9) rfl dX9_takeBack_34 ?_
          refine lv_iload_n hx hb dX9_takeBack_37 rfl (lv_at hl 2 rfl) ?_
          refine lv_aload_n hx hb dX9_takeBack_38 rfl (lv_at hl 1 rfl) ?_
          refine va_get (D := G.1) (ci := 8) (v := .ref (ad 6)) (C := RX9) (T := TX9) (N := 21) hx hb hts in_X9 hown hK hP 0 rfl rfl 9 (by decide) (hts _ q1676) (fun _ h9 => h9) rfl dX9_takeBack_39 ?_
          refine lv_iload_n hx hb dX9_takeBack_42 rfl (lv_at hl 2 rfl) ?_
          refine N_iald hx hb dX9_takeBack_43 hK hP 2 0 rfl rfl (by omega) (by omega) ?_
          refine N_iast (ws' := [oM h ad thr sts hs len at_ num many, aI G (ad 1) 68 (upd (fillTo k bk st) k (bk k)), aI G (ad 6) 64 bk]) hx hb dX9_takeBack_44 hK hP hD hS 1 0 rfl rfl (by omega) (by omega) rfl (fun H locs hP hD hS => ?_)
          refine N_iinc (a := k) (b := 1) (k9 := 2) (lv' := [(2, .int (nI (k + 1))), (1, .int ((l_sum (cneI bk st) k) + (bI (if (bk k) = (st k) then false else true)))), (0, .ref h)]) hx hb dX9_takeBack_45 hl rfl rfl (by decide) rfl (fun ls hl => ?_)
          refine lv_goto (tgt := 4) hx hb dX9_takeBack_48 (by decide) ?_
          have e_2 : (upd (fillTo k bk st) k (bk k)) = (fillTo (k + 1) bk st) := by exact fill_step
          have hP : va_P G.1 vwCl [oM h ad thr sts hs len at_ num many, aI G (ad 1) 68 (fillTo (k + 1) bk st), aI G (ad 6) 64 bk] _ := cong_P (q0 := 1) (fun j _ => congrFun e_2 j) rfl rfl hP
          have hD : va_D A [oM h ad thr sts hs len at_ num many, aI G (ad 1) 68 (fillTo (k + 1) bk st), aI G (ad 6) 64 bk] := cong_D (q0 := 1) rfl rfl hD
          have hP : va_P G.1 vwCl [oM h ad thr sts hs len at_ num many, aI G (ad 1) 68 (fillTo (k + 1) bk st), aI G (ad 6) 64 bk] _ := hP
          have hD : va_D A [oM h ad thr sts hs len at_ num many, aI G (ad 1) 68 (fillTo (k + 1) bk st), aI G (ad 6) 64 bk] := hD
          have hl : lv_has ls 3 [(0, .ref h), (1, .int ((l_sum (cneI bk st) k) + (bI (if (bk k) = (st k) then false else true)))), (2, .int (nI (k + 1)))] := lv_sub hl [2, 1, 0] rfl
          have e_3 : ((l_sum (cneI bk st) k) + (bI (if (bk k) = (st k) then false else true))) = (l_sum (cneI bk st) (k + 1)) := by rfl
          rw [e_3] at hl
          have hl : lv_has ls 3 [(0, .ref h), (1, .int (l_sum (cneI bk st) (k + 1))), (2, .int (nI (k + 1)))] := hl
          exact ih_4 (k + 1) (by omega) (by omega) _ _ _ hP hD hS hl
        refine lv_icmp_eq (tgt := 30) hx hb dX9_takeBack_23 (by decide) (fun c_23 => ?_) (fun c_23 => ?_)
        · skip
          refine lv_iconst (v := nI 0) hx hb dX9_takeBack_30 (by decide) ?_
          exact K_23 false (by first | rfl | (try rw [if_pos c_23]) | simp_all) _ _ _ hP hD hS (lv_sub hl [0, 1, 2] rfl)
        · skip
          refine lv_iconst (v := nI 1) hx hb dX9_takeBack_26 (by decide) ?_
          refine lv_goto (tgt := 31) hx hb dX9_takeBack_27 (by decide) ?_
          exact K_23 true (by first | rfl | (try rw [if_neg c_23]) | simp_all) _ _ _ hP hD hS (lv_sub hl [0, 1, 2] rfl)
  have e_4 : (st) = (fillTo 0 bk st) := by exact (fill0 _ _).symm
  have hP : va_P G.1 vwCl [oM h ad thr sts hs len at_ num many, aI G (ad 1) 68 (fillTo 0 bk st), aI G (ad 6) 64 bk] _ := cong_P (q0 := 1) (fun j _ => congrFun e_4 j) rfl rfl hP
  have hD : va_D A [oM h ad thr sts hs len at_ num many, aI G (ad 1) 68 (fillTo 0 bk st), aI G (ad 6) 64 bk] := cong_D (q0 := 1) rfl rfl hD
  have hP : va_P G.1 vwCl [oM h ad thr sts hs len at_ num many, aI G (ad 1) 68 (fillTo 0 bk st), aI G (ad 6) 64 bk] _ := hP
  have hD : va_D A [oM h ad thr sts hs len at_ num many, aI G (ad 1) 68 (fillTo 0 bk st), aI G (ad 6) 64 bk] := hD
  have hl : lv_has ls 3 [(0, .ref h), (1, .int (nI 0)), (2, .int (nI 0))] := lv_sub hl [2, 1, 0] rfl
  have e_5 : (nI 0) = (l_sum (cneI bk st) 0) := by rfl
  rw [e_5] at hl
  have hl : lv_has ls 3 [(0, .ref h), (1, .int (l_sum (cneI bk st) 0)), (2, .int (nI 0))] := hl
  exact lp_4 _ 0 (by omega) (Nat.lt_succ_self _) _ _ _ hP hD hS hl
def rm_X9_doTurn : Room := ({ frames := 1, cells := 0, slots := 0, locals := 22 } : Room)
set_option maxHeartbeats 400000 in
set_option maxRecDepth 100000 in
theorem t_X9_doTurn (l : Launch) (G : GG) (b0 sz : Nat) (h : Nat) (ad : Nat → Nat) (thr sts : Nat) (hs : Bool) (len at_ num many : Nat) (st bk : Nat → Int32) : CT l yX9_doTurn cX9_doTurn 2 (some FieldType.int) (rm_X9_doTurn) G b0 [.ref h] [oM h ad thr sts hs len at_ num many, aI G (ad 1) 68 st, aI G (ad 6) 64 bk] sz (Ri G (fun (r_ : Int32) (_ : Unit) => r_ = l_sum (cneI (turnF false st) st) 64) (fun (_ : Unit) => [oM h ad thr sts hs len at_ num many, aI G (ad 1) 68 (fillTo 64 (turnF false st) st), aI G (ad 6) 64 (turnF false st)])) := by
  refine CT.go (by decide) (Nat.le_of_ble_eq_true rfl) (fun p e s m below meth c A ls AR QQ hx hb hr hlk hml hown hnm hts hE hA hAb hsz hP hD hS hl hQQ => ?_)
  have hK := hE.1
  have hown : s.vm.findClass RX9 = some m.cls := hown
  have hl : lv_has ls 2 [(0, .ref h)] := hl
  clear hsz
  refine lv_iconst (v := nI 0) hx hb dX9_doTurn_0 (by decide) ?_
  refine lv_istore_n (lv' := [(1, .int (nI 0)), (0, .ref h)]) hx hb dX9_doTurn_1 rfl hl (by decide) rfl (fun ls hl => ?_)
  have lp_2 : ∀ (n_2 : Nat) (k : Nat), (k ≤ 64) → (64 - k) < n_2 → ∀ (H : Heap) (locs : List Loc) (ls : Array Slot), va_P G.1 vwCl [oM h ad thr sts hs len at_ num many, aI G (ad 1) 68 st, aI G (ad 6) 64 (fillTo k (turnF false st) bk)] H → va_D A [oM h ad thr sts hs len at_ num many, aI G (ad 1) 68 st, aI G (ad 6) 64 (fillTo k (turnF false st) bk)] → va_S A s.heap H locs → lv_has ls 2 [(0, .ref h), (1, .int (nI k))] → W p l e (rm_X9_doTurn) s m AR below meth c H locs 0 0 QQ (F0 m 2 ls []) := by
    intro n_2
    induction n_2 with
    | zero => intro k hk hn_; exact absurd hn_ (Nat.not_lt_zero _)
    | succ n_2 ih_2 =>
      intro k hk hn_2 H locs ls hP hD hS hl
      refine lv_iload_n hx hb dX9_doTurn_2 rfl (lv_at hl 1 rfl) ?_
      refine lv_bipush (v := nI 64) hx hb dX9_doTurn_3 (by decide) ?_
      refine N_icmp_ge (tgt := 40) hx hb dX9_doTurn_5 (by decide) (by omega) (by omega) (fun c_5 => ?_) (fun c_5 => ?_)
      · skip
        obtain rfl : k = 64 := by omega
        have e_1 : ∀ j, j < 64 → (fillTo 64 (turnF false st) bk) j = (turnF false st) j := by exact fill_pt
        have hP : va_P G.1 vwCl [oM h ad thr sts hs len at_ num many, aI G (ad 1) 68 st, aI G (ad 6) 64 (turnF false st)] _ := cong_P (q0 := 2) e_1 rfl rfl hP
        have hD : va_D A [oM h ad thr sts hs len at_ num many, aI G (ad 1) 68 st, aI G (ad 6) 64 (turnF false st)] := cong_D (q0 := 2) rfl rfl hD
        have hP : va_P G.1 vwCl [oM h ad thr sts hs len at_ num many, aI G (ad 1) 68 st, aI G (ad 6) 64 (turnF false st)] _ := hP
        have hD : va_D A [oM h ad thr sts hs len at_ num many, aI G (ad 1) 68 st, aI G (ad 6) 64 (turnF false st)] := hD
        refine lv_aload_n hx hb dX9_doTurn_40 rfl (lv_at hl 0 rfl) ?_
        refine fin_i (ws' := (fun (_ : Unit) => [oM h ad thr sts hs len at_ num many, aI G (ad 1) 68 (fillTo 64 (turnF false st) st), aI G (ad 6) 64 (turnF false st)])) hA hS hP hD [0, 1, 2] rfl [(true, 0), (true, 1), (true, 2)] (fun _ => rfl) (by decide) (run_V (As := []) (rest := []) (n9 := 0) hx hb hml hown hts hE hAb hl.1 hS hP hD [0, 1, 2] rfl (by decide) (t_X9_takeBack l G b0 _ h ad thr sts hs len at_ num many st (turnF false st) ) (lw_V q1966 q1968 qs88 q129 q1969) 0 rfl rfl ⟨rfl, by decide, by decide, by decide +kernel⟩ ⟨Nat.le_of_ble_eq_true rfl, Nat.le_of_ble_eq_true rfl⟩ ⟨by first | exact Nat.le_of_ble_eq_true rfl | (simp only [rm_X9_doTurn, rm_X9_takeBack]; omega), by first | exact Nat.le_of_ble_eq_true rfl | (simp only [rm_X9_doTurn, rm_X9_takeBack]; omega)⟩ dX9_doTurn_41 (Nat.le_of_ble_eq_true rfl) rfl rfl) (fun r_2 u_2 H locs h_2 hP hD hS => ?_)
        have hP : va_P G.1 vwCl [oM h ad thr sts hs len at_ num many, aI G (ad 1) 68 (fillTo 64 (turnF false st) st), aI G (ad 6) 64 (turnF false st)] _ := hP
        have hD : va_D A [oM h ad thr sts hs len at_ num many, aI G (ad 1) 68 (fillTo 64 (turnF false st) st), aI G (ad 6) 64 (turnF false st)] := hD
        have h_2 : r_2 = (l_sum (cneI (turnF false st) st) 64) := h_2
        rw [h_2]
        rw [hQQ]
        exact rt_i hx hb hr hlk  (()) dX9_doTurn_44 hP hD hS (by first | exact Nat.le_of_ble_eq_true rfl | (simp only [rm_X9_doTurn]; omega)) (by first | exact Nat.le_of_ble_eq_true rfl | (simp only [rm_X9_doTurn]; omega)) (by rfl)
      · skip
        refine lv_aload_n hx hb dX9_doTurn_8 rfl (lv_at hl 0 rfl) ?_
        refine va_get (D := G.1) (ci := 8) (v := .ref (ad 6)) (C := RX9) (T := TX9) (N := 21) hx hb hts in_X9 hown hK hP 0 rfl rfl 9 (by decide) (hts _ q1676) (fun _ h9 => h9) rfl dX9_doTurn_9 ?_
        refine lv_iload_n hx hb dX9_doTurn_12 rfl (lv_at hl 1 rfl) ?_
        refine lv_aload_n hx hb dX9_doTurn_13 rfl (lv_at hl 0 rfl) ?_
        refine va_get (D := G.1) (ci := 8) (v := .ref (ad 1)) (C := RX9) (T := TX9) (N := 21) hx hb hts in_X9 hown hK hP 0 rfl rfl 1 (by decide) (hts _ q1668) (fun _ h9 => h9) rfl dX9_doTurn_14 ?_
        refine lv_bipush (v := nI 8) hx hb dX9_doTurn_17 (by decide) ?_
        refine lv_bipush (v := nI 7) hx hb dX9_doTurn_19 (by decide) ?_
        refine lv_iload_n hx hb dX9_doTurn_21 rfl (lv_at hl 1 rfl) ?_
        refine lv_bipush (v := nI 8) hx hb dX9_doTurn_22 (by decide) ?_
        refine N_irem hx hb dX9_doTurn_24 (by omega) (by omega) (by omega) ?_
        refine N_isub hx hb dX9_doTurn_25 (by omega) ?_
        refine N_imul hx hb dX9_doTurn_26 ?_
        refine lv_iload_n hx hb dX9_doTurn_27 rfl (lv_at hl 1 rfl) ?_
        refine lv_bipush (v := nI 8) hx hb dX9_doTurn_28 (by decide) ?_
        refine N_idiv hx hb dX9_doTurn_30 (by omega) (by omega) (by omega) ?_
        refine N_iadd hx hb dX9_doTurn_31 ?_
        refine N_iald hx hb dX9_doTurn_32 hK hP 1 0 rfl rfl (by omega) (by omega) ?_
        refine N_iast (ws' := [oM h ad thr sts hs len at_ num many, aI G (ad 1) 68 st, aI G (ad 6) 64 (upd (fillTo k (turnF false st) bk) k (st ((8 * (7 - (k % 8))) + (k / 8))))]) hx hb dX9_doTurn_33 hK hP hD hS 2 0 rfl rfl (by omega) (by omega) rfl (fun H locs hP hD hS => ?_)
        refine N_iinc (a := k) (b := 1) (k9 := 1) (lv' := [(1, .int (nI (k + 1))), (0, .ref h)]) hx hb dX9_doTurn_34 hl rfl rfl (by decide) rfl (fun ls hl => ?_)
        refine lv_goto (tgt := 2) hx hb dX9_doTurn_37 (by decide) ?_
        have e_3 : (upd (fillTo k (turnF false st) bk) k (st ((8 * (7 - (k % 8))) + (k / 8)))) = (fillTo (k + 1) (turnF false st) bk) := by exact fill_step (g := turnF false st)
        have hP : va_P G.1 vwCl [oM h ad thr sts hs len at_ num many, aI G (ad 1) 68 st, aI G (ad 6) 64 (fillTo (k + 1) (turnF false st) bk)] _ := cong_P (q0 := 2) (fun j _ => congrFun e_3 j) rfl rfl hP
        have hD : va_D A [oM h ad thr sts hs len at_ num many, aI G (ad 1) 68 st, aI G (ad 6) 64 (fillTo (k + 1) (turnF false st) bk)] := cong_D (q0 := 2) rfl rfl hD
        have hP : va_P G.1 vwCl [oM h ad thr sts hs len at_ num many, aI G (ad 1) 68 st, aI G (ad 6) 64 (fillTo (k + 1) (turnF false st) bk)] _ := hP
        have hD : va_D A [oM h ad thr sts hs len at_ num many, aI G (ad 1) 68 st, aI G (ad 6) 64 (fillTo (k + 1) (turnF false st) bk)] := hD
        have hl : lv_has ls 2 [(0, .ref h), (1, .int (nI (k + 1)))] := lv_sub hl [1, 0] rfl
        exact ih_2 (k + 1) (by omega) (by omega) _ _ _ hP hD hS hl
  have e_4 : (bk) = (fillTo 0 (turnF false st) bk) := by exact (fill0 _ _).symm
  have hP : va_P G.1 vwCl [oM h ad thr sts hs len at_ num many, aI G (ad 1) 68 st, aI G (ad 6) 64 (fillTo 0 (turnF false st) bk)] _ := cong_P (q0 := 2) (fun j _ => congrFun e_4 j) rfl rfl hP
  have hD : va_D A [oM h ad thr sts hs len at_ num many, aI G (ad 1) 68 st, aI G (ad 6) 64 (fillTo 0 (turnF false st) bk)] := cong_D (q0 := 2) rfl rfl hD
  have hP : va_P G.1 vwCl [oM h ad thr sts hs len at_ num many, aI G (ad 1) 68 st, aI G (ad 6) 64 (fillTo 0 (turnF false st) bk)] _ := hP
  have hD : va_D A [oM h ad thr sts hs len at_ num many, aI G (ad 1) 68 st, aI G (ad 6) 64 (fillTo 0 (turnF false st) bk)] := hD
  have hl : lv_has ls 2 [(0, .ref h), (1, .int (nI 0))] := lv_sub hl [1, 0] rfl
  exact lp_2 _ 0 (by omega) (Nat.lt_succ_self _) _ _ _ hP hD hS hl
def rm_X9_doMirror : Room := ({ frames := 1, cells := 0, slots := 0, locals := 22 } : Room)
set_option maxHeartbeats 400000 in
set_option maxRecDepth 100000 in
theorem t_X9_doMirror (l : Launch) (G : GG) (b0 sz : Nat) (h : Nat) (ad : Nat → Nat) (thr sts : Nat) (hs : Bool) (len at_ num many : Nat) (st bk : Nat → Int32) : CT l yX9_doMirror cX9_doMirror 2 (some FieldType.int) (rm_X9_doMirror) G b0 [.ref h] [oM h ad thr sts hs len at_ num many, aI G (ad 1) 68 st, aI G (ad 6) 64 bk] sz (Ri G (fun (r_ : Int32) (_ : Unit) => r_ = l_sum (cneI (turnF true st) st) 64) (fun (_ : Unit) => [oM h ad thr sts hs len at_ num many, aI G (ad 1) 68 (fillTo 64 (turnF true st) st), aI G (ad 6) 64 (turnF true st)])) := by
  refine CT.go (by decide) (Nat.le_of_ble_eq_true rfl) (fun p e s m below meth c A ls AR QQ hx hb hr hlk hml hown hnm hts hE hA hAb hsz hP hD hS hl hQQ => ?_)
  have hK := hE.1
  have hown : s.vm.findClass RX9 = some m.cls := hown
  have hl : lv_has ls 2 [(0, .ref h)] := hl
  clear hsz
  refine lv_iconst (v := nI 0) hx hb dX9_doMirror_0 (by decide) ?_
  refine lv_istore_n (lv' := [(1, .int (nI 0)), (0, .ref h)]) hx hb dX9_doMirror_1 rfl hl (by decide) rfl (fun ls hl => ?_)
  have lp_2 : ∀ (n_2 : Nat) (k : Nat), (k ≤ 64) → (64 - k) < n_2 → ∀ (H : Heap) (locs : List Loc) (ls : Array Slot), va_P G.1 vwCl [oM h ad thr sts hs len at_ num many, aI G (ad 1) 68 st, aI G (ad 6) 64 (fillTo k (turnF true st) bk)] H → va_D A [oM h ad thr sts hs len at_ num many, aI G (ad 1) 68 st, aI G (ad 6) 64 (fillTo k (turnF true st) bk)] → va_S A s.heap H locs → lv_has ls 2 [(0, .ref h), (1, .int (nI k))] → W p l e (rm_X9_doMirror) s m AR below meth c H locs 0 0 QQ (F0 m 2 ls []) := by
    intro n_2
    induction n_2 with
    | zero => intro k hk hn_; exact absurd hn_ (Nat.not_lt_zero _)
    | succ n_2 ih_2 =>
      intro k hk hn_2 H locs ls hP hD hS hl
      refine lv_iload_n hx hb dX9_doMirror_2 rfl (lv_at hl 1 rfl) ?_
      refine lv_bipush (v := nI 64) hx hb dX9_doMirror_3 (by decide) ?_
      refine N_icmp_ge (tgt := 42) hx hb dX9_doMirror_5 (by decide) (by omega) (by omega) (fun c_5 => ?_) (fun c_5 => ?_)
      · skip
        obtain rfl : k = 64 := by omega
        have e_1 : ∀ j, j < 64 → (fillTo 64 (turnF true st) bk) j = (turnF true st) j := by exact fill_pt
        have hP : va_P G.1 vwCl [oM h ad thr sts hs len at_ num many, aI G (ad 1) 68 st, aI G (ad 6) 64 (turnF true st)] _ := cong_P (q0 := 2) e_1 rfl rfl hP
        have hD : va_D A [oM h ad thr sts hs len at_ num many, aI G (ad 1) 68 st, aI G (ad 6) 64 (turnF true st)] := cong_D (q0 := 2) rfl rfl hD
        have hP : va_P G.1 vwCl [oM h ad thr sts hs len at_ num many, aI G (ad 1) 68 st, aI G (ad 6) 64 (turnF true st)] _ := hP
        have hD : va_D A [oM h ad thr sts hs len at_ num many, aI G (ad 1) 68 st, aI G (ad 6) 64 (turnF true st)] := hD
        refine lv_aload_n hx hb dX9_doMirror_42 rfl (lv_at hl 0 rfl) ?_
        refine fin_i (ws' := (fun (_ : Unit) => [oM h ad thr sts hs len at_ num many, aI G (ad 1) 68 (fillTo 64 (turnF true st) st), aI G (ad 6) 64 (turnF true st)])) hA hS hP hD [0, 1, 2] rfl [(true, 0), (true, 1), (true, 2)] (fun _ => rfl) (by decide) (run_V (As := []) (rest := []) (n9 := 0) hx hb hml hown hts hE hAb hl.1 hS hP hD [0, 1, 2] rfl (by decide) (t_X9_takeBack l G b0 _ h ad thr sts hs len at_ num many st (turnF true st) ) (lw_V q1966 q1968 qs88 q129 q1969) 0 rfl rfl ⟨rfl, by decide, by decide, by decide +kernel⟩ ⟨Nat.le_of_ble_eq_true rfl, Nat.le_of_ble_eq_true rfl⟩ ⟨by first | exact Nat.le_of_ble_eq_true rfl | (simp only [rm_X9_doMirror, rm_X9_takeBack]; omega), by first | exact Nat.le_of_ble_eq_true rfl | (simp only [rm_X9_doMirror, rm_X9_takeBack]; omega)⟩ dX9_doMirror_43 (Nat.le_of_ble_eq_true rfl) rfl rfl) (fun r_2 u_2 H locs h_2 hP hD hS => ?_)
        have hP : va_P G.1 vwCl [oM h ad thr sts hs len at_ num many, aI G (ad 1) 68 (fillTo 64 (turnF true st) st), aI G (ad 6) 64 (turnF true st)] _ := hP
        have hD : va_D A [oM h ad thr sts hs len at_ num many, aI G (ad 1) 68 (fillTo 64 (turnF true st) st), aI G (ad 6) 64 (turnF true st)] := hD
        have h_2 : r_2 = (l_sum (cneI (turnF true st) st) 64) := h_2
        rw [h_2]
        rw [hQQ]
        exact rt_i hx hb hr hlk  (()) dX9_doMirror_46 hP hD hS (by first | exact Nat.le_of_ble_eq_true rfl | (simp only [rm_X9_doMirror]; omega)) (by first | exact Nat.le_of_ble_eq_true rfl | (simp only [rm_X9_doMirror]; omega)) (by rfl)
      · skip
        refine lv_aload_n hx hb dX9_doMirror_8 rfl (lv_at hl 0 rfl) ?_
        refine va_get (D := G.1) (ci := 8) (v := .ref (ad 6)) (C := RX9) (T := TX9) (N := 21) hx hb hts in_X9 hown hK hP 0 rfl rfl 9 (by decide) (hts _ q1676) (fun _ h9 => h9) rfl dX9_doMirror_9 ?_
        refine lv_iload_n hx hb dX9_doMirror_12 rfl (lv_at hl 1 rfl) ?_
        refine lv_aload_n hx hb dX9_doMirror_13 rfl (lv_at hl 0 rfl) ?_
        refine va_get (D := G.1) (ci := 8) (v := .ref (ad 1)) (C := RX9) (T := TX9) (N := 21) hx hb hts in_X9 hown hK hP 0 rfl rfl 1 (by decide) (hts _ q1668) (fun _ h9 => h9) rfl dX9_doMirror_14 ?_
        refine lv_bipush (v := nI 8) hx hb dX9_doMirror_17 (by decide) ?_
        refine lv_iload_n hx hb dX9_doMirror_19 rfl (lv_at hl 1 rfl) ?_
        refine lv_bipush (v := nI 8) hx hb dX9_doMirror_20 (by decide) ?_
        refine N_idiv hx hb dX9_doMirror_22 (by omega) (by omega) (by omega) ?_
        refine N_imul hx hb dX9_doMirror_23 ?_
        refine lv_bipush (v := nI 8) hx hb dX9_doMirror_24 (by decide) ?_
        refine N_iadd hx hb dX9_doMirror_26 ?_
        refine lv_iconst (v := nI 1) hx hb dX9_doMirror_27 (by decide) ?_
        refine N_isub hx hb dX9_doMirror_28 (by omega) ?_
        refine lv_iload_n hx hb dX9_doMirror_29 rfl (lv_at hl 1 rfl) ?_
        refine lv_bipush (v := nI 8) hx hb dX9_doMirror_30 (by decide) ?_
        refine N_irem hx hb dX9_doMirror_32 (by omega) (by omega) (by omega) ?_
        refine N_isub hx hb dX9_doMirror_33 (by omega) ?_
        refine N_iald hx hb dX9_doMirror_34 hK hP 1 0 rfl rfl (by omega) (by omega) ?_
        refine N_iast (ws' := [oM h ad thr sts hs len at_ num many, aI G (ad 1) 68 st, aI G (ad 6) 64 (upd (fillTo k (turnF true st) bk) k (st ((((8 * (k / 8)) + 8) - 1) - (k % 8))))]) hx hb dX9_doMirror_35 hK hP hD hS 2 0 rfl rfl (by omega) (by omega) rfl (fun H locs hP hD hS => ?_)
        refine N_iinc (a := k) (b := 1) (k9 := 1) (lv' := [(1, .int (nI (k + 1))), (0, .ref h)]) hx hb dX9_doMirror_36 hl rfl rfl (by decide) rfl (fun ls hl => ?_)
        refine lv_goto (tgt := 2) hx hb dX9_doMirror_39 (by decide) ?_
        have e_3 : (upd (fillTo k (turnF true st) bk) k (st ((((8 * (k / 8)) + 8) - 1) - (k % 8)))) = (fillTo (k + 1) (turnF true st) bk) := by exact fill_step (g := turnF true st)
        have hP : va_P G.1 vwCl [oM h ad thr sts hs len at_ num many, aI G (ad 1) 68 st, aI G (ad 6) 64 (fillTo (k + 1) (turnF true st) bk)] _ := cong_P (q0 := 2) (fun j _ => congrFun e_3 j) rfl rfl hP
        have hD : va_D A [oM h ad thr sts hs len at_ num many, aI G (ad 1) 68 st, aI G (ad 6) 64 (fillTo (k + 1) (turnF true st) bk)] := cong_D (q0 := 2) rfl rfl hD
        have hP : va_P G.1 vwCl [oM h ad thr sts hs len at_ num many, aI G (ad 1) 68 st, aI G (ad 6) 64 (fillTo (k + 1) (turnF true st) bk)] _ := hP
        have hD : va_D A [oM h ad thr sts hs len at_ num many, aI G (ad 1) 68 st, aI G (ad 6) 64 (fillTo (k + 1) (turnF true st) bk)] := hD
        have hl : lv_has ls 2 [(0, .ref h), (1, .int (nI (k + 1)))] := lv_sub hl [1, 0] rfl
        exact ih_2 (k + 1) (by omega) (by omega) _ _ _ hP hD hS hl
  have e_4 : (bk) = (fillTo 0 (turnF true st) bk) := by exact (fill0 _ _).symm
  have hP : va_P G.1 vwCl [oM h ad thr sts hs len at_ num many, aI G (ad 1) 68 st, aI G (ad 6) 64 (fillTo 0 (turnF true st) bk)] _ := cong_P (q0 := 2) (fun j _ => congrFun e_4 j) rfl rfl hP
  have hD : va_D A [oM h ad thr sts hs len at_ num many, aI G (ad 1) 68 st, aI G (ad 6) 64 (fillTo 0 (turnF true st) bk)] := cong_D (q0 := 2) rfl rfl hD
  have hP : va_P G.1 vwCl [oM h ad thr sts hs len at_ num many, aI G (ad 1) 68 st, aI G (ad 6) 64 (fillTo 0 (turnF true st) bk)] _ := hP
  have hD : va_D A [oM h ad thr sts hs len at_ num many, aI G (ad 1) 68 st, aI G (ad 6) 64 (fillTo 0 (turnF true st) bk)] := hD
  have hl : lv_has ls 2 [(0, .ref h), (1, .int (nI 0))] := lv_sub hl [1, 0] rfl
  exact lp_2 _ 0 (by omega) (Nat.lt_succ_self _) _ _ _ hP hD hS hl
def rm_X9_doInvert : Room := ({ frames := 0, cells := 0, slots := 0, locals := 0 } : Room)
set_option maxHeartbeats 400000 in
set_option maxRecDepth 100000 in
theorem t_X9_doInvert (l : Launch) (G : GG) (b0 sz : Nat) (h : Nat) (ad : Nat → Nat) (thr sts : Nat) (hs : Bool) (len at_ num many : Nat) (st : Nat → Int32) : CT l yX9_doInvert cX9_doInvert 2 none (rm_X9_doInvert) G b0 [.ref h] [oM h ad thr sts hs len at_ num many, aI G (ad 1) 68 st] sz (Rv G (fun (_ : Unit) => True) (fun (_ : Unit) => [oM h ad thr sts hs len at_ num many, aI G (ad 1) 68 (fillTo 64 (invF st) st)])) := by
  refine CT.go (by decide) (Nat.le_of_ble_eq_true rfl) (fun p e s m below meth c A ls AR QQ hx hb hr hlk hml hown hnm hts hE hA hAb hsz hP hD hS hl hQQ => ?_)
  have hK := hE.1
  have hown : s.vm.findClass RX9 = some m.cls := hown
  have hl : lv_has ls 2 [(0, .ref h)] := hl
  clear hsz
  refine lv_iconst (v := nI 0) hx hb dX9_doInvert_0 (by decide) ?_
  refine lv_istore_n (lv' := [(1, .int (nI 0)), (0, .ref h)]) hx hb dX9_doInvert_1 rfl hl (by decide) rfl (fun ls hl => ?_)
  have lp_2 : ∀ (n_2 : Nat) (k : Nat), (k ≤ 64) → (64 - k) < n_2 → ∀ (H : Heap) (locs : List Loc) (ls : Array Slot), va_P G.1 vwCl [oM h ad thr sts hs len at_ num many, aI G (ad 1) 68 (fillTo k (invF st) st)] H → va_D A [oM h ad thr sts hs len at_ num many, aI G (ad 1) 68 (fillTo k (invF st) st)] → va_S A s.heap H locs → lv_has ls 2 [(0, .ref h), (1, .int (nI k))] → W p l e (rm_X9_doInvert) s m AR below meth c H locs 0 0 QQ (F0 m 2 ls []) := by
    intro n_2
    induction n_2 with
    | zero => intro k hk hn_; exact absurd hn_ (Nat.not_lt_zero _)
    | succ n_2 ih_2 =>
      intro k hk hn_2 H locs ls hP hD hS hl
      refine lv_iload_n hx hb dX9_doInvert_2 rfl (lv_at hl 1 rfl) ?_
      refine lv_bipush (v := nI 64) hx hb dX9_doInvert_3 (by decide) ?_
      refine N_icmp_ge (tgt := 30) hx hb dX9_doInvert_5 (by decide) (by omega) (by omega) (fun c_5 => ?_) (fun c_5 => ?_)
      · skip
        obtain rfl : k = 64 := by omega
        rw [hQQ]
        exact rt_v hx hb hr hlk (()) dX9_doInvert_30 hP hD hS (by first | exact Nat.le_of_ble_eq_true rfl | (simp only [rm_X9_doInvert]; omega)) (by first | exact Nat.le_of_ble_eq_true rfl | (simp only [rm_X9_doInvert]; omega)) trivial
      · skip
        refine lv_aload_n hx hb dX9_doInvert_8 rfl (lv_at hl 0 rfl) ?_
        refine va_get (D := G.1) (ci := 8) (v := .ref (ad 1)) (C := RX9) (T := TX9) (N := 21) hx hb hts in_X9 hown hK hP 0 rfl rfl 1 (by decide) (hts _ q1668) (fun _ h9 => h9) rfl dX9_doInvert_9 ?_
        refine lv_iload_n hx hb dX9_doInvert_12 rfl (lv_at hl 1 rfl) ?_
        refine lv_sipush (v := nI 255) hx hb dX9_doInvert_13 (by decide) ?_
        refine lv_aload_n hx hb dX9_doInvert_16 rfl (lv_at hl 0 rfl) ?_
        refine va_get (D := G.1) (ci := 8) (v := .ref (ad 1)) (C := RX9) (T := TX9) (N := 21) hx hb hts in_X9 hown hK hP 0 rfl rfl 1 (by decide) (hts _ q1668) (fun _ h9 => h9) rfl dX9_doInvert_17 ?_
        refine lv_iload_n hx hb dX9_doInvert_20 rfl (lv_at hl 1 rfl) ?_
        refine N_iald hx hb dX9_doInvert_21 hK hP 1 0 rfl rfl (by omega) (by omega) ?_
        refine top_i (y := st k) (by first | exact fill_ge (Nat.le_refl _) | exact congrArg nI (fill_ge (Nat.le_refl _)) | exact congrArg bI (fill_ge (Nat.le_refl _))) ?_
        refine lv_isub hx hb dX9_doInvert_22 ?_
        refine N_iast (ws' := [oM h ad thr sts hs len at_ num many, aI G (ad 1) 68 (upd (fillTo k (invF st) st) k ((nI 255) - (st k)))]) hx hb dX9_doInvert_23 hK hP hD hS 1 0 rfl rfl (by omega) (by omega) rfl (fun H locs hP hD hS => ?_)
        refine N_iinc (a := k) (b := 1) (k9 := 1) (lv' := [(1, .int (nI (k + 1))), (0, .ref h)]) hx hb dX9_doInvert_24 hl rfl rfl (by decide) rfl (fun ls hl => ?_)
        refine lv_goto (tgt := 2) hx hb dX9_doInvert_27 (by decide) ?_
        have e_1 : (upd (fillTo k (invF st) st) k ((nI 255) - (st k))) = (fillTo (k + 1) (invF st) st) := by exact fill_step
        have hP : va_P G.1 vwCl [oM h ad thr sts hs len at_ num many, aI G (ad 1) 68 (fillTo (k + 1) (invF st) st)] _ := cong_P (q0 := 1) (fun j _ => congrFun e_1 j) rfl rfl hP
        have hD : va_D A [oM h ad thr sts hs len at_ num many, aI G (ad 1) 68 (fillTo (k + 1) (invF st) st)] := cong_D (q0 := 1) rfl rfl hD
        have hP : va_P G.1 vwCl [oM h ad thr sts hs len at_ num many, aI G (ad 1) 68 (fillTo (k + 1) (invF st) st)] _ := hP
        have hD : va_D A [oM h ad thr sts hs len at_ num many, aI G (ad 1) 68 (fillTo (k + 1) (invF st) st)] := hD
        have hl : lv_has ls 2 [(0, .ref h), (1, .int (nI (k + 1)))] := lv_sub hl [1, 0] rfl
        exact ih_2 (k + 1) (by omega) (by omega) _ _ _ hP hD hS hl
  have e_2 : (st) = (fillTo 0 (invF st) st) := by exact (fill0 _ _).symm
  have hP : va_P G.1 vwCl [oM h ad thr sts hs len at_ num many, aI G (ad 1) 68 (fillTo 0 (invF st) st)] _ := cong_P (q0 := 1) (fun j _ => congrFun e_2 j) rfl rfl hP
  have hD : va_D A [oM h ad thr sts hs len at_ num many, aI G (ad 1) 68 (fillTo 0 (invF st) st)] := cong_D (q0 := 1) rfl rfl hD
  have hP : va_P G.1 vwCl [oM h ad thr sts hs len at_ num many, aI G (ad 1) 68 (fillTo 0 (invF st) st)] _ := hP
  have hD : va_D A [oM h ad thr sts hs len at_ num many, aI G (ad 1) 68 (fillTo 0 (invF st) st)] := hD
  have hl : lv_has ls 2 [(0, .ref h), (1, .int (nI 0))] := lv_sub hl [1, 0] rfl
  exact lp_2 _ 0 (by omega) (Nat.lt_succ_self _) _ _ _ hP hD hS hl
def rm_X9_energyOf : Room := ({ frames := 3, cells := 0, slots := 0, locals := 72 } : Room)
set_option maxHeartbeats 400000 in
set_option maxRecDepth 100000 in
theorem t_X9_energyOf (l : Launch) (G : GG) (b0 sz : Nat) (h : Nat) (ad : Nat → Nat) (thr sts : Nat) (hs : Bool) (len at_ num many : Nat) (st pa li : Nat → Int32) (L : Nat) (b : Int32) (hL1 : 1 ≤ L) (hL : L ≤ 3) (hst : st 64 = nI L) : CT l yX9_energyOf cX9_energyOf 4 (some FieldType.int) (rm_X9_energyOf) G b0 [.ref h, .int b] [oM h ad thr sts hs len at_ num many, aI G (ad 1) 68 st, aI G (ad 5) 64 pa, aI G (ad 7) 8 li] sz (Ri G (fun (r_ : Int32) (u : Nat → Int32) => r_ = l_sum (engI L b (splitP st L)) 64) (fun (u : Nat → Int32) => [oM h ad thr sts hs len at_ num many, aI G (ad 1) 68 st, aI G (ad 5) 64 (splitP st L), aI G (ad 7) 8 u])) := by
  refine CT.go (by decide) (Nat.le_of_ble_eq_true rfl) (fun p e s m below meth c A ls AR QQ hx hb hr hlk hml hown hnm hts hE hA hAb hsz hP hD hS hl hQQ => ?_)
  have hK := hE.1
  have hown : s.vm.findClass RX9 = some m.cls := hown
  have hl : lv_has ls 4 [(0, .ref h), (1, .int b)] := hl
  clear hsz
  refine lv_aload_n hx hb dX9_energyOf_0 rfl (lv_at hl 0 rfl) ?_
  refine fin_v (ws' := (fun (u_1 : Nat → Int32) => [oM h ad thr sts hs len at_ num many, aI G (ad 1) 68 st, aI G (ad 5) 64 (splitP st L), aI G (ad 7) 8 u_1])) hA hS hP hD [0, 1, 2, 3] rfl [(true, 0), (true, 1), (true, 2), (true, 3)] (fun _ => rfl) (by decide) (run_V (As := []) (rest := []) (n9 := 0) hx hb hml hown hts hE hAb hl.1 hS hP hD [0, 1, 2, 3] rfl (by decide) (t_X9_split l G b0 _ h ad thr sts hs len at_ num many st pa li L (by omega) (by omega) (by omega)) (lw_V q1777 q1779 qs64 q129 q1780) 0 rfl rfl ⟨rfl, by decide, by decide, by decide +kernel⟩ ⟨Nat.le_of_ble_eq_true rfl, Nat.le_of_ble_eq_true rfl⟩ ⟨by first | exact Nat.le_of_ble_eq_true rfl | (simp only [rm_X9_energyOf, rm_X9_split]; omega), by first | exact Nat.le_of_ble_eq_true rfl | (simp only [rm_X9_energyOf, rm_X9_split]; omega)⟩ dX9_energyOf_1 (Nat.le_of_ble_eq_true rfl) rfl rfl) (fun u_1 H locs h_1 hP hD hS => ?_)
  have hP : va_P G.1 vwCl [oM h ad thr sts hs len at_ num many, aI G (ad 1) 68 st, aI G (ad 5) 64 (splitP st L), aI G (ad 7) 8 u_1] _ := hP
  have hD : va_D A [oM h ad thr sts hs len at_ num many, aI G (ad 1) 68 st, aI G (ad 5) 64 (splitP st L), aI G (ad 7) 8 u_1] := hD
  refine lv_iconst (v := nI 0) hx hb dX9_energyOf_4 (by decide) ?_
  refine lv_istore_n (lv' := [(2, .int (nI 0)), (0, .ref h), (1, .int b)]) hx hb dX9_energyOf_5 rfl hl (by decide) rfl (fun ls hl => ?_)
  refine lv_iconst (v := nI 0) hx hb dX9_energyOf_6 (by decide) ?_
  refine lv_istore_n (lv' := [(3, .int (nI 0)), (2, .int (nI 0)), (0, .ref h), (1, .int b)]) hx hb dX9_energyOf_7 rfl hl (by decide) rfl (fun ls hl => ?_)
  have lp_8 : ∀ (n_8 : Nat) (k : Nat), (k ≤ 64) → (64 - k) < n_8 → ∀ (H : Heap) (locs : List Loc) (ls : Array Slot), va_P G.1 vwCl [oM h ad thr sts hs len at_ num many, aI G (ad 1) 68 st, aI G (ad 5) 64 (splitP st L), aI G (ad 7) 8 u_1] H → va_D A [oM h ad thr sts hs len at_ num many, aI G (ad 1) 68 st, aI G (ad 5) 64 (splitP st L), aI G (ad 7) 8 u_1] → va_S A s.heap H locs → lv_has ls 4 [(0, .ref h), (1, .int b), (2, .int (l_sum (engI L b (splitP st L)) k)), (3, .int (nI k))] → W p l e (rm_X9_energyOf) s m AR below meth c H locs 0 0 QQ (F0 m 8 ls []) := by
    intro n_8
    induction n_8 with
    | zero => intro k hk hn_; exact absurd hn_ (Nat.not_lt_zero _)
    | succ n_8 ih_8 =>
      intro k hk hn_8 H locs ls hP hD hS hl
      refine lv_iload_n hx hb dX9_energyOf_8 rfl (lv_at hl 3 rfl) ?_
      refine lv_bipush (v := nI 64) hx hb dX9_energyOf_9 (by decide) ?_
      refine N_icmp_ge (tgt := 55) hx hb dX9_energyOf_11 (by decide) (by omega) (by omega) (fun c_11 => ?_) (fun c_11 => ?_)
      · skip
        obtain rfl : k = 64 := by omega
        refine lv_iload_n hx hb dX9_energyOf_55 rfl (lv_at hl 2 rfl) ?_
        rw [hQQ]
        exact rt_i hx hb hr hlk  u_1 dX9_energyOf_56 hP hD hS (by first | exact Nat.le_of_ble_eq_true rfl | (simp only [rm_X9_energyOf]; omega)) (by first | exact Nat.le_of_ble_eq_true rfl | (simp only [rm_X9_energyOf]; omega)) (by rfl)
      · skip
        refine lv_iload_n hx hb dX9_energyOf_14 rfl (lv_at hl 2 rfl) ?_
        refine lv_iload_n hx hb dX9_energyOf_15 rfl (lv_at hl 3 rfl) ?_
        refine lv_aload_n hx hb dX9_energyOf_16 rfl (lv_at hl 0 rfl) ?_
        refine va_get (D := G.1) (ci := 8) (v := .ref (ad 1)) (C := RX9) (T := TX9) (N := 21) hx hb hts in_X9 hown hK hP 0 rfl rfl 1 (by decide) (hts _ q1668) (fun _ h9 => h9) rfl dX9_energyOf_17 ?_
        refine lv_bipush (v := nI 64) hx hb dX9_energyOf_20 (by decide) ?_
        refine N_iald hx hb dX9_energyOf_22 hK hP 1 0 rfl rfl (by omega) (by omega) ?_
        refine top_i (y := nI L) (hst) ?_
        refine fin_i (ws' := (fun (_ : Unit) => [oM h ad thr sts hs len at_ num many, aI G (ad 1) 68 st, aI G (ad 5) 64 (splitP st L), aI G (ad 7) 8 u_1])) hA hS hP hD [] rfl [(false, 0), (false, 1), (false, 2), (false, 3)] (fun _ => rfl) (by decide) (run_S (As := [.int (nI k), .int (nI L)]) (rest := [.int (l_sum (engI L b (splitP st L)) k)]) (n9 := 2) hx hb hml hown hts hE hAb hl.1 hS hP hD [] rfl (by decide) (t_X9_band l G b0 _ k L (by omega) (by omega) (by omega)) (lw_S q1793 q1794 q129 q1795) ⟨by decide, by decide, by decide +kernel⟩ ⟨Nat.le_of_ble_eq_true rfl, Nat.le_of_ble_eq_true rfl⟩ ⟨by first | exact Nat.le_of_ble_eq_true rfl | (simp only [rm_X9_energyOf, rm_X9_band]; omega), by first | exact Nat.le_of_ble_eq_true rfl | (simp only [rm_X9_energyOf, rm_X9_band]; omega)⟩ dX9_energyOf_23 (Nat.le_of_ble_eq_true rfl) rfl rfl) (fun r_2 u_2 H locs h_2 hP hD hS => ?_)
        have hP : va_P G.1 vwCl [oM h ad thr sts hs len at_ num many, aI G (ad 1) 68 st, aI G (ad 5) 64 (splitP st L), aI G (ad 7) 8 u_1] _ := hP
        have hD : va_D A [oM h ad thr sts hs len at_ num many, aI G (ad 1) 68 st, aI G (ad 5) 64 (splitP st L), aI G (ad 7) 8 u_1] := hD
        have h_2 : r_2 = (nI (bndM k L)) := h_2
        rw [h_2]
        refine lv_iload_n hx hb dX9_energyOf_26 rfl (lv_at hl 1 rfl) ?_
        have K_27 : ∀ (v_3 : Int32) (_ : v_3 = if (nI (bndM k L)) = b then (((splitP st L) k) * ((splitP st L) k)) else (nI 0)) (H : Heap) (locs : List Loc) (ls : Array Slot), va_P G.1 vwCl [oM h ad thr sts hs len at_ num many, aI G (ad 1) 68 st, aI G (ad 5) 64 (splitP st L), aI G (ad 7) 8 u_1] H → va_D A [oM h ad thr sts hs len at_ num many, aI G (ad 1) 68 st, aI G (ad 5) 64 (splitP st L), aI G (ad 7) 8 u_1] → va_S A s.heap H locs → lv_has ls 4 [(0, .ref h), (1, .int b), (2, .int (l_sum (engI L b (splitP st L)) k)), (3, .int (nI k))] → W p l e (rm_X9_energyOf) s m AR below meth c H locs 0 0 QQ (F0 m 47 ls [.int v_3, .int (l_sum (engI L b (splitP st L)) k)]) := by
          intro v_3 e_v_3 H locs ls hP hD hS hl
          subst e_v_3
          refine lv_iadd hx hb dX9_energyOf_47 ?_
          refine lv_istore_n (lv' := [(2, .int ((l_sum (engI L b (splitP st L)) k) + (if (nI (bndM k L)) = b then (((splitP st L) k) * ((splitP st L) k)) else (nI 0)))), (0, .ref h), (1, .int b), (3, .int (nI k))]) hx hb dX9_energyOf_48 rfl hl (by decide) rfl (fun ls hl => ?_)
          refine N_iinc (a := k) (b := 1) (k9 := 3) (lv' := [(3, .int (nI (k + 1))), (2, .int ((l_sum (engI L b (splitP st L)) k) + (if (nI (bndM k L)) = b then (((splitP st L) k) * ((splitP st L) k)) else (nI 0)))), (0, .ref h), (1, .int b)]) hx hb dX9_energyOf_49 hl rfl rfl (by decide) rfl (fun ls hl => ?_)
          refine lv_goto (tgt := 8) hx hb dX9_energyOf_52 (by decide) ?_
          have hl : lv_has ls 4 [(0, .ref h), (1, .int b), (2, .int ((l_sum (engI L b (splitP st L)) k) + (if (nI (bndM k L)) = b then (((splitP st L) k) * ((splitP st L) k)) else (nI 0)))), (3, .int (nI (k + 1)))] := lv_sub hl [2, 3, 1, 0] rfl
          have e_4 : ((l_sum (engI L b (splitP st L)) k) + (if (nI (bndM k L)) = b then (((splitP st L) k) * ((splitP st L) k)) else (nI 0))) = (l_sum (engI L b (splitP st L)) (k + 1)) := by rfl
          rw [e_4] at hl
          have hl : lv_has ls 4 [(0, .ref h), (1, .int b), (2, .int (l_sum (engI L b (splitP st L)) (k + 1))), (3, .int (nI (k + 1)))] := hl
          exact ih_8 (k + 1) (by omega) (by omega) _ _ _ hP hD hS hl
        refine lv_icmp_ne (tgt := 46) hx hb dX9_energyOf_27 (by decide) (fun c_27 => ?_) (fun c_27 => ?_)
        · skip
          refine lv_iconst (v := nI 0) hx hb dX9_energyOf_46 (by decide) ?_
          exact K_27 (nI 0) (by first | rfl | (try rw [if_neg c_27]) | simp_all) _ _ _ hP hD hS (lv_sub hl [0, 1, 2, 3] rfl)
        · skip
          refine lv_aload_n hx hb dX9_energyOf_30 rfl (lv_at hl 0 rfl) ?_
          refine va_get (D := G.1) (ci := 8) (v := .ref (ad 5)) (C := RX9) (T := TX9) (N := 21) hx hb hts in_X9 hown hK hP 0 rfl rfl 8 (by decide) (hts _ q1675) (fun _ h9 => h9) rfl dX9_energyOf_31 ?_
          refine lv_iload_n hx hb dX9_energyOf_34 rfl (lv_at hl 3 rfl) ?_
          refine N_iald hx hb dX9_energyOf_35 hK hP 2 0 rfl rfl (by omega) (by omega) ?_
          refine lv_aload_n hx hb dX9_energyOf_36 rfl (lv_at hl 0 rfl) ?_
          refine va_get (D := G.1) (ci := 8) (v := .ref (ad 5)) (C := RX9) (T := TX9) (N := 21) hx hb hts in_X9 hown hK hP 0 rfl rfl 8 (by decide) (hts _ q1675) (fun _ h9 => h9) rfl dX9_energyOf_37 ?_
          refine lv_iload_n hx hb dX9_energyOf_40 rfl (lv_at hl 3 rfl) ?_
          refine N_iald hx hb dX9_energyOf_41 hK hP 2 0 rfl rfl (by omega) (by omega) ?_
          refine lv_imul hx hb dX9_energyOf_42 ?_
          refine lv_goto (tgt := 47) hx hb dX9_energyOf_43 (by decide) ?_
          exact K_27 (((splitP st L) k) * ((splitP st L) k)) (by first | rfl | (try rw [if_pos c_27]) | simp_all) _ _ _ hP hD hS (lv_sub hl [0, 1, 2, 3] rfl)
  have hl : lv_has ls 4 [(0, .ref h), (1, .int b), (2, .int (nI 0)), (3, .int (nI 0))] := lv_sub hl [2, 3, 1, 0] rfl
  have e_5 : (nI 0) = (l_sum (engI L b (splitP st L)) 0) := by rfl
  rw [e_5] at hl
  have hl : lv_has ls 4 [(0, .ref h), (1, .int b), (2, .int (l_sum (engI L b (splitP st L)) 0)), (3, .int (nI 0))] := hl
  exact lp_8 _ 0 (by omega) (Nat.lt_succ_self _) _ _ _ hP hD hS hl
def rm_X9_changedBy : Room := ({ frames := 3, cells := 0, slots := 0, locals := 72 } : Room)
set_option maxHeartbeats 400000 in
set_option maxRecDepth 100000 in
theorem t_X9_changedBy (l : Launch) (G : GG) (b0 sz : Nat) (h : Nat) (ad : Nat → Nat) (thr sts : Nat) (hs : Bool) (len at_ num many : Nat) (st pa li ot : Nat → Int32) (x L : Nat) (v : Int32) (hxx : x < 64) (hL1 : 1 ≤ L) (hL : L ≤ 3) (hst : st 64 = nI L) : CT l yX9_changedBy cX9_changedBy 6 (some FieldType.int) (rm_X9_changedBy) G b0 [.ref h, .int (nI x), .int v] [oM h ad thr sts hs len at_ num many, aI G (ad 1) 68 st, aI G (ad 5) 64 pa, aI G (ad 7) 8 li, aI G (ad 9) 64 ot] sz (Ri G (fun (r_ : Int32) (u : Nat → Int32) => r_ = l_sum (cneI (splitP st L) (splitP (upd st x v) L)) 64) (fun (u : Nat → Int32) => [oM h ad thr sts hs len at_ num many, aI G (ad 1) 68 st, aI G (ad 5) 64 (splitP (upd st x v) L), aI G (ad 7) 8 u, aI G (ad 9) 64 (splitP st L)])) := by
  refine CT.go (by decide) (Nat.le_of_ble_eq_true rfl) (fun p e s m below meth c A ls AR QQ hx hb hr hlk hml hown hnm hts hE hA hAb hsz hP hD hS hl hQQ => ?_)
  have hK := hE.1
  have hown : s.vm.findClass RX9 = some m.cls := hown
  have hl : lv_has ls 6 [(0, .ref h), (1, .int (nI x)), (2, .int v)] := hl
  clear hsz
  refine lv_aload_n hx hb dX9_changedBy_0 rfl (lv_at hl 0 rfl) ?_
  refine fin_v (ws' := (fun (u_1 : Nat → Int32) => [oM h ad thr sts hs len at_ num many, aI G (ad 1) 68 st, aI G (ad 5) 64 (splitP st L), aI G (ad 7) 8 u_1, aI G (ad 9) 64 ot])) hA hS hP hD [0, 1, 2, 3] rfl [(true, 0), (true, 1), (true, 2), (true, 3), (false, 4)] (fun _ => rfl) (by decide) (run_V (As := []) (rest := []) (n9 := 0) hx hb hml hown hts hE hAb hl.1 hS hP hD [0, 1, 2, 3] rfl (by decide) (t_X9_split l G b0 _ h ad thr sts hs len at_ num many st pa li L (by omega) (by omega) (by omega)) (lw_V q1777 q1779 qs64 q129 q1780) 0 rfl rfl ⟨rfl, by decide, by decide, by decide +kernel⟩ ⟨Nat.le_of_ble_eq_true rfl, Nat.le_of_ble_eq_true rfl⟩ ⟨by first | exact Nat.le_of_ble_eq_true rfl | (simp only [rm_X9_changedBy, rm_X9_split]; omega), by first | exact Nat.le_of_ble_eq_true rfl | (simp only [rm_X9_changedBy, rm_X9_split]; omega)⟩ dX9_changedBy_1 (Nat.le_of_ble_eq_true rfl) rfl rfl) (fun u_1 H locs h_1 hP hD hS => ?_)
  have hP : va_P G.1 vwCl [oM h ad thr sts hs len at_ num many, aI G (ad 1) 68 st, aI G (ad 5) 64 (splitP st L), aI G (ad 7) 8 u_1, aI G (ad 9) 64 ot] _ := hP
  have hD : va_D A [oM h ad thr sts hs len at_ num many, aI G (ad 1) 68 st, aI G (ad 5) 64 (splitP st L), aI G (ad 7) 8 u_1, aI G (ad 9) 64 ot] := hD
  refine lv_iconst (v := nI 0) hx hb dX9_changedBy_4 (by decide) ?_
  refine lv_istore_n (lv' := [(3, .int (nI 0)), (0, .ref h), (1, .int (nI x)), (2, .int v)]) hx hb dX9_changedBy_5 rfl hl (by decide) rfl (fun ls hl => ?_)
  have lp_6 : ∀ (n_6 : Nat) (k : Nat), (k ≤ 64) → (64 - k) < n_6 → ∀ (H : Heap) (locs : List Loc) (ls : Array Slot), va_P G.1 vwCl [oM h ad thr sts hs len at_ num many, aI G (ad 1) 68 st, aI G (ad 5) 64 (splitP st L), aI G (ad 7) 8 u_1, aI G (ad 9) 64 (fillTo k (splitP st L) ot)] H → va_D A [oM h ad thr sts hs len at_ num many, aI G (ad 1) 68 st, aI G (ad 5) 64 (splitP st L), aI G (ad 7) 8 u_1, aI G (ad 9) 64 (fillTo k (splitP st L) ot)] → va_S A s.heap H locs → lv_has ls 6 [(0, .ref h), (1, .int (nI x)), (2, .int v), (3, .int (nI k))] → W p l e (rm_X9_changedBy) s m AR below meth c H locs 0 0 QQ (F0 m 6 ls []) := by
    intro n_6
    induction n_6 with
    | zero => intro k hk hn_; exact absurd hn_ (Nat.not_lt_zero _)
    | succ n_6 ih_6 =>
      intro k hk hn_6 H locs ls hP hD hS hl
      refine lv_iload_n hx hb dX9_changedBy_6 rfl (lv_at hl 3 rfl) ?_
      refine lv_bipush (v := nI 64) hx hb dX9_changedBy_7 (by decide) ?_
      refine N_icmp_ge (tgt := 30) hx hb dX9_changedBy_9 (by decide) (by omega) (by omega) (fun c_9 => ?_) (fun c_9 => ?_)
      · skip
        obtain rfl : k = 64 := by omega
        have e_2 : ∀ j, j < 64 → (fillTo 64 (splitP st L) ot) j = (splitP st L) j := by exact fill_pt
        have hP : va_P G.1 vwCl [oM h ad thr sts hs len at_ num many, aI G (ad 1) 68 st, aI G (ad 5) 64 (splitP st L), aI G (ad 7) 8 u_1, aI G (ad 9) 64 (splitP st L)] _ := cong_P (q0 := 4) e_2 rfl rfl hP
        have hD : va_D A [oM h ad thr sts hs len at_ num many, aI G (ad 1) 68 st, aI G (ad 5) 64 (splitP st L), aI G (ad 7) 8 u_1, aI G (ad 9) 64 (splitP st L)] := cong_D (q0 := 4) rfl rfl hD
        have hP : va_P G.1 vwCl [oM h ad thr sts hs len at_ num many, aI G (ad 1) 68 st, aI G (ad 5) 64 (splitP st L), aI G (ad 7) 8 u_1, aI G (ad 9) 64 (splitP st L)] _ := hP
        have hD : va_D A [oM h ad thr sts hs len at_ num many, aI G (ad 1) 68 st, aI G (ad 5) 64 (splitP st L), aI G (ad 7) 8 u_1, aI G (ad 9) 64 (splitP st L)] := hD
        refine lv_aload_n hx hb dX9_changedBy_30 rfl (lv_at hl 0 rfl) ?_
        refine va_get (D := G.1) (ci := 8) (v := .ref (ad 1)) (C := RX9) (T := TX9) (N := 21) hx hb hts in_X9 hown hK hP 0 rfl rfl 1 (by decide) (hts _ q1668) (fun _ h9 => h9) rfl dX9_changedBy_31 ?_
        refine lv_iload_n hx hb dX9_changedBy_34 rfl (lv_at hl 1 rfl) ?_
        refine N_iald hx hb dX9_changedBy_35 hK hP 1 0 rfl rfl (by omega) (by omega) ?_
        refine lv_istore_n (lv' := [(3, .int (st x)), (0, .ref h), (1, .int (nI x)), (2, .int v)]) hx hb dX9_changedBy_36 rfl hl (by decide) rfl (fun ls hl => ?_)
        refine lv_aload_n hx hb dX9_changedBy_37 rfl (lv_at hl 1 rfl) ?_
        refine va_get (D := G.1) (ci := 8) (v := .ref (ad 1)) (C := RX9) (T := TX9) (N := 21) hx hb hts in_X9 hown hK hP 0 rfl rfl 1 (by decide) (hts _ q1668) (fun _ h9 => h9) rfl dX9_changedBy_38 ?_
        refine lv_iload_n hx hb dX9_changedBy_41 rfl (lv_at hl 2 rfl) ?_
        refine lv_iload_n hx hb dX9_changedBy_42 rfl (lv_at hl 3 rfl) ?_
        refine N_iast (ws' := [oM h ad thr sts hs len at_ num many, aI G (ad 1) 68 (upd st x v), aI G (ad 5) 64 (splitP st L), aI G (ad 7) 8 u_1, aI G (ad 9) 64 (splitP st L)]) hx hb dX9_changedBy_43 hK hP hD hS 1 0 rfl rfl (by omega) (by omega) rfl (fun H locs hP hD hS => ?_)
        refine lv_aload_n hx hb dX9_changedBy_44 rfl (lv_at hl 1 rfl) ?_
        refine fin_v (ws' := (fun (u_3 : Nat → Int32) => [oM h ad thr sts hs len at_ num many, aI G (ad 1) 68 (upd st x v), aI G (ad 5) 64 (splitP (upd st x v) L), aI G (ad 7) 8 u_3, aI G (ad 9) 64 (splitP st L)])) hA hS hP hD [0, 1, 2, 3] rfl [(true, 0), (true, 1), (true, 2), (true, 3), (false, 4)] (fun _ => rfl) (by decide) (run_V (As := []) (rest := []) (n9 := 0) hx hb hml hown hts hE hAb hl.1 hS hP hD [0, 1, 2, 3] rfl (by decide) (t_X9_split l G b0 _ h ad thr sts hs len at_ num many (upd st x v) (splitP st L) u_1 L (by omega) (by omega) (by rw [pk_un (by omega)]; exact hst)) (lw_V q1777 q1779 qs64 q129 q1780) 0 rfl rfl ⟨rfl, by decide, by decide, by decide +kernel⟩ ⟨Nat.le_of_ble_eq_true rfl, Nat.le_of_ble_eq_true rfl⟩ ⟨by first | exact Nat.le_of_ble_eq_true rfl | (simp only [rm_X9_changedBy, rm_X9_split]; omega), by first | exact Nat.le_of_ble_eq_true rfl | (simp only [rm_X9_changedBy, rm_X9_split]; omega)⟩ dX9_changedBy_45 (Nat.le_of_ble_eq_true rfl) rfl rfl) (fun u_3 H locs h_3 hP hD hS => ?_)
        have hP : va_P G.1 vwCl [oM h ad thr sts hs len at_ num many, aI G (ad 1) 68 (upd st x v), aI G (ad 5) 64 (splitP (upd st x v) L), aI G (ad 7) 8 u_3, aI G (ad 9) 64 (splitP st L)] _ := hP
        have hD : va_D A [oM h ad thr sts hs len at_ num many, aI G (ad 1) 68 (upd st x v), aI G (ad 5) 64 (splitP (upd st x v) L), aI G (ad 7) 8 u_3, aI G (ad 9) 64 (splitP st L)] := hD
        refine lv_aload_n hx hb dX9_changedBy_48 rfl (lv_at hl 1 rfl) ?_
        refine va_get (D := G.1) (ci := 8) (v := .ref (ad 1)) (C := RX9) (T := TX9) (N := 21) hx hb hts in_X9 hown hK hP 0 rfl rfl 1 (by decide) (hts _ q1668) (fun _ h9 => h9) rfl dX9_changedBy_49 ?_
        refine lv_iload_n hx hb dX9_changedBy_52 rfl (lv_at hl 2 rfl) ?_
        refine lv_iload_n hx hb dX9_changedBy_53 rfl (lv_at hl 0 rfl) ?_
        refine N_iast (ws' := [oM h ad thr sts hs len at_ num many, aI G (ad 1) 68 (upd (upd st x v) x (st x)), aI G (ad 5) 64 (splitP (upd st x v) L), aI G (ad 7) 8 u_3, aI G (ad 9) 64 (splitP st L)]) hx hb dX9_changedBy_54 hK hP hD hS 1 0 rfl rfl (by omega) (by omega) rfl (fun H locs hP hD hS => ?_)
        have e_4 : (upd (upd st x v) x (st x)) = (st) := by exact upd_back
        have hP : va_P G.1 vwCl [oM h ad thr sts hs len at_ num many, aI G (ad 1) 68 st, aI G (ad 5) 64 (splitP (upd st x v) L), aI G (ad 7) 8 u_3, aI G (ad 9) 64 (splitP st L)] _ := cong_P (q0 := 1) (fun j _ => congrFun e_4 j) rfl rfl hP
        have hD : va_D A [oM h ad thr sts hs len at_ num many, aI G (ad 1) 68 st, aI G (ad 5) 64 (splitP (upd st x v) L), aI G (ad 7) 8 u_3, aI G (ad 9) 64 (splitP st L)] := cong_D (q0 := 1) rfl rfl hD
        have hP : va_P G.1 vwCl [oM h ad thr sts hs len at_ num many, aI G (ad 1) 68 st, aI G (ad 5) 64 (splitP (upd st x v) L), aI G (ad 7) 8 u_3, aI G (ad 9) 64 (splitP st L)] _ := hP
        have hD : va_D A [oM h ad thr sts hs len at_ num many, aI G (ad 1) 68 st, aI G (ad 5) 64 (splitP (upd st x v) L), aI G (ad 7) 8 u_3, aI G (ad 9) 64 (splitP st L)] := hD
        refine lv_iconst (v := nI 0) hx hb dX9_changedBy_55 (by decide) ?_
        refine lv_istore (lv' := [(4, .int (nI 0)), (3, .int (st x)), (0, .ref h), (1, .int (nI x)), (2, .int v)]) hx hb dX9_changedBy_56 hl (by decide) rfl (fun ls hl => ?_)
        refine lv_iconst (v := nI 0) hx hb dX9_changedBy_58 (by decide) ?_
        refine lv_istore (lv' := [(5, .int (nI 0)), (4, .int (nI 0)), (3, .int (st x)), (0, .ref h), (1, .int (nI x)), (2, .int v)]) hx hb dX9_changedBy_59 hl (by decide) rfl (fun ls hl => ?_)
        have lp_61 : ∀ (n_61 : Nat) (k : Nat), (k ≤ 64) → (64 - k) < n_61 → ∀ (H : Heap) (locs : List Loc) (ls : Array Slot), va_P G.1 vwCl [oM h ad thr sts hs len at_ num many, aI G (ad 1) 68 st, aI G (ad 5) 64 (splitP (upd st x v) L), aI G (ad 7) 8 u_3, aI G (ad 9) 64 (splitP st L)] H → va_D A [oM h ad thr sts hs len at_ num many, aI G (ad 1) 68 st, aI G (ad 5) 64 (splitP (upd st x v) L), aI G (ad 7) 8 u_3, aI G (ad 9) 64 (splitP st L)] → va_S A s.heap H locs → lv_has ls 6 [(0, .ref h), (1, .int (nI x)), (2, .int v), (4, .int (l_sum (cneI (splitP st L) (splitP (upd st x v) L)) k)), (5, .int (nI k))] → W p l e (rm_X9_changedBy) s m AR below meth c H locs 0 0 QQ (F0 m 61 ls []) := by
          intro n_61
          induction n_61 with
          | zero => intro k hk hn_; exact absurd hn_ (Nat.not_lt_zero _)
          | succ n_61 ih_61 =>
            intro k hk hn_61 H locs ls hP hD hS hl
            refine lv_iload hx hb dX9_changedBy_61 (lv_at hl 4 rfl) ?_
            refine lv_bipush (v := nI 64) hx hb dX9_changedBy_63 (by decide) ?_
            refine N_icmp_ge (tgt := 101) hx hb dX9_changedBy_65 (by decide) (by omega) (by omega) (fun c_65 => ?_) (fun c_65 => ?_)
            · skip
              obtain rfl : k = 64 := by omega
              refine lv_iload hx hb dX9_changedBy_101 (lv_at hl 3 rfl) ?_
              rw [hQQ]
              exact rt_i hx hb hr hlk  u_3 dX9_changedBy_103 hP hD hS (by first | exact Nat.le_of_ble_eq_true rfl | (simp only [rm_X9_changedBy]; omega)) (by first | exact Nat.le_of_ble_eq_true rfl | (simp only [rm_X9_changedBy]; omega)) (by rfl)
            · skip
              refine lv_iload hx hb dX9_changedBy_68 (lv_at hl 3 rfl) ?_
              refine lv_aload_n hx hb dX9_changedBy_70 rfl (lv_at hl 0 rfl) ?_
              refine va_get (D := G.1) (ci := 8) (v := .ref (ad 9)) (C := RX9) (T := TX9) (N := 21) hx hb hts in_X9 hown hK hP 0 rfl rfl 12 (by decide) (hts _ q1679) (fun _ h9 => h9) rfl dX9_changedBy_71 ?_
              refine lv_iload hx hb dX9_changedBy_74 (lv_at hl 4 rfl) ?_
              refine N_iald hx hb dX9_changedBy_76 hK hP 4 0 rfl rfl (by omega) (by omega) ?_
              refine lv_aload_n hx hb dX9_changedBy_77 rfl (lv_at hl 0 rfl) ?_
              refine va_get (D := G.1) (ci := 8) (v := .ref (ad 5)) (C := RX9) (T := TX9) (N := 21) hx hb hts in_X9 hown hK hP 0 rfl rfl 8 (by decide) (hts _ q1675) (fun _ h9 => h9) rfl dX9_changedBy_78 ?_
              refine lv_iload hx hb dX9_changedBy_81 (lv_at hl 4 rfl) ?_
              refine N_iald hx hb dX9_changedBy_83 hK hP 2 0 rfl rfl (by omega) (by omega) ?_
              have K_84 : ∀ (v_5 : Bool) (_ : v_5 = if ((splitP st L) k) = ((splitP (upd st x v) L) k) then false else true) (H : Heap) (locs : List Loc) (ls : Array Slot), va_P G.1 vwCl [oM h ad thr sts hs len at_ num many, aI G (ad 1) 68 st, aI G (ad 5) 64 (splitP (upd st x v) L), aI G (ad 7) 8 u_3, aI G (ad 9) 64 (splitP st L)] H → va_D A [oM h ad thr sts hs len at_ num many, aI G (ad 1) 68 st, aI G (ad 5) 64 (splitP (upd st x v) L), aI G (ad 7) 8 u_3, aI G (ad 9) 64 (splitP st L)] → va_S A s.heap H locs → lv_has ls 6 [(0, .ref h), (1, .int (nI x)), (2, .int v), (4, .int (l_sum (cneI (splitP st L) (splitP (upd st x v) L)) k)), (5, .int (nI k))] → W p l e (rm_X9_changedBy) s m AR below meth c H locs 0 0 QQ (F0 m 92 ls [.int (bI v_5), .int (l_sum (cneI (splitP st L) (splitP (upd st x v) L)) k)]) := by
                intro v_5 e_v_5 H locs ls hP hD hS hl
                subst e_v_5
                refine lv_iadd hx hb dX9_changedBy_92 ?_
                refine lv_istore (lv' := [(4, .int ((l_sum (cneI (splitP st L) (splitP (upd st x v) L)) k) + (bI (if ((splitP st L) k) = ((splitP (upd st x v) L) k) then false else true)))), (0, .ref h), (1, .int (nI x)), (2, .int v), (5, .int (nI k))]) hx hb dX9_changedBy_93 hl (by decide) rfl (fun ls hl => ?_)
                refine N_iinc (a := k) (b := 1) (k9 := 4) (lv' := [(5, .int (nI (k + 1))), (4, .int ((l_sum (cneI (splitP st L) (splitP (upd st x v) L)) k) + (bI (if ((splitP st L) k) = ((splitP (upd st x v) L) k) then false else true)))), (0, .ref h), (1, .int (nI x)), (2, .int v)]) hx hb dX9_changedBy_95 hl rfl rfl (by decide) rfl (fun ls hl => ?_)
                refine lv_goto (tgt := 61) hx hb dX9_changedBy_98 (by decide) ?_
                have hl : lv_has ls 6 [(0, .ref h), (1, .int (nI x)), (2, .int v), (4, .int ((l_sum (cneI (splitP st L) (splitP (upd st x v) L)) k) + (bI (if ((splitP st L) k) = ((splitP (upd st x v) L) k) then false else true)))), (5, .int (nI (k + 1)))] := lv_sub hl [2, 3, 4, 1, 0] rfl
                have e_6 : ((l_sum (cneI (splitP st L) (splitP (upd st x v) L)) k) + (bI (if ((splitP st L) k) = ((splitP (upd st x v) L) k) then false else true))) = (l_sum (cneI (splitP st L) (splitP (upd st x v) L)) (k + 1)) := by rfl
                rw [e_6] at hl
                have hl : lv_has ls 6 [(0, .ref h), (1, .int (nI x)), (2, .int v), (4, .int (l_sum (cneI (splitP st L) (splitP (upd st x v) L)) (k + 1))), (5, .int (nI (k + 1)))] := hl
                exact ih_61 (k + 1) (by omega) (by omega) _ _ _ hP hD hS hl
              refine lv_icmp_eq (tgt := 91) hx hb dX9_changedBy_84 (by decide) (fun c_84 => ?_) (fun c_84 => ?_)
              · skip
                refine lv_iconst (v := nI 0) hx hb dX9_changedBy_91 (by decide) ?_
                exact K_84 false (by first | rfl | (try rw [if_pos c_84]) | simp_all) _ _ _ hP hD hS (lv_sub hl [0, 1, 2, 3, 4] rfl)
              · skip
                refine lv_iconst (v := nI 1) hx hb dX9_changedBy_87 (by decide) ?_
                refine lv_goto (tgt := 92) hx hb dX9_changedBy_88 (by decide) ?_
                exact K_84 true (by first | rfl | (try rw [if_neg c_84]) | simp_all) _ _ _ hP hD hS (lv_sub hl [0, 1, 2, 3, 4] rfl)
        have hl : lv_has ls 6 [(0, .ref h), (1, .int (nI x)), (2, .int v), (4, .int (nI 0)), (5, .int (nI 0))] := lv_sub hl [3, 4, 5, 1, 0] rfl
        have e_7 : (nI 0) = (l_sum (cneI (splitP st L) (splitP (upd st x v) L)) 0) := by rfl
        rw [e_7] at hl
        have hl : lv_has ls 6 [(0, .ref h), (1, .int (nI x)), (2, .int v), (4, .int (l_sum (cneI (splitP st L) (splitP (upd st x v) L)) 0)), (5, .int (nI 0))] := hl
        exact lp_61 _ 0 (by omega) (Nat.lt_succ_self _) _ _ _ hP hD hS hl
      · skip
        refine lv_aload_n hx hb dX9_changedBy_12 rfl (lv_at hl 0 rfl) ?_
        refine va_get (D := G.1) (ci := 8) (v := .ref (ad 9)) (C := RX9) (T := TX9) (N := 21) hx hb hts in_X9 hown hK hP 0 rfl rfl 12 (by decide) (hts _ q1679) (fun _ h9 => h9) rfl dX9_changedBy_13 ?_
        refine lv_iload_n hx hb dX9_changedBy_16 rfl (lv_at hl 3 rfl) ?_
        refine lv_aload_n hx hb dX9_changedBy_17 rfl (lv_at hl 0 rfl) ?_
        refine va_get (D := G.1) (ci := 8) (v := .ref (ad 5)) (C := RX9) (T := TX9) (N := 21) hx hb hts in_X9 hown hK hP 0 rfl rfl 8 (by decide) (hts _ q1675) (fun _ h9 => h9) rfl dX9_changedBy_18 ?_
        refine lv_iload_n hx hb dX9_changedBy_21 rfl (lv_at hl 3 rfl) ?_
        refine N_iald hx hb dX9_changedBy_22 hK hP 2 0 rfl rfl (by omega) (by omega) ?_
        refine N_iast (ws' := [oM h ad thr sts hs len at_ num many, aI G (ad 1) 68 st, aI G (ad 5) 64 (splitP st L), aI G (ad 7) 8 u_1, aI G (ad 9) 64 (upd (fillTo k (splitP st L) ot) k ((splitP st L) k))]) hx hb dX9_changedBy_23 hK hP hD hS 4 0 rfl rfl (by omega) (by omega) rfl (fun H locs hP hD hS => ?_)
        refine N_iinc (a := k) (b := 1) (k9 := 3) (lv' := [(3, .int (nI (k + 1))), (0, .ref h), (1, .int (nI x)), (2, .int v)]) hx hb dX9_changedBy_24 hl rfl rfl (by decide) rfl (fun ls hl => ?_)
        refine lv_goto (tgt := 6) hx hb dX9_changedBy_27 (by decide) ?_
        have e_8 : (upd (fillTo k (splitP st L) ot) k ((splitP st L) k)) = (fillTo (k + 1) (splitP st L) ot) := by exact fill_step
        have hP : va_P G.1 vwCl [oM h ad thr sts hs len at_ num many, aI G (ad 1) 68 st, aI G (ad 5) 64 (splitP st L), aI G (ad 7) 8 u_1, aI G (ad 9) 64 (fillTo (k + 1) (splitP st L) ot)] _ := cong_P (q0 := 4) (fun j _ => congrFun e_8 j) rfl rfl hP
        have hD : va_D A [oM h ad thr sts hs len at_ num many, aI G (ad 1) 68 st, aI G (ad 5) 64 (splitP st L), aI G (ad 7) 8 u_1, aI G (ad 9) 64 (fillTo (k + 1) (splitP st L) ot)] := cong_D (q0 := 4) rfl rfl hD
        have hP : va_P G.1 vwCl [oM h ad thr sts hs len at_ num many, aI G (ad 1) 68 st, aI G (ad 5) 64 (splitP st L), aI G (ad 7) 8 u_1, aI G (ad 9) 64 (fillTo (k + 1) (splitP st L) ot)] _ := hP
        have hD : va_D A [oM h ad thr sts hs len at_ num many, aI G (ad 1) 68 st, aI G (ad 5) 64 (splitP st L), aI G (ad 7) 8 u_1, aI G (ad 9) 64 (fillTo (k + 1) (splitP st L) ot)] := hD
        have hl : lv_has ls 6 [(0, .ref h), (1, .int (nI x)), (2, .int v), (3, .int (nI (k + 1)))] := lv_sub hl [1, 2, 3, 0] rfl
        exact ih_6 (k + 1) (by omega) (by omega) _ _ _ hP hD hS hl
  have e_9 : (ot) = (fillTo 0 (splitP st L) ot) := by exact (fill0 _ _).symm
  have hP : va_P G.1 vwCl [oM h ad thr sts hs len at_ num many, aI G (ad 1) 68 st, aI G (ad 5) 64 (splitP st L), aI G (ad 7) 8 u_1, aI G (ad 9) 64 (fillTo 0 (splitP st L) ot)] _ := cong_P (q0 := 4) (fun j _ => congrFun e_9 j) rfl rfl hP
  have hD : va_D A [oM h ad thr sts hs len at_ num many, aI G (ad 1) 68 st, aI G (ad 5) 64 (splitP st L), aI G (ad 7) 8 u_1, aI G (ad 9) 64 (fillTo 0 (splitP st L) ot)] := cong_D (q0 := 4) rfl rfl hD
  have hP : va_P G.1 vwCl [oM h ad thr sts hs len at_ num many, aI G (ad 1) 68 st, aI G (ad 5) 64 (splitP st L), aI G (ad 7) 8 u_1, aI G (ad 9) 64 (fillTo 0 (splitP st L) ot)] _ := hP
  have hD : va_D A [oM h ad thr sts hs len at_ num many, aI G (ad 1) 68 st, aI G (ad 5) 64 (splitP st L), aI G (ad 7) 8 u_1, aI G (ad 9) 64 (fillTo 0 (splitP st L) ot)] := hD
  have hl : lv_has ls 6 [(0, .ref h), (1, .int (nI x)), (2, .int v), (3, .int (nI 0))] := lv_sub hl [1, 2, 3, 0] rfl
  exact lp_6 _ 0 (by omega) (Nat.lt_succ_self _) _ _ _ hP hD hS hl
