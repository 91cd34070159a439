/-! ===== the code: a number is written ===== -/
def numB (k v q : Nat) : Bool := if q < k then false else decide (v / 2 ^ (2 * k - q) % 2 = 1)
def capF (n ln : Nat) (B : Nat → Bool) : Nat → Nat
  | 0 => n
  | c + 1 => capB (capF n ln B c) (ln + c) (B c)
theorem capF_mono {n ln : Nat} {B : Nat → Bool} {a : Nat} : ∀ {b : Nat}, a ≤ b → capF n ln B a ≤ capF n ln B b := by
  intro b
  induction b with
  | zero => intro h; have : a = 0 := by omega
            rw [this]; exact Nat.le_refl _
  | succ b ih =>
    intro h
    by_cases e : a = b + 1
    · rw [e]; exact Nat.le_refl _
    · exact Nat.le_trans (ih (by omega)) capB_ge
theorem capF_le {n ln : Nat} {B : Nat → Bool} {m : Nat} (hn1 : 1 ≤ n) (hn : n ≤ m) : ∀ c, 2 * ((ln + c) / 64) ≤ m → capF n ln B c ≤ m ∧ 1 ≤ capF n ln B c := by
  intro c
  induction c with
  | zero => intro _; exact ⟨hn, hn1⟩
  | succ c ih =>
    intro h
    obtain ⟨a, b⟩ := ih (by omega)
    exact ⟨capB_le (by omega) a b, Nat.le_trans b capB_ge⟩
/-- c bits of B were written from ln on -/
def SF (n wu : Nat) (w : Nat → Int64) (ln : Nat) (B : Nat → Bool) (c n' wu' : Nat) (w' : Nat → Int64) : Prop := n' = capF n ln B c ∧ BW n' wu' w' ∧ ∀ i, rb w' wu' i = if ln ≤ i ∧ i < ln + c then B (i - ln) else rb w wu i
theorem SF_0 {n wu : Nat} {w : Nat → Int64} {ln : Nat} {B : Nat → Bool} (h : BW n wu w) : SF n wu w ln B 0 n wu w := ⟨rfl, h, fun i => by rw [if_neg (by omega)]⟩
theorem SF_s {n wu : Nat} {w : Nat → Int64} {ln : Nat} {B : Nat → Bool} {c n1 wu1 n2 wu2 : Nat} {w1 w2 : Nat → Int64} {b : Bool} (h : SF n wu w ln B c n1 wu1 w1) (hb : b = B c) (h2 : BF n1 wu1 w1 (ln + c) b n2 wu2 w2) : SF n wu w ln B (c + 1) n2 wu2 w2 := by
  obtain ⟨a1, a2, a3⟩ := h
  obtain ⟨b1, b2, b3⟩ := h2
  refine ⟨by rw [b1, a1, hb]; rfl, b2, fun i => ?_⟩
  rw [b3 i]
  by_cases e : i = ln + c
  · rw [if_pos e, if_pos (by omega), hb, e, Nat.add_sub_cancel_left]
  · rw [if_neg e, a3 i]
    by_cases e2 : ln ≤ i ∧ i < ln + c
    · rw [if_pos e2, if_pos (by omega)]
    · rw [if_neg e2, if_neg (by omega)]
theorem SF_c {n wu : Nat} {w : Nat → Int64} {ln : Nat} {B : Nat → Bool} {c c' n1 wu1 : Nat} {w1 : Nat → Int64} (h : SF n wu w ln B c n1 wu1 w1) (e : c = c') : SF n wu w ln B c' n1 wu1 w1 := by rw [← e]; exact h
theorem numB_v {k v r : Nat} (h : r ≤ k) : (if v / 2 ^ r % 2 = 1 then true else false) = numB k v (2 * k - r) := by
  have e : numB k v (2 * k - r) = decide (v / 2 ^ r % 2 = 1) := by
    unfold numB
    rw [if_neg (by omega), show 2 * k - (2 * k - r) = r by omega]
  rw [e]
  by_cases c : v / 2 ^ r % 2 = 1
  · rw [if_pos c, decide_eq_true c]
  · rw [if_neg c, decide_eq_false c]
def rm_X8_number (n : Nat) (ln : Nat) (v : Nat) : Room := ({ frames := 7, cells := capF n ln (numB (lgN v) v) (2 * lgN v + 1) - n, slots := 2 * (capF n ln (numB (lgN v) v) (2 * lgN v + 1) - n), locals := 270 } : Room)
set_option maxHeartbeats 400000 in
set_option maxRecDepth 100000 in
theorem t_X8_number (l : Launch) (G : GG) (b0 sz : Nat) (h bs cp a n wu ln at_ : Nat) (w : Nat → Int64) (v : Nat) (hB : BW n wu w) (hn : n ≤ 100) (hln : ln < 3000) (hv1 : 1 ≤ v) (hv : v < 1024) : CT l yX8_number cX8_number 4 none (rm_X8_number n ln v) G b0 [.ref h, .int (nI v)] [oX h 7 [.ref bs, .ref cp, .int (nI ln), .int (nI at_)], oX bs 10 [.ref a, .int (nI wu), .int (bI false)], aJ G a n w] sz (Rv G (fun (u : Nat × Nat × Nat × (Nat → Int64)) => SF n wu w ln (numB (lgN v) v) (2 * lgN v + 1) u.2.1 u.2.2.1 u.2.2.2) (fun (u : Nat × Nat × Nat × (Nat → Int64)) => [oX h 7 [.ref bs, .ref cp, .int (nI (ln + (2 * lgN v + 1))), .int (nI at_)], oX bs 10 [.ref u.1, .int (nI u.2.2.1), .int (bI false)], aJ G u.1 u.2.1 u.2.2.2])) := by
  refine CT.go (by decide) (Nat.le_of_ble_eq_true rfl) (fun p e s m below meth c A ls AR QQ hx hb hr hlk hml hown hnm hts hE hA hAb hsz hP hD hS hl hQQ => ?_)
  have hK := hE.1
  have hown : s.vm.findClass RX8 = some m.cls := hown
  have hl : lv_has ls 4 [(0, .ref h), (1, .int (nI v))] := hl
  clear hsz
  have hn1 := hB.1
  have hwn := hB.2.1
  have hk9 := (lg_tab v hv hv1).2
  refine lv_bipush (v := nI 31) hx hb dX8_number_0 (by decide) ?_
  refine lv_iload_n hx hb dX8_number_2 rfl (lv_at hl 1 rfl) ?_
  refine fin_i (ws' := (fun (_ : Unit) => [oX h 7 [.ref bs, .ref cp, .int (nI ln), .int (nI at_)], oX bs 10 [.ref a, .int (nI wu), .int (bI false)], aJ G a n w])) hA hS hP hD [] rfl [(false, 0), (false, 1), (false, 2)] (fun _ => rfl) (by decide) (run_S (As := [.int (nI v)]) (rest := [.int (nI 31)]) (n9 := 1) hx hb hml hown hts hE hAb hl.1 hS hP hD [] rfl (by decide) (t_J5_numberOfLeadingZeros l G b0 _ v (by omega) (by omega)) (lw_S q1164 q1165 q116 q1166) ⟨by decide, by decide, by decide +kernel⟩ ⟨Nat.le_of_ble_eq_true rfl, Nat.le_of_ble_eq_true rfl⟩ ⟨by first | exact Nat.le_of_ble_eq_true rfl | (simp only [rm_X8_number, rm_J5_numberOfLeadingZeros]; omega), by first | exact Nat.le_of_ble_eq_true rfl | (simp only [rm_X8_number, rm_J5_numberOfLeadingZeros]; omega)⟩ dX8_number_3 (Nat.le_of_ble_eq_true rfl) rfl rfl) (fun r_1 u_1 H locs h_1 hP hD hS => ?_)
  have hP : va_P G.1 vwCl [oX h 7 [.ref bs, .ref cp, .int (nI ln), .int (nI at_)], oX bs 10 [.ref a, .int (nI wu), .int (bI false)], aJ G a n w] _ := hP
  have hD : va_D A [oX h 7 [.ref bs, .ref cp, .int (nI ln), .int (nI at_)], oX bs 10 [.ref a, .int (nI wu), .int (bI false)], aJ G a n w] := hD
  have h_1 : r_1 = (nI (31 - lgN v)) := h_1
  rw [h_1]
  refine N_isub hx hb dX8_number_6 (by omega) ?_
  refine lv_istore_n (lv' := [(2, .int (nI (31 - (31 - lgN v)))), (0, .ref h), (1, .int (nI v))]) hx hb dX8_number_7 rfl hl (by decide) rfl (fun ls hl => ?_)
  refine lv_iconst (v := nI 0) hx hb dX8_number_8 (by decide) ?_
  refine lv_istore_n (lv' := [(3, .int (nI 0)), (2, .int (nI (31 - (31 - lgN v)))), (0, .ref h), (1, .int (nI v))]) hx hb dX8_number_9 rfl hl (by decide) rfl (fun ls hl => ?_)
  have lp_10 : ∀ (n_10 : Nat) (j a_ n_ wu_ : Nat) (w_ : Nat → Int64), (j ≤ lgN v) → (SF n wu w ln (numB (lgN v) v) j n_ wu_ w_) → (lgN v - j) < n_10 → ∀ (H : Heap) (locs : List Loc) (ls : Array Slot), va_P G.1 vwCl [oX h 7 [.ref bs, .ref cp, .int (nI (ln + (j))), .int (nI at_)], oX bs 10 [.ref a_, .int (nI wu_), .int (bI false)], aJ G a_ n_ w_] H → va_D A [oX h 7 [.ref bs, .ref cp, .int (nI (ln + (j))), .int (nI at_)], oX bs 10 [.ref a_, .int (nI wu_), .int (bI false)], aJ G a_ n_ w_] → va_S A s.heap H locs → lv_has ls 4 [(0, .ref h), (1, .int (nI v)), (2, .int (nI (lgN v))), (3, .int (nI j))] → W p l e (rm_X8_number n ln v) s m AR below meth c H locs (n_ - n) (2 * (n_ - n)) QQ (F0 m 10 ls []) := by
    intro n_10
    induction n_10 with
    | zero => intro j a_ n_ wu_ w_ hj hS1 hn_; exact absurd hn_ (Nat.not_lt_zero _)
    | succ n_10 ih_10 =>
      intro j a_ n_ wu_ w_ hj hS1 hn_10 H locs ls hP hD hS hl
      refine lv_iload_n hx hb dX8_number_10 rfl (lv_at hl 3 rfl) ?_
      refine lv_iload_n hx hb dX8_number_11 rfl (lv_at hl 2 rfl) ?_
      refine N_icmp_ge (tgt := 26) hx hb dX8_number_12 (by decide) (by omega) (by omega) (fun c_12 => ?_) (fun c_12 => ?_)
      · skip
        obtain rfl : lgN v = j := by omega
        refine lv_iload_n hx hb dX8_number_26 rfl (lv_at hl 2 rfl) ?_
        refine lv_istore_n (lv' := [(3, .int (nI (lgN v))), (0, .ref h), (1, .int (nI v)), (2, .int (nI (lgN v)))]) hx hb dX8_number_27 rfl hl (by decide) rfl (fun ls hl => ?_)
        have lp_28 : ∀ (n_28 : Nat) (r a_ n_ wu_ : Nat) (w_ : Nat → Int64), (r ≤ lgN v + 1) → (SF n wu w ln (numB (lgN v) v) (2 * lgN v + 1 - r) n_ wu_ w_) → (r) < n_28 → ∀ (H : Heap) (locs : List Loc) (ls : Array Slot), va_P G.1 vwCl [oX h 7 [.ref bs, .ref cp, .int (nI (ln + (2 * lgN v + 1 - r))), .int (nI at_)], oX bs 10 [.ref a_, .int (nI wu_), .int (bI false)], aJ G a_ n_ w_] H → va_D A [oX h 7 [.ref bs, .ref cp, .int (nI (ln + (2 * lgN v + 1 - r))), .int (nI at_)], oX bs 10 [.ref a_, .int (nI wu_), .int (bI false)], aJ G a_ n_ w_] → va_S A s.heap H locs → lv_has ls 4 [(0, .ref h), (1, .int (nI v)), (3, .int (nI r - 1))] → W p l e (rm_X8_number n ln v) s m AR below meth c H locs (n_ - n) (2 * (n_ - n)) QQ (F0 m 28 ls []) := by
          intro n_28
          induction n_28 with
          | zero => intro r a_ n_ wu_ w_ hr1 hS1 hn_; exact absurd hn_ (Nat.not_lt_zero _)
          | succ n_28 ih_28 =>
            intro r a_ n_ wu_ w_ hr1 hS1 hn_28 H locs ls hP hD hS hl
            refine lv_iload_n hx hb dX8_number_28 rfl (lv_at hl 2 rfl) ?_
            rcases r with _ | r
            · have hl : lv_has ls 4 [(0, .ref h), (1, .int (nI v)), (3, .int ((-1)))] := hl
              refine W.eq (g2 := F0 m 29 ls [.int ((-1))]) rfl ?_
              refine lv_if_lt (tgt := 56) hx hb dX8_number_29 (by decide) (fun c_ => ?_) (fun c_ => absurd (show (-1 : Int32) < 0 by decide) c_)
              have hnn : n_ = capF n ln (numB (lgN v) v) (2 * lgN v + 1) := hS1.1
              have hP : va_P G.1 vwCl [oX h 7 [.ref bs, .ref cp, .int (nI (ln + (2 * lgN v + 1))), .int (nI at_)], oX bs 10 [.ref a_, .int (nI wu_), .int (bI false)], aJ G a_ n_ w_] _ := hP
              have hD : va_D A [oX h 7 [.ref bs, .ref cp, .int (nI (ln + (2 * lgN v + 1))), .int (nI at_)], oX bs 10 [.ref a_, .int (nI wu_), .int (bI false)], aJ G a_ n_ w_] := hD
              rw [hQQ]
              exact rt_v hx hb hr hlk ((a_, n_, wu_, w_)) dX8_number_56 hP hD hS (by first | exact Nat.le_of_ble_eq_true rfl | (simp only [rm_X8_number, rm_J5_numberOfLeadingZeros, rm_X8_bit]; omega) | omega) (by first | exact Nat.le_of_ble_eq_true rfl | (simp only [rm_X8_number, rm_J5_numberOfLeadingZeros, rm_X8_bit]; omega) | omega) (by exact hS1)
            · have hkk : (nI (r + 1) - 1 : Int32) = nI r := pk_sub (a := r + 1) (b := 1) (by omega)
              have hl : lv_has ls 4 [(0, .ref h), (1, .int (nI v)), (3, .int (nI r))] := by rw [hkk] at hl; exact hl
              refine W.eq (g2 := F0 m 29 ls [.int (nI r)]) (by rw [hkk]) ?_
              refine lv_if_lt (tgt := 56) hx hb dX8_number_29 (by decide) (fun c_ => absurd c_ (fun z => absurd ((nI_ltI (b := 0) (by omega) (by decide)).mp z) (Nat.not_lt_zero _))) (fun c_ => ?_)
              have hce : 2 * lgN v + 1 - (r + 1) = 2 * lgN v - r := by omega
              rw [hce] at hP hD hS1
              have hP : va_P G.1 vwCl [oX h 7 [.ref bs, .ref cp, .int (nI (ln + (2 * lgN v - r))), .int (nI at_)], oX bs 10 [.ref a_, .int (nI wu_), .int (bI false)], aJ G a_ n_ w_] _ := hP
              have hD : va_D A [oX h 7 [.ref bs, .ref cp, .int (nI (ln + (2 * lgN v - r))), .int (nI at_)], oX bs 10 [.ref a_, .int (nI wu_), .int (bI false)], aJ G a_ n_ w_] := hD
              have hbj : numB (lgN v) v (2 * lgN v - r) = numB (lgN v) v (2 * lgN v - r) := rfl
              have hnn := hS1.1
              have hcl := capF_le (n := n) (ln := ln) (B := numB (lgN v) v) (m := 100) hn1 hn (2 * lgN v - r) (by omega)
              rw [← hnn] at hcl
              have hBn := hS1.2.1
              have hcs : capB n_ (ln + (2 * lgN v - r)) (numB (lgN v) v (2 * lgN v - r)) = capF n ln (numB (lgN v) v) (2 * lgN v - r + 1) := by rw [hnn]; rfl
              have hcm : capF n ln (numB (lgN v) v) (2 * lgN v - r + 1) ≤ capF n ln (numB (lgN v) v) (2 * lgN v + 1) := capF_mono (by omega)
              have hge : n ≤ n_ := by rw [hnn]; exact capF_mono (B := numB (lgN v) v) (a := 0) (Nat.zero_le _)
              have hgb : n_ ≤ capB n_ (ln + (2 * lgN v - r)) (numB (lgN v) v (2 * lgN v - r)) := capB_ge
              refine lv_aload_n hx hb dX8_number_32 rfl (lv_at hl 0 rfl) ?_
              refine lv_iload_n hx hb dX8_number_33 rfl (lv_at hl 1 rfl) ?_
              refine lv_iload_n hx hb dX8_number_34 rfl (lv_at hl 2 rfl) ?_
              refine N_ishr hx hb dX8_number_35 (by omega) (by omega) ?_
              refine lv_iconst (v := nI 1) hx hb dX8_number_36 (by decide) ?_
              refine lv_iand hx hb dX8_number_37 ?_
              refine W.eq (g2 := F0 m 38 ls [.int (nI ((v / 2 ^ r) % 2)), .ref h]) (by rw [and1_n]) ?_
              refine lv_iconst (v := nI 1) hx hb dX8_number_38 (by decide) ?_
              have K_39 : ∀ (v_2 : Bool) (_ : v_2 = if ((v / 2 ^ r) % 2) = 1 then true else false) (H : Heap) (locs : List Loc) (ls : Array Slot), va_P G.1 vwCl [oX h 7 [.ref bs, .ref cp, .int (nI (ln + (2 * lgN v - r))), .int (nI at_)], oX bs 10 [.ref a_, .int (nI wu_), .int (bI false)], aJ G a_ n_ w_] H → va_D A [oX h 7 [.ref bs, .ref cp, .int (nI (ln + (2 * lgN v - r))), .int (nI at_)], oX bs 10 [.ref a_, .int (nI wu_), .int (bI false)], aJ G a_ n_ w_] → va_S A s.heap H locs → lv_has ls 4 [(0, .ref h), (1, .int (nI v)), (3, .int (nI r))] → W p l e (rm_X8_number n ln v) s m AR below meth c H locs (n_ - n) (2 * (n_ - n)) QQ (F0 m 47 ls [.int (bI v_2), .ref h]) := by
                intro v_2 e_v_2 H locs ls hP hD hS hl
                subst e_v_2
                refine W.eq (g2 := F0 m 47 ls [.int (bI (numB (lgN v) v (2 * lgN v - r))), .ref h]) (by rw [numB_v (show r ≤ lgN v by omega)]) ?_
                refine fin_v (ws' := (fun (u_3 : Nat × Nat × Nat × (Nat → Int64)) => [oX h 7 [.ref bs, .ref cp, .int (nI ((ln + (2 * lgN v - r)) + 1)), .int (nI at_)], oX bs 10 [.ref u_3.1, .int (nI u_3.2.2.1), .int (bI false)], aJ G u_3.1 u_3.2.1 u_3.2.2.2])) hA hS hP hD [0, 1, 2] rfl [(true, 0), (true, 1), (true, 2)] (fun _ => rfl) (by decide) (run_V (As := [.int (bI (numB (lgN v) v (2 * lgN v - r)))]) (rest := []) (n9 := 1) hx hb hml hown hts hE hAb hl.1 hS hP hD [0, 1, 2] rfl (by decide) (t_X8_bit l G b0 _ h bs cp a_ n_ wu_ (ln + (2 * lgN v - r)) at_ w_ (numB (lgN v) v (2 * lgN v - r)) (by omega) (by omega) (by omega)) (lw_V q1098 q1100 qs23 q120 q1101) 0 rfl rfl ⟨rfl, by decide, by decide, by decide +kernel⟩ ⟨Nat.le_of_ble_eq_true rfl, Nat.le_of_ble_eq_true rfl⟩ ⟨by first | exact Nat.le_of_ble_eq_true rfl | (simp only [rm_X8_number, rm_X8_bit, rm_J5_numberOfLeadingZeros]; omega), by first | exact Nat.le_of_ble_eq_true rfl | (simp only [rm_X8_number, rm_X8_bit, rm_J5_numberOfLeadingZeros]; omega)⟩ dX8_number_47 (Nat.le_of_ble_eq_true rfl) rfl rfl) (fun u_3 H locs h_3 hP hD hS => ?_)
                have hP : va_P G.1 vwCl [oX h 7 [.ref bs, .ref cp, .int (nI ((ln + (2 * lgN v - r)) + 1)), .int (nI at_)], oX bs 10 [.ref u_3.1, .int (nI u_3.2.2.1), .int (bI false)], aJ G u_3.1 u_3.2.1 u_3.2.2.2] _ := hP
                have hD : va_D A [oX h 7 [.ref bs, .ref cp, .int (nI ((ln + (2 * lgN v - r)) + 1)), .int (nI at_)], oX bs 10 [.ref u_3.1, .int (nI u_3.2.2.1), .int (bI false)], aJ G u_3.1 u_3.2.1 u_3.2.2.2] := hD
                have f_3 : BF n_ wu_ w_ (ln + (2 * lgN v - r)) (numB (lgN v) v (2 * lgN v - r)) u_3.2.1 u_3.2.2.1 u_3.2.2.2 := h_3
                have hfb := f_3
                have hfc := hfb.1
                refine lv_iinc (v := (nI r) + (-1)) (k := 2) (lv' := [(3, .int ((nI r) + (-1))), (0, .ref h), (1, .int (nI v))]) hx hb dX8_number_50 hl rfl rfl (by decide) rfl (fun ls hl => ?_)
                refine lv_goto (tgt := 28) hx hb dX8_number_53 (by decide) ?_
                have e_4 : ((ln + (2 * lgN v - r)) + 1) = (ln + (2 * lgN v + 1 - r)) := by omega
                rw [e_4] at hP hD
                have hP : va_P G.1 vwCl [oX h 7 [.ref bs, .ref cp, .int (nI (ln + (2 * lgN v + 1 - r))), .int (nI at_)], oX bs 10 [.ref u_3.1, .int (nI u_3.2.2.1), .int (bI false)], aJ G u_3.1 u_3.2.1 u_3.2.2.2] _ := hP
                have hD : va_D A [oX h 7 [.ref bs, .ref cp, .int (nI (ln + (2 * lgN v + 1 - r))), .int (nI at_)], oX bs 10 [.ref u_3.1, .int (nI u_3.2.2.1), .int (bI false)], aJ G u_3.1 u_3.2.1 u_3.2.2.2] := hD
                have hl : lv_has ls 4 [(0, .ref h), (1, .int (nI v)), (3, .int ((nI r) + (-1)))] := lv_sub hl [1, 2, 0] rfl
                have e_5 : ((nI r) + (-1)) = (nI r - 1) := by exact (Int32.sub_eq_add_neg _ _).symm
                rw [e_5] at hl
                have hl : lv_has ls 4 [(0, .ref h), (1, .int (nI v)), (3, .int (nI r - 1))] := hl
                refine W.widen (k := u_3.2.1 - n) (n := 2 * (u_3.2.1 - n)) (by first | omega | (simp only [rm_J5_numberOfLeadingZeros, rm_X8_bit]; omega)) (by first | omega | (simp only [rm_J5_numberOfLeadingZeros, rm_X8_bit]; omega)) ?_
                exact ih_28 r u_3.1 u_3.2.1 u_3.2.2.1 u_3.2.2.2 (by omega) (by exact SF_c (SF_s hS1 rfl hfb) (by omega)) (by omega) _ _ _ hP hD hS hl
              refine N_icmp_ne (tgt := 46) hx hb dX8_number_39 (by decide) (by omega) (by omega) (fun c_39 => ?_) (fun c_39 => ?_)
              · skip
                refine lv_iconst (v := nI 0) hx hb dX8_number_46 (by decide) ?_
                exact K_39 false (by first | rfl | (try rw [if_neg c_39]) | simp_all) _ _ _ hP hD hS (lv_sub hl [0, 1, 2] rfl)
              · skip
                refine lv_iconst (v := nI 1) hx hb dX8_number_42 (by decide) ?_
                refine lv_goto (tgt := 47) hx hb dX8_number_43 (by decide) ?_
                exact K_39 true (by first | rfl | (try rw [if_pos c_39]) | simp_all) _ _ _ hP hD hS (lv_sub hl [0, 1, 2] rfl)
        have e_6 : (ln + ((lgN v))) = (ln + (2 * lgN v + 1 - (lgN v + 1))) := by omega
        rw [e_6] at hP hD
        have hP : va_P G.1 vwCl [oX h 7 [.ref bs, .ref cp, .int (nI (ln + (2 * lgN v + 1 - (lgN v + 1)))), .int (nI at_)], oX bs 10 [.ref a_, .int (nI wu_), .int (bI false)], aJ G a_ n_ w_] _ := hP
        have hD : va_D A [oX h 7 [.ref bs, .ref cp, .int (nI (ln + (2 * lgN v + 1 - (lgN v + 1)))), .int (nI at_)], oX bs 10 [.ref a_, .int (nI wu_), .int (bI false)], aJ G a_ n_ w_] := hD
        have hl : lv_has ls 4 [(0, .ref h), (1, .int (nI v)), (3, .int (nI (lgN v)))] := lv_sub hl [1, 2, 0] rfl
        have e_7 : (nI (lgN v)) = (nI (lgN v + 1) - 1) := by exact (pk_sub (a := lgN v + 1) (b := 1) (by omega)).symm
        rw [e_7] at hl
        have hl : lv_has ls 4 [(0, .ref h), (1, .int (nI v)), (3, .int (nI (lgN v + 1) - 1))] := hl
        exact lp_28 _ (lgN v + 1) a_ n_ wu_ w_ (by omega) (by exact SF_c hS1 (by omega)) (Nat.lt_succ_self _) _ _ _ hP hD hS hl
      · skip
        have hbj : false = numB (lgN v) v j := (if_pos (by omega)).symm
        have hnn := hS1.1
        have hcl := capF_le (n := n) (ln := ln) (B := numB (lgN v) v) (m := 100) hn1 hn (j) (by omega)
        rw [← hnn] at hcl
        have hBn := hS1.2.1
        have hcs : capB n_ (ln + (j)) false = capF n ln (numB (lgN v) v) (j + 1) := by rw [hnn, hbj]; rfl
        have hcm : capF n ln (numB (lgN v) v) (j + 1) ≤ capF n ln (numB (lgN v) v) (2 * lgN v + 1) := capF_mono (by omega)
        have hge : n ≤ n_ := by rw [hnn]; exact capF_mono (B := numB (lgN v) v) (a := 0) (Nat.zero_le _)
        have hgb : n_ ≤ capB n_ (ln + (j)) false := capB_ge
        refine lv_aload_n hx hb dX8_number_15 rfl (lv_at hl 0 rfl) ?_
        refine lv_iconst (v := nI 0) hx hb dX8_number_16 (by decide) ?_
        refine fin_v (ws' := (fun (u_8 : Nat × Nat × Nat × (Nat → Int64)) => [oX h 7 [.ref bs, .ref cp, .int (nI ((ln + (j)) + 1)), .int (nI at_)], oX bs 10 [.ref u_8.1, .int (nI u_8.2.2.1), .int (bI false)], aJ G u_8.1 u_8.2.1 u_8.2.2.2])) hA hS hP hD [0, 1, 2] rfl [(true, 0), (true, 1), (true, 2)] (fun _ => rfl) (by decide) (run_V (As := [.int (nI 0)]) (rest := []) (n9 := 1) hx hb hml hown hts hE hAb hl.1 hS hP hD [0, 1, 2] rfl (by decide) (t_X8_bit l G b0 _ h bs cp a_ n_ wu_ (ln + (j)) at_ w_ false (by omega) (by omega) (by omega)) (lw_V q1098 q1100 qs23 q120 q1101) 0 rfl rfl ⟨rfl, by decide, by decide, by decide +kernel⟩ ⟨Nat.le_of_ble_eq_true rfl, Nat.le_of_ble_eq_true rfl⟩ ⟨by first | exact Nat.le_of_ble_eq_true rfl | (simp only [rm_X8_number, rm_X8_bit, rm_J5_numberOfLeadingZeros]; omega), by first | exact Nat.le_of_ble_eq_true rfl | (simp only [rm_X8_number, rm_X8_bit, rm_J5_numberOfLeadingZeros]; omega)⟩ dX8_number_17 (Nat.le_of_ble_eq_true rfl) rfl rfl) (fun u_8 H locs h_8 hP hD hS => ?_)
        have hP : va_P G.1 vwCl [oX h 7 [.ref bs, .ref cp, .int (nI ((ln + (j)) + 1)), .int (nI at_)], oX bs 10 [.ref u_8.1, .int (nI u_8.2.2.1), .int (bI false)], aJ G u_8.1 u_8.2.1 u_8.2.2.2] _ := hP
        have hD : va_D A [oX h 7 [.ref bs, .ref cp, .int (nI ((ln + (j)) + 1)), .int (nI at_)], oX bs 10 [.ref u_8.1, .int (nI u_8.2.2.1), .int (bI false)], aJ G u_8.1 u_8.2.1 u_8.2.2.2] := hD
        have f_8 : BF n_ wu_ w_ (ln + (j)) false u_8.2.1 u_8.2.2.1 u_8.2.2.2 := h_8
        have hfb := f_8
        have hfc := hfb.1
        refine N_iinc (a := j) (b := 1) (k9 := 3) (lv' := [(3, .int (nI (j + 1))), (0, .ref h), (1, .int (nI v)), (2, .int (nI (lgN v)))]) hx hb dX8_number_20 hl rfl rfl (by decide) rfl (fun ls hl => ?_)
        refine lv_goto (tgt := 10) hx hb dX8_number_23 (by decide) ?_
        have hP : va_P G.1 vwCl [oX h 7 [.ref bs, .ref cp, .int (nI (ln + ((j + 1)))), .int (nI at_)], oX bs 10 [.ref u_8.1, .int (nI u_8.2.2.1), .int (bI false)], aJ G u_8.1 u_8.2.1 u_8.2.2.2] _ := hP
        have hD : va_D A [oX h 7 [.ref bs, .ref cp, .int (nI (ln + ((j + 1)))), .int (nI at_)], oX bs 10 [.ref u_8.1, .int (nI u_8.2.2.1), .int (bI false)], aJ G u_8.1 u_8.2.1 u_8.2.2.2] := hD
        have hl : lv_has ls 4 [(0, .ref h), (1, .int (nI v)), (2, .int (nI (lgN v))), (3, .int (nI (j + 1)))] := lv_sub hl [1, 2, 3, 0] rfl
        refine W.widen (k := u_8.2.1 - n) (n := 2 * (u_8.2.1 - n)) (by first | omega | (simp only [rm_J5_numberOfLeadingZeros, rm_X8_bit]; omega)) (by first | omega | (simp only [rm_J5_numberOfLeadingZeros, rm_X8_bit]; omega)) ?_
        exact ih_10 (j + 1) u_8.1 u_8.2.1 u_8.2.2.1 u_8.2.2.2 (by omega) (by exact SF_s hS1 hbj hfb) (by omega) _ _ _ hP hD hS hl
  have hP : va_P G.1 vwCl [oX h 7 [.ref bs, .ref cp, .int (nI (ln + (0))), .int (nI at_)], oX bs 10 [.ref a, .int (nI wu), .int (bI false)], aJ G a n w] _ := hP
  have hD : va_D A [oX h 7 [.ref bs, .ref cp, .int (nI (ln + (0))), .int (nI at_)], oX bs 10 [.ref a, .int (nI wu), .int (bI false)], aJ G a n w] := hD
  have hl : lv_has ls 4 [(0, .ref h), (1, .int (nI v)), (2, .int (nI (31 - (31 - lgN v)))), (3, .int (nI 0))] := lv_sub hl [2, 3, 1, 0] rfl
  have e_9 : (nI (31 - (31 - lgN v))) = (nI (lgN v)) := by exact congrArg nI (by omega)
  rw [e_9] at hl
  have hl : lv_has ls 4 [(0, .ref h), (1, .int (nI v)), (2, .int (nI (lgN v))), (3, .int (nI 0))] := hl
  refine W.widen (k := n - n) (n := 2 * (n - n)) (by first | omega | (simp only [rm_J5_numberOfLeadingZeros, rm_X8_bit]; omega)) (by first | omega | (simp only [rm_J5_numberOfLeadingZeros, rm_X8_bit]; omega)) ?_
  exact lp_10 _ 0 a n wu w (by omega) (by exact SF_0 hB) (Nat.lt_succ_self _) _ _ _ hP hD hS hl
