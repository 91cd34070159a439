/-! ===== the code: read and runs ===== -/
def zoF (p m : Nat) (f : Nat → Int32) : Nat → Int32 := fun j => if p ≤ j ∧ j < p + m then 0 else f j
theorem zoF_0 {p : Nat} {f : Nat → Int32} : zoF p 0 f = f := by
  funext j
  unfold zoF
  rw [if_neg (by omega)]
theorem zoF_s {p k : Nat} {f : Nat → Int32} : upd (zoF p k f) (p + k) (nI 0) = zoF p (k + 1) f := by
  funext j
  unfold upd zoF
  by_cases e : j = p + k
  · rw [if_pos e, if_pos (by omega)]; rfl
  · rw [if_neg e]
    by_cases c : p ≤ j ∧ j < p + k
    · rw [if_pos c, if_pos (by omega)]
    · rw [if_neg c, if_neg (by omega)]
def rm_X8_next : Room := ({ frames := 3, cells := 0, slots := 0, locals := 110 } : Room)
set_option maxHeartbeats 400000 in
set_option maxRecDepth 100000 in
theorem t_X8_next (l : Launch) (G : GG) (b0 sz : Nat) (h bs cp a n wu ln at_ : Nat) (w : Nat → Int64) (hB : BW n wu w) (hn : n ≤ 500) (hat : at_ < 19000) : CT l yX8_next cX8_next 1 (some FieldType.boolean) (rm_X8_next) G b0 [.ref h] [oX h 7 [.ref bs, .ref cp, .int (nI ln), .int (nI at_)], oX bs 10 [.ref a, .int (nI wu), .int (bI false)], aJ G a n w] sz (Ri G (fun (r_ : Int32) (_ : Unit) => r_ = bI (rb w wu at_)) (fun (_ : Unit) => [oX h 7 [.ref bs, .ref cp, .int (nI ln), .int (nI (at_ + 1))], oX bs 10 [.ref a, .int (nI wu), .int (bI false)], aJ G a n w])) := by
  refine CT.go (by decide) (Nat.le_of_ble_eq_true rfl) (fun p e s m below meth c A ls AR QQ hx hb hr hlk hml hown hnm hts hE hA hAb hsz hP hD hS hl hQQ => ?_)
  have hK := hE.1
  have hown : s.vm.findClass RX8 = some m.cls := hown
  have hl : lv_has ls 1 [(0, .ref h)] := hl
  clear hsz
  have hn1 := hB.1
  have hwn := hB.2.1
  refine lv_aload_n hx hb dX8_next_0 rfl (lv_at hl 0 rfl) ?_
  refine lv_dup hx hb dX8_next_1 rfl ?_
  refine va_get (D := G.1) (ci := 7) (v := .int (nI at_)) (C := RX8) (T := TX8) (N := 4) hx hb hts in_X8 hown hK hP 0 rfl rfl 3 (by decide) (hts _ q425) (fun _ h9 => h9) rfl dX8_next_2 ?_
  refine lv_iconst (v := nI 1) hx hb dX8_next_5 (by decide) ?_
  refine N_iadd hx hb dX8_next_6 ?_
  refine va_put (D := G.1) (ci := 7) (v := .int (nI (at_ + 1))) (ty := .int) (C := RX8) (T := TX8) (N := 4) hx hb hts in_X8 tyX8 tyX8_ok nmX8 hown hK hP hD hS 0 rfl rfl 3 (by decide) (hts _ q425) (fun _ h9 => h9) rfl (by decide +kernel) rfl rfl (Nat.le_of_ble_eq_true rfl) dX8_next_7 (fun H locs hP hD hS => ?_)
  have hP : va_P G.1 vwCl [oX h 7 [.ref bs, .ref cp, .int (nI ln), .int (nI (at_ + 1))], oX bs 10 [.ref a, .int (nI wu), .int (bI false)], aJ G a n w] _ := hP
  have hD : va_D A [oX h 7 [.ref bs, .ref cp, .int (nI ln), .int (nI (at_ + 1))], oX bs 10 [.ref a, .int (nI wu), .int (bI false)], aJ G a n w] := hD
  refine lv_aload_n hx hb dX8_next_10 rfl (lv_at hl 0 rfl) ?_
  refine va_get (D := G.1) (ci := 7) (v := .ref bs) (C := RX8) (T := TX8) (N := 4) hx hb hts in_X8 hown hK hP 0 rfl rfl 0 (by decide) (hts _ q420) (fun _ h9 => h9) rfl dX8_next_11 ?_
  refine lv_aload_n hx hb dX8_next_14 rfl (lv_at hl 0 rfl) ?_
  refine va_get (D := G.1) (ci := 7) (v := .int (nI (at_ + 1))) (C := RX8) (T := TX8) (N := 4) hx hb hts in_X8 hown hK hP 0 rfl rfl 3 (by decide) (hts _ q425) (fun _ h9 => h9) rfl dX8_next_15 ?_
  refine lv_iconst (v := nI 1) hx hb dX8_next_18 (by decide) ?_
  refine N_isub hx hb dX8_next_19 (by omega) ?_
  refine fin_i (ws' := (fun (_ : Unit) => [oX h 7 [.ref bs, .ref cp, .int (nI ln), .int (nI (at_ + 1))], oX bs 10 [.ref a, .int (nI wu), .int (bI false)], aJ G a n w])) hA hS hP hD [1, 2] rfl [(false, 0), (true, 0), (true, 1)] (fun _ => rfl) (by decide) (run_V (As := [.int (nI ((at_ + 1) - 1))]) (rest := []) (n9 := 1) hx hb hml hown hts hE hAb hl.1 hS hP hD [1, 2] rfl (by decide) (t_J6_get l G b0 _ bs a n wu w ((at_ + 1) - 1) (by omega) (by omega) (by omega) (by omega)) (lw_V q1318 q1319 q1320 q121 q1321) 1 rfl rfl ⟨rfl, by decide, by decide, by decide +kernel⟩ ⟨Nat.le_of_ble_eq_true rfl, Nat.le_of_ble_eq_true rfl⟩ ⟨by first | exact Nat.le_of_ble_eq_true rfl | (simp only [rm_X8_next, rm_J6_get]; omega), by first | exact Nat.le_of_ble_eq_true rfl | (simp only [rm_X8_next, rm_J6_get]; omega)⟩ dX8_next_20 (Nat.le_of_ble_eq_true rfl) rfl rfl) (fun r_1 u_1 H locs h_1 hP hD hS => ?_)
  have hP : va_P G.1 vwCl [oX h 7 [.ref bs, .ref cp, .int (nI ln), .int (nI (at_ + 1))], oX bs 10 [.ref a, .int (nI wu), .int (bI false)], aJ G a n w] _ := hP
  have hD : va_D A [oX h 7 [.ref bs, .ref cp, .int (nI ln), .int (nI (at_ + 1))], oX bs 10 [.ref a, .int (nI wu), .int (bI false)], aJ G a n w] := hD
  have h_1 : r_1 = (bI (gtB w wu ((at_ + 1) - 1))) := h_1
  rw [h_1]
  rw [hQQ]
  exact rt_z hx hb hr hlk (by first | exact bI_nar _ | rfl) (()) dX8_next_23 hP hD hS (by first | exact Nat.le_of_ble_eq_true rfl | (simp only [rm_X8_next, rm_J6_get]; omega) | omega) (by first | exact Nat.le_of_ble_eq_true rfl | (simp only [rm_X8_next, rm_J6_get]; omega) | omega) (by exact congrArg bI (gtB_rb (by omega)))
def rm_X8_zeros : Room := ({ frames := 0, cells := 0, slots := 0, locals := 0 } : Room)
set_option maxHeartbeats 400000 in
set_option maxRecDepth 100000 in
theorem t_X8_zeros (l : Launch) (G : GG) (b0 sz : Nat) (h bs cp ln at_ p_ m_ : Nat) (f : Nat → Int32) (hpm : p_ + m_ ≤ 64) : CT l yX8_zeros cX8_zeros 4 (some FieldType.int) (rm_X8_zeros) G b0 [.ref h, .int (nI p_), .int (nI m_)] [oX h 7 [.ref bs, .ref cp, .int (nI ln), .int (nI at_)], aI G cp 64 f] sz (Ri G (fun (r_ : Int32) (_ : Unit) => r_ = nI (p_ + m_)) (fun (_ : Unit) => [oX h 7 [.ref bs, .ref cp, .int (nI ln), .int (nI at_)], aI G cp 64 (zoF p_ m_ f)])) := by
  refine CT.go (by decide) (Nat.le_of_ble_eq_true rfl) (fun p e s m below meth c A ls AR QQ hx hb hr hlk hml hown hnm hts hE hA hAb hsz hP hD hS hl hQQ => ?_)
  have hK := hE.1
  have hown : s.vm.findClass RX8 = some m.cls := hown
  have hl : lv_has ls 4 [(0, .ref h), (1, .int (nI p_)), (2, .int (nI m_))] := hl
  clear hsz
  refine lv_iload_n hx hb dX8_zeros_0 rfl (lv_at hl 1 rfl) ?_
  refine lv_istore_n (lv' := [(3, .int (nI p_)), (0, .ref h), (1, .int (nI p_)), (2, .int (nI m_))]) hx hb dX8_zeros_1 rfl hl (by decide) rfl (fun ls hl => ?_)
  have lp_2 : ∀ (n_2 : Nat) (k : Nat), (k ≤ m_) → (m_ - k) < n_2 → ∀ (H : Heap) (locs : List Loc) (ls : Array Slot), va_P G.1 vwCl [oX h 7 [.ref bs, .ref cp, .int (nI ln), .int (nI at_)], aI G cp 64 (zoF p_ k f)] H → va_D A [oX h 7 [.ref bs, .ref cp, .int (nI ln), .int (nI at_)], aI G cp 64 (zoF p_ k f)] → va_S A s.heap H locs → lv_has ls 4 [(0, .ref h), (1, .int (nI p_)), (2, .int (nI m_)), (3, .int (nI (p_ + k)))] → W p l e (rm_X8_zeros) s m AR below meth c H locs 0 0 QQ (F0 m 2 ls []) := by
    intro n_2
    induction n_2 with
    | zero => intro k hk hn_; exact absurd hn_ (Nat.not_lt_zero _)
    | succ n_2 ih_2 =>
      intro k hk hn_2 H locs ls hP hD hS hl
      refine lv_iload_n hx hb dX8_zeros_2 rfl (lv_at hl 3 rfl) ?_
      refine lv_iload_n hx hb dX8_zeros_3 rfl (lv_at hl 1 rfl) ?_
      refine lv_iload_n hx hb dX8_zeros_4 rfl (lv_at hl 2 rfl) ?_
      refine N_iadd hx hb dX8_zeros_5 ?_
      refine N_icmp_ge (tgt := 22) hx hb dX8_zeros_6 (by decide) (by omega) (by omega) (fun c_6 => ?_) (fun c_6 => ?_)
      · skip
        obtain rfl : m_ = k := by omega
        refine lv_iload_n hx hb dX8_zeros_22 rfl (lv_at hl 1 rfl) ?_
        refine lv_iload_n hx hb dX8_zeros_23 rfl (lv_at hl 2 rfl) ?_
        refine N_iadd hx hb dX8_zeros_24 ?_
        rw [hQQ]
        exact rt_i hx hb hr hlk  (()) dX8_zeros_25 hP hD hS (by first | exact Nat.le_of_ble_eq_true rfl | (simp only [rm_X8_zeros]; omega) | omega) (by first | exact Nat.le_of_ble_eq_true rfl | (simp only [rm_X8_zeros]; omega) | omega) (by rfl)
      · skip
        refine lv_aload_n hx hb dX8_zeros_9 rfl (lv_at hl 0 rfl) ?_
        refine va_get (D := G.1) (ci := 7) (v := .ref cp) (C := RX8) (T := TX8) (N := 4) hx hb hts in_X8 hown hK hP 0 rfl rfl 1 (by decide) (hts _ q422) (fun _ h9 => h9) rfl dX8_zeros_10 ?_
        refine lv_iload_n hx hb dX8_zeros_13 rfl (lv_at hl 3 rfl) ?_
        refine lv_iconst (v := nI 0) hx hb dX8_zeros_14 (by decide) ?_
        refine N_iast (ws' := [oX h 7 [.ref bs, .ref cp, .int (nI ln), .int (nI at_)], aI G cp 64 (upd (zoF p_ k f) (p_ + k) (nI 0))]) hx hb dX8_zeros_15 hK hP hD hS 1 0 rfl rfl (by omega) (by omega) rfl (fun H locs hP hD hS => ?_)
        refine N_iinc (a := (p_ + k)) (b := 1) (k9 := 3) (lv' := [(3, .int (nI ((p_ + k) + 1))), (0, .ref h), (1, .int (nI p_)), (2, .int (nI m_))]) hx hb dX8_zeros_16 hl rfl rfl (by decide) rfl (fun ls hl => ?_)
        refine lv_goto (tgt := 2) hx hb dX8_zeros_19 (by decide) ?_
        have e_1 : (upd (zoF p_ k f) (p_ + k) (nI 0)) = (zoF p_ (k + 1) f) := by exact zoF_s
        have hP : va_P G.1 vwCl [oX h 7 [.ref bs, .ref cp, .int (nI ln), .int (nI at_)], aI G cp 64 (zoF p_ (k + 1) f)] _ := cong_P (q0 := 1) (fun j _ => congrFun e_1 j) rfl rfl hP
        have hD : va_D A [oX h 7 [.ref bs, .ref cp, .int (nI ln), .int (nI at_)], aI G cp 64 (zoF p_ (k + 1) f)] := cong_D (q0 := 1) rfl rfl hD
        have hP : va_P G.1 vwCl [oX h 7 [.ref bs, .ref cp, .int (nI ln), .int (nI at_)], aI G cp 64 (zoF p_ (k + 1) f)] _ := hP
        have hD : va_D A [oX h 7 [.ref bs, .ref cp, .int (nI ln), .int (nI at_)], aI G cp 64 (zoF p_ (k + 1) f)] := hD
        have hl : lv_has ls 4 [(0, .ref h), (1, .int (nI p_)), (2, .int (nI m_)), (3, .int (nI ((p_ + k) + 1)))] := lv_sub hl [1, 2, 3, 0] rfl
        have e_2 : (nI ((p_ + k) + 1)) = (nI (p_ + (k + 1))) := by rfl
        rw [e_2] at hl
        have hl : lv_has ls 4 [(0, .ref h), (1, .int (nI p_)), (2, .int (nI m_)), (3, .int (nI (p_ + (k + 1))))] := hl
        exact ih_2 (k + 1) (by omega) (by omega) _ _ _ hP hD hS hl
  have e_3 : (f) = (zoF p_ 0 f) := by exact zoF_0.symm
  have hP : va_P G.1 vwCl [oX h 7 [.ref bs, .ref cp, .int (nI ln), .int (nI at_)], aI G cp 64 (zoF p_ 0 f)] _ := cong_P (q0 := 1) (fun j _ => congrFun e_3 j) rfl rfl hP
  have hD : va_D A [oX h 7 [.ref bs, .ref cp, .int (nI ln), .int (nI at_)], aI G cp 64 (zoF p_ 0 f)] := cong_D (q0 := 1) rfl rfl hD
  have hP : va_P G.1 vwCl [oX h 7 [.ref bs, .ref cp, .int (nI ln), .int (nI at_)], aI G cp 64 (zoF p_ 0 f)] _ := hP
  have hD : va_D A [oX h 7 [.ref bs, .ref cp, .int (nI ln), .int (nI at_)], aI G cp 64 (zoF p_ 0 f)] := hD
  have hl : lv_has ls 4 [(0, .ref h), (1, .int (nI p_)), (2, .int (nI m_)), (3, .int (nI p_))] := lv_sub hl [1, 2, 3, 0] rfl
  have e_4 : (nI p_) = (nI (p_ + 0)) := by rfl
  rw [e_4] at hl
  have hl : lv_has ls 4 [(0, .ref h), (1, .int (nI p_)), (2, .int (nI m_)), (3, .int (nI (p_ + 0)))] := hl
  exact lp_2 _ 0 (by omega) (Nat.lt_succ_self _) _ _ _ hP hD hS hl
def rm_X8_runFrom : Room := ({ frames := 0, cells := 0, slots := 0, locals := 0 } : Room)
set_option maxHeartbeats 400000 in
set_option maxRecDepth 100000 in
theorem t_X8_runFrom (l : Launch) (G : GG) (b0 sz : Nat) (o a1 a2 a3 om sp L : Nat) (pa : Nat → Int32) (p_ : Nat) (hp : p_ ≤ 64) (hL1 : 1 ≤ L) (hL : L ≤ 3) : CT l yX8_runFrom cX8_runFrom 4 (some FieldType.int) (rm_X8_runFrom) G b0 [.ref sp, .ref o, .int (nI p_)] [oX o 2 [.ref a1, .ref a2, .ref a3, .int (nI om)], aI G a1 64 (nF (orT L)), aI G sp 64 pa] sz (Ri G (fun (r_ : Int32) (_ : Unit) => r_ = nI (zrN pa L p_)) (fun (_ : Unit) => [oX o 2 [.ref a1, .ref a2, .ref a3, .int (nI om)], aI G a1 64 (nF (orT L)), aI G sp 64 pa])) := by
  refine CT.go (by decide) (Nat.le_of_ble_eq_true rfl) (fun p e s m below meth c A ls AR QQ hx hb hr hlk hml hown hnm hts hE hA hAb hsz hP hD hS hl hQQ => ?_)
  have hK := hE.1
  have hown : s.vm.findClass RX8 = some m.cls := hown
  have hl : lv_has ls 4 [(0, .ref sp), (1, .ref o), (2, .int (nI p_))] := hl
  clear hsz
  have hpo := (pl_or hL1 hL).1
  refine lv_iload_n hx hb dX8_runFrom_0 rfl (lv_at hl 2 rfl) ?_
  refine lv_istore_n (lv' := [(3, .int (nI p_)), (0, .ref sp), (1, .ref o), (2, .int (nI p_))]) hx hb dX8_runFrom_1 rfl hl (by decide) rfl (fun ls hl => ?_)
  have lp_2 : ∀ (n_2 : Nat) (n : Nat), (p_ + n ≤ 64) → (∀ j, j < n → p_ + j < 64 ∧ pa (orT L (p_ + j)) = 0) → (65 - n) < n_2 → ∀ (H : Heap) (locs : List Loc) (ls : Array Slot), va_P G.1 vwCl [oX o 2 [.ref a1, .ref a2, .ref a3, .int (nI om)], aI G a1 64 (nF (orT L)), aI G sp 64 pa] H → va_D A [oX o 2 [.ref a1, .ref a2, .ref a3, .int (nI om)], aI G a1 64 (nF (orT L)), aI G sp 64 pa] → va_S A s.heap H locs → lv_has ls 4 [(0, .ref sp), (1, .ref o), (2, .int (nI p_)), (3, .int (nI (p_ + n)))] → W p l e (rm_X8_runFrom) s m AR below meth c H locs 0 0 QQ (F0 m 2 ls []) := by
    intro n_2
    induction n_2 with
    | zero => intro n hn hj hn_; exact absurd hn_ (Nat.not_lt_zero _)
    | succ n_2 ih_2 =>
      intro n hn hj hn_2 H locs ls hP hD hS hl
      refine lv_iload_n hx hb dX8_runFrom_2 rfl (lv_at hl 3 rfl) ?_
      refine lv_bipush (v := nI 64) hx hb dX8_runFrom_3 (by decide) ?_
      refine N_icmp_ge (tgt := 25) hx hb dX8_runFrom_5 (by decide) (by omega) (by omega) (fun c_5 => ?_) (fun c_5 => ?_)
      · skip
        refine lv_iload_n hx hb dX8_runFrom_25 rfl (lv_at hl 3 rfl) ?_
        refine lv_iload_n hx hb dX8_runFrom_26 rfl (lv_at hl 2 rfl) ?_
        refine N_isub hx hb dX8_runFrom_27 (by omega) ?_
        rw [hQQ]
        exact rt_i hx hb hr hlk  (()) dX8_runFrom_28 hP hD hS (by first | exact Nat.le_of_ble_eq_true rfl | (simp only [rm_X8_runFrom]; omega) | omega) (by first | exact Nat.le_of_ble_eq_true rfl | (simp only [rm_X8_runFrom]; omega) | omega) (by first | (rw [Nat.add_sub_cancel_left]; exact congrArg nI (zr_of hn hj (Or.inl c_5)).symm) | (rw [Nat.add_sub_cancel_left]; exact congrArg nI (zr_of hn hj (Or.inr c_16)).symm))
      · skip
        refine lv_aload_n hx hb dX8_runFrom_8 rfl (lv_at hl 0 rfl) ?_
        refine lv_aload_n hx hb dX8_runFrom_9 rfl (lv_at hl 1 rfl) ?_
        refine va_getN (D := G.1) (ci := 2) (v := .ref a1) (C := RX3) (T := TX3) (N := 4) hx hb hts in_X3 hown hK hP 0 rfl rfl 0 (by decide) (hE.nb q345 rfl) (fun _ h9 => h9) rfl dX8_runFrom_10 ?_
        refine lv_iload_n hx hb dX8_runFrom_13 rfl (lv_at hl 3 rfl) ?_
        refine N_iald hx hb dX8_runFrom_14 hK hP 1 0 rfl rfl (by omega) (by omega) ?_
        refine top_i (y := nI ((orT L) (p_ + n))) rfl ?_
        refine N_iald hx hb dX8_runFrom_15 hK hP 2 0 rfl rfl (by exact (hpo _ (by omega)).1) (by omega) ?_
        refine lv_if_ne (tgt := 25) hx hb dX8_runFrom_16 (by decide) (fun c_16 => ?_) (fun c_16 => ?_)
        · skip
          refine lv_iload_n hx hb dX8_runFrom_25 rfl (lv_at hl 3 rfl) ?_
          refine lv_iload_n hx hb dX8_runFrom_26 rfl (lv_at hl 2 rfl) ?_
          refine N_isub hx hb dX8_runFrom_27 (by omega) ?_
          rw [hQQ]
          exact rt_i hx hb hr hlk  (()) dX8_runFrom_28 hP hD hS (by first | exact Nat.le_of_ble_eq_true rfl | (simp only [rm_X8_runFrom]; omega) | omega) (by first | exact Nat.le_of_ble_eq_true rfl | (simp only [rm_X8_runFrom]; omega) | omega) (by first | (rw [Nat.add_sub_cancel_left]; exact congrArg nI (zr_of hn hj (Or.inl c_5)).symm) | (rw [Nat.add_sub_cancel_left]; exact congrArg nI (zr_of hn hj (Or.inr c_16)).symm))
        · skip
          refine N_iinc (a := (p_ + n)) (b := 1) (k9 := 3) (lv' := [(3, .int (nI ((p_ + n) + 1))), (0, .ref sp), (1, .ref o), (2, .int (nI p_))]) hx hb dX8_runFrom_19 hl rfl rfl (by decide) rfl (fun ls hl => ?_)
          refine lv_goto (tgt := 2) hx hb dX8_runFrom_22 (by decide) ?_
          have hl : lv_has ls 4 [(0, .ref sp), (1, .ref o), (2, .int (nI p_)), (3, .int (nI ((p_ + n) + 1)))] := lv_sub hl [1, 2, 3, 0] rfl
          have e_1 : (nI ((p_ + n) + 1)) = (nI (p_ + (n + 1))) := by rfl
          rw [e_1] at hl
          have hl : lv_has ls 4 [(0, .ref sp), (1, .ref o), (2, .int (nI p_)), (3, .int (nI (p_ + (n + 1))))] := hl
          exact ih_2 (n + 1) (by omega) (by exact fun j h9 => zr_nx hj c_5 c_16 j h9) (by omega) _ _ _ hP hD hS hl
  have hl : lv_has ls 4 [(0, .ref sp), (1, .ref o), (2, .int (nI p_)), (3, .int (nI p_))] := lv_sub hl [1, 2, 3, 0] rfl
  have e_2 : (nI p_) = (nI (p_ + 0)) := by rfl
  rw [e_2] at hl
  have hl : lv_has ls 4 [(0, .ref sp), (1, .ref o), (2, .int (nI p_)), (3, .int (nI (p_ + 0)))] := hl
  exact lp_2 _ 0 (by omega) (by intro j hj; omega) (Nat.lt_succ_self _) _ _ _ hP hD hS hl
