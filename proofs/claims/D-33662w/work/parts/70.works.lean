/-! ===== the component: works are read ===== -/
def fdAll (ch : Nat → Nat) (len m : Nat) (u : Nat → Int32) : Prop := ∀ j, j < m → posK ch len j < len ∧ (ptO ch len (posK ch len j)).1 = true ∧ u (4 * j) = nI (ch (posK ch len j)) ∧ fdD ch len (ch (posK ch len j)) (posK ch len j + 1) j u
theorem fa_0 {ch : Nat → Nat} {len : Nat} {u : Nat → Int32} : fdAll ch len 0 u := fun j hj => absurd hj (Nat.not_lt_zero j)
theorem fd_same {ch : Nat → Nat} {len c i m n : Nat} {u v : Nat → Int32} (h : ∀ j, j < 4 * n → v j = u j) (hm : m < n) (hd : fdD ch len c i m u) : fdD ch len c i m v := by
  unfold fdD at hd ⊢
  rw [h (4 * m + 1) (by omega), h (4 * m + 2) (by omega), h (4 * m + 3) (by omega)]
  exact hd
theorem fa_s {ch : Nat → Nat} {len m : Nat} {u v : Nat → Int32} (h : ∀ j, j < 4 * m → v j = u j) (hd : fdAll ch len m u) : fdAll ch len m v := by
  intro j hj
  obtain ⟨a, b, c, d⟩ := hd j hj
  exact ⟨a, b, by rw [h _ (by omega)]; exact c, fd_same h hj d⟩
theorem fa_m {ch : Nat → Nat} {len m i : Nat} {u : Nat → Int32} (hd : fdAll ch len m u) (hi : i ≤ len) (hp : i = posK ch len m) (hg : (ptO ch len i).1 = true) (h : u (4 * m) = nI (ch i) ∧ fdD ch len (ch i) (i + 1) m u) : fdAll ch len (m + 1) u := by
  intro j hj
  by_cases e : j < m
  · exact hd j e
  · have e2 : j = m := by omega
    rw [e2, ← hp]
    have := ptO_lt hg
    exact ⟨by omega, hg, h.1, h.2⟩
def rm_X10_areWorks : Room := ({ frames := 9, cells := 0, slots := 0, locals := 320 } : Room)
set_option maxHeartbeats 400000 in
set_option maxRecDepth 100000 in
theorem t_X10_areWorks (l : Launch) (G : GG) (b0 sz : Nat) (r fo h len : Nat) (ad : Nat → Nat) (sn : Value) (hsh : Int64) (ml : Bool) (ch : Nat → Nat) (fd : Nat → Int32) (hle : len ≤ 60) (hch : ∀ j, j < len → ch j ≤ 126) : CT l yX10_areWorks cX10_areWorks 2 (some FieldType.boolean) (rm_X10_areWorks) G b0 [.ref r] [oX r 9 [.ref fo, .int (nI 0), .int (nI 0), .ref h], aI G fo 240 fd, oC h ad sn hsh, oX (ad 10) 12 [.ref (ad 28), .int (nI 0), .int (bI ml), .int (nI len)], aB G (ad 28) 60 (nF ch)] sz (Ri G (fun (r_ : Int32) (u : Nat × (Nat → Int32)) => r_ = bI ((prR ch len).1) ∧ ((prR ch len).1 = true → u.1 = (prR ch len).2.2 ∧ fdAll ch len (prR ch len).2.2 u.2)) (fun (u : Nat × (Nat → Int32)) => [oX r 9 [.ref fo, .int (nI u.1), .int (nI ((prR ch len).2.1)), .ref h], aI G fo 240 u.2, oC h ad sn hsh, oX (ad 10) 12 [.ref (ad 28), .int (nI 0), .int (bI ml), .int (nI len)], aB G (ad 28) 60 (nF ch)])) := by
  refine CT.go (by decide) (Nat.le_of_ble_eq_true rfl) (fun p e s m below meth c A ls AR QQ hx hb hr hlk hml hown hnm hts hE hA hAb hsz hP hD hS hl hQQ => ?_)
  have hK := hE.1
  have hown : s.vm.findClass RX10 = some m.cls := hown
  have hl : lv_has ls 2 [(0, .ref r)] := hl
  clear hsz
  refine lv_aload_n hx hb dX10_areWorks_0 rfl (lv_at hl 0 rfl) ?_
  refine fin_i (ws' := (fun (u_1 : Nat → Int32) => [oX r 9 [.ref fo, .int (nI (0 + 1)), .int (nI ((ptO ch len 0).2)), .ref h], aI G fo 240 u_1, oC h ad sn hsh, oX (ad 10) 12 [.ref (ad 28), .int (nI 0), .int (bI ml), .int (nI len)], aB G (ad 28) 60 (nF ch)])) hA hS hP hD [0, 1, 2, 3, 4] rfl [(true, 0), (true, 1), (true, 2), (true, 3), (true, 4)] (fun _ => rfl) (by decide) (run_V (As := []) (rest := []) (n9 := 0) hx hb hml hown hts hE hAb hl.1 hS hP hD [0, 1, 2, 3, 4] rfl (by decide) (t_X10_part l G b0 _ r fo 0 0 h len ad sn hsh ml ch fd (by omega) (by omega) (by exact hch) (by omega)) (lw_V q980 q982 qs9 q142 q983) 0 rfl rfl ⟨rfl, by decide, by decide, by decide +kernel⟩ ⟨Nat.le_of_ble_eq_true rfl, Nat.le_of_ble_eq_true rfl⟩ ⟨by first | exact Nat.le_of_ble_eq_true rfl | (simp only [rm_X10_areWorks, rm_X10_part]; omega), by first | exact Nat.le_of_ble_eq_true rfl | (simp only [rm_X10_areWorks, rm_X10_part]; omega)⟩ dX10_areWorks_1 (Nat.le_of_ble_eq_true rfl) rfl rfl) (fun r_1 u_1 H locs h_1 hP hD hS => ?_)
  have hP : va_P G.1 vwCl [oX r 9 [.ref fo, .int (nI (0 + 1)), .int (nI ((ptO ch len 0).2)), .ref h], aI G fo 240 u_1, oC h ad sn hsh, oX (ad 10) 12 [.ref (ad 28), .int (nI 0), .int (bI ml), .int (nI len)], aB G (ad 28) 60 (nF ch)] _ := hP
  have hD : va_D A [oX r 9 [.ref fo, .int (nI (0 + 1)), .int (nI ((ptO ch len 0).2)), .ref h], aI G fo 240 u_1, oC h ad sn hsh, oX (ad 10) 12 [.ref (ad 28), .int (nI 0), .int (bI ml), .int (nI len)], aB G (ad 28) 60 (nF ch)] := hD
  obtain ⟨h_1, f_1⟩ := h_1
  have h_1 : r_1 = (bI ((ptO ch len 0).1)) := h_1
  try rw [h_1] at f_1
  have f_1 : (∀ j, j < 4 * 0 → u_1 j = fd j) ∧ ((ptO ch len 0).1 = true → u_1 (4 * 0) = nI (ch 0) ∧ fdD ch len (ch 0) (0 + 1) 0 u_1) := f_1
  rw [h_1]
  have hpt := f_1
  refine lv_istore_n (lv' := [(1, .int (bI ((ptO ch len 0).1))), (0, .ref r)]) hx hb dX10_areWorks_4 rfl hl (by decide) rfl (fun ls hl => ?_)
  have lp_5 : ∀ (n_5 : Nat) (i_ m_ : Nat) (u_ : Nat → Int32), (i_ ≤ len) → (m_ ≤ 30) → (prF ch len (61 - m_) i_ m_ = prR ch len ∧ i_ = posK ch len m_ ∧ 2 * m_ ≤ i_) → (fdAll ch len m_ u_) → ((ptO ch len i_).1 = true → u_ (4 * m_) = nI (ch i_) ∧ fdD ch len (ch i_) (i_ + 1) m_ u_) → (61 - m_) < n_5 → ∀ (H : Heap) (locs : List Loc) (ls : Array Slot), va_P G.1 vwCl [oX r 9 [.ref fo, .int (nI (m_ + 1)), .int (nI ((ptO ch len i_).2)), .ref h], aI G fo 240 u_, oC h ad sn hsh, oX (ad 10) 12 [.ref (ad 28), .int (nI 0), .int (bI ml), .int (nI len)], aB G (ad 28) 60 (nF ch)] H → va_D A [oX r 9 [.ref fo, .int (nI (m_ + 1)), .int (nI ((ptO ch len i_).2)), .ref h], aI G fo 240 u_, oC h ad sn hsh, oX (ad 10) 12 [.ref (ad 28), .int (nI 0), .int (bI ml), .int (nI len)], aB G (ad 28) 60 (nF ch)] → va_S A s.heap H locs → lv_has ls 2 [(0, .ref r), (1, .int (bI ((ptO ch len i_).1)))] → W p l e (rm_X10_areWorks) s m AR below meth c H locs 0 0 QQ (F0 m 5 ls []) := by
    intro n_5
    induction n_5 with
    | zero => intro i_ m_ u_ hi hm hj hd hs hn_; exact absurd hn_ (Nat.not_lt_zero _)
    | succ n_5 ih_5 =>
      intro i_ m_ u_ hi hm hj hd hs hn_5 H locs ls hP hD hS hl
      refine lv_iload_n hx hb dX10_areWorks_5 rfl (lv_at hl 1 rfl) ?_
      refine B_if_eq (tgt := 26) hx hb dX10_areWorks_6 (by decide) (fun c_6 => ?_) (fun c_6 => ?_)
      · skip
        have hz := pr_f hj hm c_6
        have hl : lv_has ls 2 [(0, .ref r), (1, .int (nI 0))] := by rw [c_6] at hl; exact hl
        refine lv_iload_n hx hb dX10_areWorks_26 rfl (lv_at hl 1 rfl) ?_
        refine N_if_eq (tgt := 51) hx hb dX10_areWorks_27 (by decide) (by omega) (fun c_27 => ?_) (fun c_27 => ?_)
        · skip
          refine lv_iconst (v := nI 0) hx hb dX10_areWorks_51 (by decide) ?_
          have e_2 : ((ptO ch len i_).2) = ((prR ch len).2.1) := by rw [← hz]
          rw [show [oX r 9 [.ref fo, .int (nI (m_ + 1)), .int (nI ((ptO ch len i_).2)), .ref h], aI G fo 240 u_, oC h ad sn hsh, oX (ad 10) 12 [.ref (ad 28), .int (nI 0), .int (bI ml), .int (nI len)], aB G (ad 28) 60 (nF ch)] = [oX r 9 [.ref fo, .int (nI (m_ + 1)), .int (nI ((prR ch len).2.1)), .ref h], aI G fo 240 u_, oC h ad sn hsh, oX (ad 10) 12 [.ref (ad 28), .int (nI 0), .int (bI ml), .int (nI len)], aB G (ad 28) 60 (nF ch)] from congrArg (fun z_ => [oX r 9 [.ref fo, .int (nI (m_ + 1)), .int (nI z_), .ref h], aI G fo 240 u_, oC h ad sn hsh, oX (ad 10) 12 [.ref (ad 28), .int (nI 0), .int (bI ml), .int (nI len)], aB G (ad 28) 60 (nF ch)]) e_2] at hP hD
          have hP : va_P G.1 vwCl [oX r 9 [.ref fo, .int (nI (((m_ + 1, u_)).1)), .int (nI ((prR ch len).2.1)), .ref h], aI G fo 240 (((m_ + 1, u_)).2), oC h ad sn hsh, oX (ad 10) 12 [.ref (ad 28), .int (nI 0), .int (bI ml), .int (nI len)], aB G (ad 28) 60 (nF ch)] _ := hP
          have hD : va_D A [oX r 9 [.ref fo, .int (nI (((m_ + 1, u_)).1)), .int (nI ((prR ch len).2.1)), .ref h], aI G fo 240 (((m_ + 1, u_)).2), oC h ad sn hsh, oX (ad 10) 12 [.ref (ad 28), .int (nI 0), .int (bI ml), .int (nI len)], aB G (ad 28) 60 (nF ch)] := hD
          rw [hQQ]
          exact rt_z hx hb hr hlk (by first | exact bI_nar _ | rfl) (((m_ + 1, u_))) dX10_areWorks_52 hP hD hS (by first | exact Nat.le_of_ble_eq_true rfl | (simp only [rm_X10_areWorks, rm_X10_part]; omega) | omega) (by first | exact Nat.le_of_ble_eq_true rfl | (simp only [rm_X10_areWorks, rm_X10_part]; omega) | omega) ⟨(by rw [← hz]; first | done | rfl | exact bI_of1 (decide_eq_true c_44) | exact bI_of0 (decide_eq_false c_44)), by rw [← hz]; first | exact fun _ => ⟨rfl, fa_m hd hi hj.2.1 c_6 (hs c_6)⟩ | (intro hf_; cases hf_; done)⟩
        · skip
          exfalso; omega
      · skip
        have hq1 := ptO_lt c_6
        have hq2 := ptO_at (ch := ch) hi
        have hq3 := ptO_ge hi c_6
        have hl : lv_has ls 2 [(0, .ref r), (1, .int (nI 1))] := by rw [c_6] at hl; exact hl
        refine lv_aload_n hx hb dX10_areWorks_9 rfl (lv_at hl 0 rfl) ?_
        refine lv_bipush (v := nI 59) hx hb dX10_areWorks_10 (by decide) ?_
        refine fin_i (ws' := (fun (_ : Unit) => [oX r 9 [.ref fo, .int (nI (m_ + 1)), .int (nI (sgA ch len ((ptO ch len i_).2) 59)), .ref h], aI G fo 240 u_, oC h ad sn hsh, oX (ad 10) 12 [.ref (ad 28), .int (nI 0), .int (bI ml), .int (nI len)], aB G (ad 28) 60 (nF ch)])) hA hS hP hD [0, 2, 3, 4] rfl [(true, 0), (false, 1), (true, 1), (true, 2), (true, 3)] (fun _ => rfl) (by decide) (run_V (As := [.int (nI 59)]) (rest := []) (n9 := 1) hx hb hml hown hts hE hAb hl.1 hS hP hD [0, 2, 3, 4] rfl (by decide) (t_X10_takes l G b0 _ r fo (m_ + 1) ((ptO ch len i_).2) h len ad sn hsh ml ch 59 (by omega) (by omega) (by exact hch) (by omega)) (lw_V q1026 q1028 qs16 q142 q1029) 0 rfl rfl ⟨rfl, by decide, by decide, by decide +kernel⟩ ⟨Nat.le_of_ble_eq_true rfl, Nat.le_of_ble_eq_true rfl⟩ ⟨by first | exact Nat.le_of_ble_eq_true rfl | (simp only [rm_X10_areWorks, rm_X10_takes, rm_X10_part]; omega), by first | exact Nat.le_of_ble_eq_true rfl | (simp only [rm_X10_areWorks, rm_X10_takes, rm_X10_part]; omega)⟩ dX10_areWorks_12 (Nat.le_of_ble_eq_true rfl) rfl rfl) (fun r_3 u_3 H locs h_3 hP hD hS => ?_)
        have hP : va_P G.1 vwCl [oX r 9 [.ref fo, .int (nI (m_ + 1)), .int (nI (sgA ch len ((ptO ch len i_).2) 59)), .ref h], aI G fo 240 u_, oC h ad sn hsh, oX (ad 10) 12 [.ref (ad 28), .int (nI 0), .int (bI ml), .int (nI len)], aB G (ad 28) 60 (nF ch)] _ := hP
        have hD : va_D A [oX r 9 [.ref fo, .int (nI (m_ + 1)), .int (nI (sgA ch len ((ptO ch len i_).2) 59)), .ref h], aI G fo 240 u_, oC h ad sn hsh, oX (ad 10) 12 [.ref (ad 28), .int (nI 0), .int (bI ml), .int (nI len)], aB G (ad 28) 60 (nF ch)] := hD
        have h_3 : r_3 = (bI (sgB ch len ((ptO ch len i_).2) 59)) := h_3
        rw [h_3]
        refine B_if_eq (tgt := 26) hx hb dX10_areWorks_15 (by decide) (fun c_15 => ?_) (fun c_15 => ?_)
        · skip
          have hz := pr_x (pr_n hj hm hi c_6) c_15
          refine lv_iload_n hx hb dX10_areWorks_26 rfl (lv_at hl 1 rfl) ?_
          refine N_if_eq (tgt := 51) hx hb dX10_areWorks_27 (by decide) (by omega) (fun c_27 => ?_) (fun c_27 => ?_)
          · skip
            exfalso; omega
          · skip
            refine lv_aload_n hx hb dX10_areWorks_30 rfl (lv_at hl 0 rfl) ?_
            refine va_get (D := G.1) (ci := 9) (v := .int (nI (sgA ch len ((ptO ch len i_).2) 59))) (C := RX10) (T := TX10) (N := 4) hx hb hts in_X10 hown hK hP 0 rfl rfl 2 (by decide) (hts _ q964) (fun _ h9 => h9) rfl dX10_areWorks_31 ?_
            refine lv_aload_n hx hb dX10_areWorks_34 rfl (lv_at hl 0 rfl) ?_
            refine va_get (D := G.1) (ci := 9) (v := .ref h) (C := RX10) (T := TX10) (N := 4) hx hb hts in_X10 hown hK hP 0 rfl rfl 3 (by decide) (hts _ q966) (fun _ h9 => h9) rfl dX10_areWorks_35 ?_
            refine va_getN (D := G.1) (ci := 0) (v := .ref (ad 10)) (C := RX1) (T := TX1) (N := 12) hx hb hts in_X1 hown hK hP 2 rfl rfl 10 (by decide) (hE.nb q504 rfl) (fun _ h9 => h9) rfl dX10_areWorks_38 ?_
            refine fin_i (ws' := (fun (_ : Unit) => [oX r 9 [.ref fo, .int (nI (m_ + 1)), .int (nI (sgA ch len ((ptO ch len i_).2) 59)), .ref h], aI G fo 240 u_, oC h ad sn hsh, oX (ad 10) 12 [.ref (ad 28), .int (nI 0), .int (bI ml), .int (nI len)], aB G (ad 28) 60 (nF ch)])) hA hS hP hD [3, 4] rfl [(false, 0), (false, 1), (false, 2), (true, 0), (true, 1)] (fun _ => rfl) (by decide) (run_V (As := []) (rest := [.int (nI (sgA ch len ((ptO ch len i_).2) 59))]) (n9 := 0) hx hb hml hown hts hE hAb hl.1 hS hP hD [3, 4] rfl (by decide) (t_J11_length l G b0 _ (ad 10) (ad 28) len ml ch ) (lw_V q988 q665 q666 q126 q667) 3 rfl rfl ⟨rfl, by decide, by decide, by decide +kernel⟩ ⟨Nat.le_of_ble_eq_true rfl, Nat.le_of_ble_eq_true rfl⟩ ⟨by first | exact Nat.le_of_ble_eq_true rfl | (simp only [rm_X10_areWorks, rm_J11_length, rm_X10_part, rm_X10_takes]; omega), by first | exact Nat.le_of_ble_eq_true rfl | (simp only [rm_X10_areWorks, rm_J11_length, rm_X10_part, rm_X10_takes]; omega)⟩ dX10_areWorks_41 (Nat.le_of_ble_eq_true rfl) rfl rfl) (fun r_4 u_4 H locs h_4 hP hD hS => ?_)
            have hP : va_P G.1 vwCl [oX r 9 [.ref fo, .int (nI (m_ + 1)), .int (nI (sgA ch len ((ptO ch len i_).2) 59)), .ref h], aI G fo 240 u_, oC h ad sn hsh, oX (ad 10) 12 [.ref (ad 28), .int (nI 0), .int (bI ml), .int (nI len)], aB G (ad 28) 60 (nF ch)] _ := hP
            have hD : va_D A [oX r 9 [.ref fo, .int (nI (m_ + 1)), .int (nI (sgA ch len ((ptO ch len i_).2) 59)), .ref h], aI G fo 240 u_, oC h ad sn hsh, oX (ad 10) 12 [.ref (ad 28), .int (nI 0), .int (bI ml), .int (nI len)], aB G (ad 28) 60 (nF ch)] := hD
            have h_4 : r_4 = (nI len) := h_4
            rw [h_4]
            have hq4 := (sgA_le (ch := ch) (c := 59) hq2).1
            refine N_icmp_ne (tgt := 51) hx hb dX10_areWorks_44 (by decide) (by omega) (by omega) (fun c_44 => ?_) (fun c_44 => ?_)
            · skip
              refine lv_iconst (v := nI 0) hx hb dX10_areWorks_51 (by decide) ?_
              have e_5 : (sgA ch len ((ptO ch len i_).2) 59) = ((prR ch len).2.1) := by rw [← hz]
              rw [show [oX r 9 [.ref fo, .int (nI (m_ + 1)), .int (nI (sgA ch len ((ptO ch len i_).2) 59)), .ref h], aI G fo 240 u_, oC h ad sn hsh, oX (ad 10) 12 [.ref (ad 28), .int (nI 0), .int (bI ml), .int (nI len)], aB G (ad 28) 60 (nF ch)] = [oX r 9 [.ref fo, .int (nI (m_ + 1)), .int (nI ((prR ch len).2.1)), .ref h], aI G fo 240 u_, oC h ad sn hsh, oX (ad 10) 12 [.ref (ad 28), .int (nI 0), .int (bI ml), .int (nI len)], aB G (ad 28) 60 (nF ch)] from congrArg (fun z_ => [oX r 9 [.ref fo, .int (nI (m_ + 1)), .int (nI z_), .ref h], aI G fo 240 u_, oC h ad sn hsh, oX (ad 10) 12 [.ref (ad 28), .int (nI 0), .int (bI ml), .int (nI len)], aB G (ad 28) 60 (nF ch)]) e_5] at hP hD
              have hP : va_P G.1 vwCl [oX r 9 [.ref fo, .int (nI (((m_ + 1, u_)).1)), .int (nI ((prR ch len).2.1)), .ref h], aI G fo 240 (((m_ + 1, u_)).2), oC h ad sn hsh, oX (ad 10) 12 [.ref (ad 28), .int (nI 0), .int (bI ml), .int (nI len)], aB G (ad 28) 60 (nF ch)] _ := hP
              have hD : va_D A [oX r 9 [.ref fo, .int (nI (((m_ + 1, u_)).1)), .int (nI ((prR ch len).2.1)), .ref h], aI G fo 240 (((m_ + 1, u_)).2), oC h ad sn hsh, oX (ad 10) 12 [.ref (ad 28), .int (nI 0), .int (bI ml), .int (nI len)], aB G (ad 28) 60 (nF ch)] := hD
              rw [hQQ]
              exact rt_z hx hb hr hlk (by first | exact bI_nar _ | rfl) (((m_ + 1, u_))) dX10_areWorks_52 hP hD hS (by first | exact Nat.le_of_ble_eq_true rfl | (simp only [rm_X10_areWorks, rm_X10_part, rm_X10_takes, rm_J11_length]; omega) | omega) (by first | exact Nat.le_of_ble_eq_true rfl | (simp only [rm_X10_areWorks, rm_X10_part, rm_X10_takes, rm_J11_length]; omega) | omega) ⟨(by rw [← hz]; first | done | rfl | exact bI_of1 (decide_eq_true c_44) | exact bI_of0 (decide_eq_false c_44)), by rw [← hz]; first | exact fun _ => ⟨rfl, fa_m hd hi hj.2.1 c_6 (hs c_6)⟩ | (intro hf_; cases hf_; done)⟩
            · skip
              refine lv_iconst (v := nI 1) hx hb dX10_areWorks_47 (by decide) ?_
              refine lv_goto (tgt := 52) hx hb dX10_areWorks_48 (by decide) ?_
              have e_6 : (sgA ch len ((ptO ch len i_).2) 59) = ((prR ch len).2.1) := by rw [← hz]
              rw [show [oX r 9 [.ref fo, .int (nI (m_ + 1)), .int (nI (sgA ch len ((ptO ch len i_).2) 59)), .ref h], aI G fo 240 u_, oC h ad sn hsh, oX (ad 10) 12 [.ref (ad 28), .int (nI 0), .int (bI ml), .int (nI len)], aB G (ad 28) 60 (nF ch)] = [oX r 9 [.ref fo, .int (nI (m_ + 1)), .int (nI ((prR ch len).2.1)), .ref h], aI G fo 240 u_, oC h ad sn hsh, oX (ad 10) 12 [.ref (ad 28), .int (nI 0), .int (bI ml), .int (nI len)], aB G (ad 28) 60 (nF ch)] from congrArg (fun z_ => [oX r 9 [.ref fo, .int (nI (m_ + 1)), .int (nI z_), .ref h], aI G fo 240 u_, oC h ad sn hsh, oX (ad 10) 12 [.ref (ad 28), .int (nI 0), .int (bI ml), .int (nI len)], aB G (ad 28) 60 (nF ch)]) e_6] at hP hD
              have hP : va_P G.1 vwCl [oX r 9 [.ref fo, .int (nI (((m_ + 1, u_)).1)), .int (nI ((prR ch len).2.1)), .ref h], aI G fo 240 (((m_ + 1, u_)).2), oC h ad sn hsh, oX (ad 10) 12 [.ref (ad 28), .int (nI 0), .int (bI ml), .int (nI len)], aB G (ad 28) 60 (nF ch)] _ := hP
              have hD : va_D A [oX r 9 [.ref fo, .int (nI (((m_ + 1, u_)).1)), .int (nI ((prR ch len).2.1)), .ref h], aI G fo 240 (((m_ + 1, u_)).2), oC h ad sn hsh, oX (ad 10) 12 [.ref (ad 28), .int (nI 0), .int (bI ml), .int (nI len)], aB G (ad 28) 60 (nF ch)] := hD
              rw [hQQ]
              exact rt_z hx hb hr hlk (by first | exact bI_nar _ | rfl) (((m_ + 1, u_))) dX10_areWorks_52 hP hD hS (by first | exact Nat.le_of_ble_eq_true rfl | (simp only [rm_X10_areWorks, rm_X10_part, rm_X10_takes, rm_J11_length]; omega) | omega) (by first | exact Nat.le_of_ble_eq_true rfl | (simp only [rm_X10_areWorks, rm_X10_part, rm_X10_takes, rm_J11_length]; omega) | omega) ⟨(by rw [← hz]; first | done | rfl | exact bI_of1 (decide_eq_true c_44) | exact bI_of0 (decide_eq_false c_44)), by rw [← hz]; first | exact fun _ => ⟨rfl, fa_m hd hi hj.2.1 c_6 (hs c_6)⟩ | (intro hf_; cases hf_; done)⟩
        · skip
          have hjn := pr_o (pr_n hj hm hi c_6) c_15
          have hjn3 := hjn.2.2
          have hq4 := (sgA_le (ch := ch) (c := 59) hq2).1
          refine lv_aload_n hx hb dX10_areWorks_18 rfl (lv_at hl 0 rfl) ?_
          refine fin_i (ws' := (fun (u_7 : Nat → Int32) => [oX r 9 [.ref fo, .int (nI ((m_ + 1) + 1)), .int (nI ((ptO ch len (sgA ch len ((ptO ch len i_).2) 59)).2)), .ref h], aI G fo 240 u_7, oC h ad sn hsh, oX (ad 10) 12 [.ref (ad 28), .int (nI 0), .int (bI ml), .int (nI len)], aB G (ad 28) 60 (nF ch)])) hA hS hP hD [0, 1, 2, 3, 4] rfl [(true, 0), (true, 1), (true, 2), (true, 3), (true, 4)] (fun _ => rfl) (by decide) (run_V (As := []) (rest := []) (n9 := 0) hx hb hml hown hts hE hAb hl.1 hS hP hD [0, 1, 2, 3, 4] rfl (by decide) (t_X10_part l G b0 _ r fo (m_ + 1) (sgA ch len ((ptO ch len i_).2) 59) h len ad sn hsh ml ch u_ (by omega) (by omega) (by exact hch) (by omega)) (lw_V q980 q982 qs9 q142 q983) 0 rfl rfl ⟨rfl, by decide, by decide, by decide +kernel⟩ ⟨Nat.le_of_ble_eq_true rfl, Nat.le_of_ble_eq_true rfl⟩ ⟨by first | exact Nat.le_of_ble_eq_true rfl | (simp only [rm_X10_areWorks, rm_X10_part, rm_X10_takes, rm_J11_length]; omega), by first | exact Nat.le_of_ble_eq_true rfl | (simp only [rm_X10_areWorks, rm_X10_part, rm_X10_takes, rm_J11_length]; omega)⟩ dX10_areWorks_19 (Nat.le_of_ble_eq_true rfl) rfl rfl) (fun r_7 u_7 H locs h_7 hP hD hS => ?_)
          have hP : va_P G.1 vwCl [oX r 9 [.ref fo, .int (nI ((m_ + 1) + 1)), .int (nI ((ptO ch len (sgA ch len ((ptO ch len i_).2) 59)).2)), .ref h], aI G fo 240 u_7, oC h ad sn hsh, oX (ad 10) 12 [.ref (ad 28), .int (nI 0), .int (bI ml), .int (nI len)], aB G (ad 28) 60 (nF ch)] _ := hP
          have hD : va_D A [oX r 9 [.ref fo, .int (nI ((m_ + 1) + 1)), .int (nI ((ptO ch len (sgA ch len ((ptO ch len i_).2) 59)).2)), .ref h], aI G fo 240 u_7, oC h ad sn hsh, oX (ad 10) 12 [.ref (ad 28), .int (nI 0), .int (bI ml), .int (nI len)], aB G (ad 28) 60 (nF ch)] := hD
          obtain ⟨h_7, f_7⟩ := h_7
          have h_7 : r_7 = (bI ((ptO ch len (sgA ch len ((ptO ch len i_).2) 59)).1)) := h_7
          try rw [h_7] at f_7
          have f_7 : (∀ j, j < 4 * (m_ + 1) → u_7 j = u_ j) ∧ ((ptO ch len (sgA ch len ((ptO ch len i_).2) 59)).1 = true → u_7 (4 * (m_ + 1)) = nI (ch (sgA ch len ((ptO ch len i_).2) 59)) ∧ fdD ch len (ch (sgA ch len ((ptO ch len i_).2) 59)) ((sgA ch len ((ptO ch len i_).2) 59) + 1) (m_ + 1) u_7) := f_7
          rw [h_7]
          have hpt := f_7
          refine lv_istore_n (lv' := [(1, .int (bI ((ptO ch len (sgA ch len ((ptO ch len i_).2) 59)).1))), (0, .ref r)]) hx hb dX10_areWorks_22 rfl hl (by decide) rfl (fun ls hl => ?_)
          refine lv_goto (tgt := 5) hx hb dX10_areWorks_23 (by decide) ?_
          have hP : va_P G.1 vwCl [oX r 9 [.ref fo, .int (nI ((m_ + 1) + 1)), .int (nI ((ptO ch len (sgA ch len (ptO ch len i_).2 59)).2)), .ref h], aI G fo 240 u_7, oC h ad sn hsh, oX (ad 10) 12 [.ref (ad 28), .int (nI 0), .int (bI ml), .int (nI len)], aB G (ad 28) 60 (nF ch)] _ := hP
          have hD : va_D A [oX r 9 [.ref fo, .int (nI ((m_ + 1) + 1)), .int (nI ((ptO ch len (sgA ch len (ptO ch len i_).2 59)).2)), .ref h], aI G fo 240 u_7, oC h ad sn hsh, oX (ad 10) 12 [.ref (ad 28), .int (nI 0), .int (bI ml), .int (nI len)], aB G (ad 28) 60 (nF ch)] := hD
          have hl : lv_has ls 2 [(0, .ref r), (1, .int (bI ((ptO ch len (sgA ch len ((ptO ch len i_).2) 59)).1)))] := lv_sub hl [1, 0] rfl
          have e_8 : (bI ((ptO ch len (sgA ch len ((ptO ch len i_).2) 59)).1)) = (bI ((ptO ch len (sgA ch len (ptO ch len i_).2 59)).1)) := by rfl
          rw [e_8] at hl
          have hl : lv_has ls 2 [(0, .ref r), (1, .int (bI ((ptO ch len (sgA ch len (ptO ch len i_).2 59)).1)))] := hl
          exact ih_5 (sgA ch len (ptO ch len i_).2 59) (m_ + 1) u_7 (by exact (sgA_le (ptO_at hi)).1) (by omega) (by exact hjn) (by exact fa_s hpt.1 (fa_m hd hi hj.2.1 c_6 (hs c_6))) (by exact hpt.2) (by omega) _ _ _ hP hD hS hl
  have hl : lv_has ls 2 [(0, .ref r), (1, .int (bI ((ptO ch len 0).1)))] := lv_sub hl [1, 0] rfl
  exact lp_5 _ 0 0 u_1 (by omega) (by omega) (by exact ⟨rfl, rfl, Nat.le_refl _⟩) (by exact fa_0) (by exact hpt.2) (Nat.lt_succ_self _) _ _ _ hP hD hS hl
def rm_X10_init : Room := ({ frames := 1, cells := 1, slots := 240, locals := 30 } : Room)
set_option maxHeartbeats 400000 in
set_option maxRecDepth 100000 in
theorem t_X10_init (l : Launch) (G : GG) (b0 sz : Nat) (r h : Nat) : CT l yX10_init cX10_init 2 none (rm_X10_init) G b0 [.ref r, .ref h] [oX r 9 [.null, .int (nI 0), .int (nI 0), .null]] sz (Rv G (fun (u : Nat) => True) (fun (u : Nat) => [oX r 9 [.ref u, .int (nI 0), .int (nI 0), .ref h], aI G u 240 (fun _ => 0)])) := by
  refine CT.go (by decide) (Nat.le_of_ble_eq_true rfl) (fun p e s m below meth c A ls AR QQ hx hb hr hlk hml hown hnm hts hE hA hAb hsz hP hD hS hl hQQ => ?_)
  have hK := hE.1
  have hown : s.vm.findClass RX10 = some m.cls := hown
  have hl : lv_has ls 2 [(0, .ref r), (1, .ref h)] := hl
  clear hsz
  refine lv_aload_n hx hb dX10_init_0 rfl (lv_at hl 0 rfl) ?_
  refine lv_aload_n hx hb dX10_init_1 rfl (lv_at hl 1 rfl) ?_
  refine va_putF (D := G.1) (ci := 9) (v := .ref h) (ty := (.object "CrumbPictures")) (C := RX10) (T := TX10) (N := 4) hx hb hts in_X10 tyX10 tyX10_ok nmX10 hown hK hP hD hS 0 rfl rfl 3 (by decide) (hts _ q966) (fun _ h9 => h9) rfl hnm rfl (by decide +kernel) rfl rfl (Nat.le_of_ble_eq_true rfl) dX10_init_2 (fun H locs hP hD hS => ?_)
  have hP : va_P G.1 vwCl [oX r 9 [.null, .int (nI 0), .int (nI 0), .ref h]] _ := hP
  have hD : va_D A [oX r 9 [.null, .int (nI 0), .int (nI 0), .ref h]] := hD
  refine lv_aload_n hx hb dX10_init_5 rfl (lv_at hl 0 rfl) ?_
  refine O_init hx hb (hml.trans hl.1.symm) hown hts q959 q150 q151 dX10_init_6 (Nat.le_of_ble_eq_true rfl) (Nat.le_of_ble_eq_true rfl) ?_
  refine lv_aload_n hx hb dX10_init_9 rfl (lv_at hl 0 rfl) ?_
  refine lv_sipush (v := nI 240) hx hb dX10_init_10 (by decide) ?_
  refine A_newa (atype := .int) (ty := .int) (a9 := (240, .inl (fun _ => 0))) (t0 := 0) hx hb hts q175 rfl (fun _ h_ => by cases h_) hK hP hD hS hA rfl (fun _ => rfl) (by omega) (by first | exact Nat.le_of_ble_eq_true rfl | (simp only [componentBytes]; omega)) (by exact (by first | exact Nat.le_of_ble_eq_true rfl | omega | (simp only [rm_X10_init]; omega))) (by exact (by first | exact Nat.le_of_ble_eq_true rfl | omega | (simp only [rm_X10_init]; omega))) dX10_init_13 (fun q1 H hP hD hS => ?_)
  have hP : va_P G.1 vwCl [oX r 9 [.null, .int (nI 0), .int (nI 0), .ref h], aI G q1 240 (fun _ => 0)] _ := hP
  have hD : va_D A [oX r 9 [.null, .int (nI 0), .int (nI 0), .ref h], aI G q1 240 (fun _ => 0)] := hD
  refine va_putF (D := G.1) (ci := 9) (v := .ref q1) (ty := (.array .int)) (C := RX10) (T := TX10) (N := 4) hx hb hts in_X10 tyX10 tyX10_ok nmX10 hown hK hP hD hS 0 rfl rfl 0 (by decide) (hts _ q960) (fun _ h9 => h9) rfl hnm rfl (by decide +kernel) rfl rfl (Nat.le_of_ble_eq_true rfl) dX10_init_15 (fun H locs hP hD hS => ?_)
  have hP : va_P G.1 vwCl [oX r 9 [.ref q1, .int (nI 0), .int (nI 0), .ref h], aI G q1 240 (fun _ => 0)] _ := hP
  have hD : va_D A [oX r 9 [.ref q1, .int (nI 0), .int (nI 0), .ref h], aI G q1 240 (fun _ => 0)] := hD
  have hP : va_P G.1 vwCl [oX r 9 [.ref q1, .int (nI 0), .int (nI 0), .ref h], aI G q1 240 (fun _ => 0)] _ := hP
  have hD : va_D A [oX r 9 [.ref q1, .int (nI 0), .int (nI 0), .ref h], aI G q1 240 (fun _ => 0)] := hD
  rw [hQQ]
  exact rt_v hx hb hr hlk q1 dX10_init_18 hP hD hS (by first | exact Nat.le_of_ble_eq_true rfl | (simp only [rm_X10_init]; omega) | omega) (by first | exact Nat.le_of_ble_eq_true rfl | (simp only [rm_X10_init]; omega) | omega) trivial
